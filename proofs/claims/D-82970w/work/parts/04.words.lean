set_option maxRecDepth 100000
theorem q211 : (Jvm.Cond.initialized "ShareHouseLaw") ∈ lw_all := lw_g (lw_at lw_m1 0 rfl) rfl
theorem q237 : (Jvm.Cond.classLink "ShareHouseLaw" (7 : Nat) "ShareHouse") ∈ lw_all := lw_g (lw_at lw_m1 26 rfl) rfl
theorem q239 : (Jvm.Cond.methodLink "ShareHouseLaw" (15 : Nat) ({ cls := "ShareHouse", name := "<init>", desc := "(II)V" } : Jvm.MethodName)) ∈ lw_all := lw_g (lw_at lw_m1 28 rfl) rfl
theorem q923 : (Jvm.Cond.methodLink "ShareHouseLaw" (21 : Nat) ({ cls := "ShareHouse", name := "feed", desc := "(IIIII)V" } : Jvm.MethodName)) ∈ lw_all := lw_g (lw_at lw_m3 232 rfl) rfl
theorem q927 : (Jvm.Cond.methodLink "ShareHouseLaw" (26 : Nat) ({ cls := "ShareHouse", name := "end", desc := "(I)I" } : Jvm.MethodName)) ∈ lw_all := lw_g (lw_at lw_m3 236 rfl) rfl
theorem q934 : (Jvm.Cond.methodLink "ShareHouseLaw" (31 : Nat) ({ cls := "ShareHouse", name := "compile", desc := "()I" } : Jvm.MethodName)) ∈ lw_all := lw_g (lw_at lw_m4 3 rfl) rfl
theorem q1624 : (Jvm.Cond.methodLink "ShareHouseLaw" (36 : Nat) ({ cls := "ShareHouse", name := "look", desc := "(I)I" } : Jvm.MethodName)) ∈ lw_all := lw_g (lw_at lw_m6 213 rfl) rfl
theorem q1640 : (Jvm.Cond.methodLink "ShareHouseLaw" (40 : Nat) ({ cls := "ShareHouse", name := "gate", desc := "(II)I" } : Jvm.MethodName)) ∈ lw_all := lw_g (lw_at lw_m6 229 rfl) rfl
theorem q1644 : (Jvm.Cond.methodLink "ShareHouseLaw" (45 : Nat) ({ cls := "ShareHouse", name := "literal", desc := "(II)I" } : Jvm.MethodName)) ∈ lw_all := lw_g (lw_at lw_m6 233 rfl) rfl
theorem q1652 : (Jvm.Cond.methodLink "ShareHouseLaw" (49 : Nat) ({ cls := "ShareHouse", name := "input", desc := "(II)J" } : Jvm.MethodName)) ∈ lw_all := lw_g (lw_at lw_m7 1 rfl) rfl
theorem q1661 : (Jvm.Cond.methodLink "ShareHouseLaw" (54 : Nat) ({ cls := "ShareHouse", name := "give", desc := "(II)Z" } : Jvm.MethodName)) ∈ lw_all := lw_g (lw_at lw_m7 10 rfl) rfl
theorem q1665 : (Jvm.Cond.methodLink "ShareHouseLaw" (59 : Nat) ({ cls := "ShareHouse", name := "seed", desc := "(I)V" } : Jvm.MethodName)) ∈ lw_all := lw_g (lw_at lw_m7 14 rfl) rfl
theorem q1669 : (Jvm.Cond.methodLink "ShareHouseLaw" (66 : Nat) ({ cls := "ShareHouse", name := "draws", desc := "(JI)I" } : Jvm.MethodName)) ∈ lw_all := lw_g (lw_at lw_m7 18 rfl) rfl
theorem q1682 : (Jvm.Cond.methodLink "ShareHouseLaw" (71 : Nat) ({ cls := "ShareHouse", name := "deal", desc := "()Z" } : Jvm.MethodName)) ∈ lw_all := lw_g (lw_at lw_m7 31 rfl) rfl
theorem q1712 : (Jvm.Cond.methodLink "ShareHouseLaw" (76 : Nat) ({ cls := "ShareHouse", name := "message", desc := "(II)I" } : Jvm.MethodName)) ∈ lw_all := lw_g (lw_at lw_m7 61 rfl) rfl
theorem q1737 : (Jvm.Cond.methodLink "ShareHouseLaw" (80 : Nat) ({ cls := "ShareHouse", name := "deliver", desc := "(I)I" } : Jvm.MethodName)) ∈ lw_all := lw_g (lw_at lw_m7 86 rfl) rfl
theorem q1772 : (Jvm.Cond.methodLink "ShareHouseLaw" (84 : Nat) ({ cls := "ShareHouse", name := "rush", desc := "(II)I" } : Jvm.MethodName)) ∈ lw_all := lw_g (lw_at lw_m7 121 rfl) rfl
theorem q1778 : (Jvm.Cond.methodLink "ShareHouseLaw" (88 : Nat) ({ cls := "ShareHouse", name := "party", desc := "(II)I" } : Jvm.MethodName)) ∈ lw_all := lw_g (lw_at lw_m7 127 rfl) rfl
theorem q1796 : (Jvm.Cond.methodLink "ShareHouseLaw" (92 : Nat) ({ cls := "ShareHouse", name := "dealt", desc := "(III)I" } : Jvm.MethodName)) ∈ lw_all := lw_g (lw_at lw_m7 145 rfl) rfl
theorem q1801 : (Jvm.Cond.methodLink "ShareHouseLaw" (97 : Nat) ({ cls := "ShareHouse", name := "share", desc := "(II)I" } : Jvm.MethodName)) ∈ lw_all := lw_g (lw_at lw_m7 150 rfl) rfl
theorem q1805 : (Jvm.Cond.methodLink "ShareHouseLaw" (101 : Nat) ({ cls := "ShareHouse", name := "view", desc := "(II)I" } : Jvm.MethodName)) ∈ lw_all := lw_g (lw_at lw_m7 154 rfl) rfl
theorem q1817 : (Jvm.Cond.methodLink "ShareHouseLaw" (105 : Nat) ({ cls := "ShareHouse", name := "told", desc := "(II)J" } : Jvm.MethodName)) ∈ lw_all := lw_g (lw_at lw_m7 166 rfl) rfl
theorem q1822 : (Jvm.Cond.methodLink "ShareHouseLaw" (109 : Nat) ({ cls := "ShareHouse", name := "truth", desc := "(I)J" } : Jvm.MethodName)) ∈ lw_all := lw_g (lw_at lw_m7 171 rfl) rfl
theorem q1830 : (Jvm.Cond.methodLink "ShareHouseLaw" (9 : Nat) ({ cls := "ShareHouseLaw", name := "cell", desc := "([II)I" } : Jvm.MethodName)) ∈ lw_all := lw_g (lw_at lw_m7 179 rfl) rfl
theorem q1831 : (Jvm.Cond.static ({ cls := "ShareHouseLaw", name := "cell", desc := "([II)I" } : Jvm.MethodName)) ∈ lw_all := lw_g (lw_at lw_m7 180 rfl) rfl
theorem q1832 : (Jvm.Cond.code ({ cls := "ShareHouseLaw", name := "cell", desc := "([II)I" } : Jvm.MethodName) method_2_code (2 : Nat) (Option.some Jvm.ClassFile.FieldType.int)) ∈ lw_all := lw_g (lw_at lw_m7 181 rfl) rfl
theorem q1833 : (Jvm.Cond.classLink "ShareHouseLaw" (18 : Nat) "ShareHouseModel") ∈ lw_all := lw_g (lw_at lw_m7 182 rfl) rfl
theorem q1835 : (Jvm.Cond.methodLink "ShareHouseLaw" (20 : Nat) ({ cls := "ShareHouseModel", name := "<init>", desc := "(II)V" } : Jvm.MethodName)) ∈ lw_all := lw_g (lw_at lw_m7 184 rfl) rfl
theorem q2283 : (Jvm.Cond.methodLink "ShareHouseLaw" (25 : Nat) ({ cls := "ShareHouseModel", name := "feed", desc := "(IIIII)V" } : Jvm.MethodName)) ∈ lw_all := lw_g (lw_at lw_m9 152 rfl) rfl
theorem q2291 : (Jvm.Cond.methodLink "ShareHouseLaw" (30 : Nat) ({ cls := "ShareHouseModel", name := "end", desc := "(I)I" } : Jvm.MethodName)) ∈ lw_all := lw_g (lw_at lw_m9 160 rfl) rfl
theorem q2295 : (Jvm.Cond.methodLink "ShareHouseLaw" (35 : Nat) ({ cls := "ShareHouseModel", name := "compile", desc := "()I" } : Jvm.MethodName)) ∈ lw_all := lw_g (lw_at lw_m9 164 rfl) rfl
theorem q2695 : (Jvm.Cond.methodLink "ShareHouseLaw" (39 : Nat) ({ cls := "ShareHouseModel", name := "look", desc := "(I)I" } : Jvm.MethodName)) ∈ lw_all := lw_g (lw_at lw_m11 84 rfl) rfl
theorem q2703 : (Jvm.Cond.methodLink "ShareHouseLaw" (44 : Nat) ({ cls := "ShareHouseModel", name := "gate", desc := "(II)I" } : Jvm.MethodName)) ∈ lw_all := lw_g (lw_at lw_m11 92 rfl) rfl
theorem q2707 : (Jvm.Cond.methodLink "ShareHouseLaw" (48 : Nat) ({ cls := "ShareHouseModel", name := "literal", desc := "(II)I" } : Jvm.MethodName)) ∈ lw_all := lw_g (lw_at lw_m11 96 rfl) rfl
theorem q2711 : (Jvm.Cond.methodLink "ShareHouseLaw" (53 : Nat) ({ cls := "ShareHouseModel", name := "input", desc := "(II)J" } : Jvm.MethodName)) ∈ lw_all := lw_g (lw_at lw_m11 100 rfl) rfl
theorem q2716 : (Jvm.Cond.methodLink "ShareHouseLaw" (58 : Nat) ({ cls := "ShareHouseModel", name := "give", desc := "(II)Z" } : Jvm.MethodName)) ∈ lw_all := lw_g (lw_at lw_m11 105 rfl) rfl
theorem q2720 : (Jvm.Cond.methodLink "ShareHouseLaw" (63 : Nat) ({ cls := "ShareHouseModel", name := "seed", desc := "(I)V" } : Jvm.MethodName)) ∈ lw_all := lw_g (lw_at lw_m11 109 rfl) rfl
theorem q2724 : (Jvm.Cond.methodLink "ShareHouseLaw" (70 : Nat) ({ cls := "ShareHouseModel", name := "draws", desc := "(JI)I" } : Jvm.MethodName)) ∈ lw_all := lw_g (lw_at lw_m11 113 rfl) rfl
theorem q2728 : (Jvm.Cond.methodLink "ShareHouseLaw" (75 : Nat) ({ cls := "ShareHouseModel", name := "deal", desc := "()Z" } : Jvm.MethodName)) ∈ lw_all := lw_g (lw_at lw_m11 117 rfl) rfl
theorem q2758 : (Jvm.Cond.methodLink "ShareHouseLaw" (79 : Nat) ({ cls := "ShareHouseModel", name := "message", desc := "(II)I" } : Jvm.MethodName)) ∈ lw_all := lw_g (lw_at lw_m11 147 rfl) rfl
theorem q2770 : (Jvm.Cond.methodLink "ShareHouseLaw" (83 : Nat) ({ cls := "ShareHouseModel", name := "deliver", desc := "(I)I" } : Jvm.MethodName)) ∈ lw_all := lw_g (lw_at lw_m11 159 rfl) rfl
theorem q2778 : (Jvm.Cond.methodLink "ShareHouseLaw" (87 : Nat) ({ cls := "ShareHouseModel", name := "rush", desc := "(II)I" } : Jvm.MethodName)) ∈ lw_all := lw_g (lw_at lw_m11 167 rfl) rfl
theorem q2782 : (Jvm.Cond.methodLink "ShareHouseLaw" (91 : Nat) ({ cls := "ShareHouseModel", name := "party", desc := "(II)I" } : Jvm.MethodName)) ∈ lw_all := lw_g (lw_at lw_m11 171 rfl) rfl
theorem q2790 : (Jvm.Cond.methodLink "ShareHouseLaw" (96 : Nat) ({ cls := "ShareHouseModel", name := "dealt", desc := "(III)I" } : Jvm.MethodName)) ∈ lw_all := lw_g (lw_at lw_m11 179 rfl) rfl
theorem q2794 : (Jvm.Cond.methodLink "ShareHouseLaw" (100 : Nat) ({ cls := "ShareHouseModel", name := "share", desc := "(II)I" } : Jvm.MethodName)) ∈ lw_all := lw_g (lw_at lw_m11 183 rfl) rfl
theorem q2798 : (Jvm.Cond.methodLink "ShareHouseLaw" (104 : Nat) ({ cls := "ShareHouseModel", name := "view", desc := "(II)I" } : Jvm.MethodName)) ∈ lw_all := lw_g (lw_at lw_m11 187 rfl) rfl
theorem q2802 : (Jvm.Cond.methodLink "ShareHouseLaw" (108 : Nat) ({ cls := "ShareHouseModel", name := "told", desc := "(II)J" } : Jvm.MethodName)) ∈ lw_all := lw_g (lw_at lw_m11 191 rfl) rfl
theorem q2806 : (Jvm.Cond.methodLink "ShareHouseLaw" (113 : Nat) ({ cls := "ShareHouseModel", name := "truth", desc := "(I)J" } : Jvm.MethodName)) ∈ lw_all := lw_g (lw_at lw_m11 195 rfl) rfl
theorem q2838 : (Jvm.Cond.constantLong "ShareHouseLaw" (64 : Nat) (4294967295 : Int64)) ∈ lw_all := lw_g (lw_at lw_m11 227 rfl) rfl
theorem q212 : (Jvm.Cond.initialized "ShareHouse") ∈ lw_all := lw_g (lw_at lw_m1 1 rfl) rfl
theorem q238 : (Jvm.Cond.instantiable "ShareHouse" (25 : Nat)) ∈ lw_all := lw_g (lw_at lw_m1 27 rfl) rfl
theorem q240 : (Jvm.Cond.instanceMethod ({ cls := "ShareHouse", name := "<init>", desc := "(II)V" } : Jvm.MethodName)) ∈ lw_all := lw_g (lw_at lw_m1 29 rfl) rfl
theorem q241 : (Jvm.Cond.code ({ cls := "ShareHouse", name := "<init>", desc := "(II)V" } : Jvm.MethodName) prog_1_method_1_code (4 : Nat) (Option.none : Option Jvm.ClassFile.FieldType)) ∈ lw_all := lw_g (lw_at lw_m1 30 rfl) rfl
theorem q242 : (Jvm.Cond.methodLink "ShareHouse" (1 : Nat) ({ cls := "java/lang/Object", name := "<init>", desc := "()V" } : Jvm.MethodName)) ∈ lw_all := lw_g (lw_at lw_m1 31 rfl) rfl
theorem q245 : (Jvm.Cond.classLink "ShareHouse" (16 : Nat) "ShareHouse$Code") ∈ lw_all := lw_g (lw_at lw_m1 34 rfl) rfl
theorem q247 : (Jvm.Cond.methodLinkNest "ShareHouse" (18 : Nat) ({ cls := "ShareHouse$Code", name := "<init>", desc := "()V" } : Jvm.MethodName) "ShareHouse") ∈ lw_tbl := lw_at lw_m1 36 rfl
theorem q282 : (Jvm.Cond.classLink "ShareHouse" (23 : Nat) "ShareHouse$Names") ∈ lw_all := lw_g (lw_at lw_m1 71 rfl) rfl
theorem q284 : (Jvm.Cond.methodLinkNest "ShareHouse" (25 : Nat) ({ cls := "ShareHouse$Names", name := "<init>", desc := "()V" } : Jvm.MethodName) "ShareHouse") ∈ lw_tbl := lw_at lw_m1 73 rfl
theorem q304 : (Jvm.Cond.classLink "ShareHouse" (30 : Nat) "ShareHouse$Fault") ∈ lw_all := lw_g (lw_at lw_m1 93 rfl) rfl
theorem q306 : (Jvm.Cond.methodLinkNest "ShareHouse" (32 : Nat) ({ cls := "ShareHouse$Fault", name := "<init>", desc := "()V" } : Jvm.MethodName) "ShareHouse") ∈ lw_tbl := lw_at lw_m1 95 rfl
theorem q311 : (Jvm.Cond.fieldLinkNest "ShareHouse" (182 : Nat) "ShareHouse$Fault" "what" "I" "ShareHouse") ∈ lw_tbl := lw_at lw_m1 100 rfl
theorem q313 : (Jvm.Cond.fieldLinkNest "ShareHouse" (212 : Nat) "ShareHouse$Fault" "place" "I" "ShareHouse") ∈ lw_tbl := lw_at lw_m1 102 rfl
theorem q319 : (Jvm.Cond.classLink "ShareHouse" (37 : Nat) "ShareHouse$Circuit") ∈ lw_all := lw_g (lw_at lw_m1 108 rfl) rfl
theorem q321 : (Jvm.Cond.methodLinkNest "ShareHouse" (39 : Nat) ({ cls := "ShareHouse$Circuit", name := "<init>", desc := "()V" } : Jvm.MethodName) "ShareHouse") ∈ lw_tbl := lw_at lw_m1 110 rfl
theorem q328 : (Jvm.Cond.fieldLinkNest "ShareHouse" (235 : Nat) "ShareHouse$Circuit" "left" "[I" "ShareHouse") ∈ lw_tbl := lw_at lw_m1 117 rfl
theorem q331 : (Jvm.Cond.fieldLinkNest "ShareHouse" (238 : Nat) "ShareHouse$Circuit" "right" "[I" "ShareHouse") ∈ lw_tbl := lw_at lw_m1 120 rfl
theorem q334 : (Jvm.Cond.fieldLinkNest "ShareHouse" (231 : Nat) "ShareHouse$Circuit" "levels" "[S" "ShareHouse") ∈ lw_tbl := lw_at lw_m1 123 rfl
theorem q337 : (Jvm.Cond.fieldLinkNest "ShareHouse" (227 : Nat) "ShareHouse$Circuit" "ands" "[Z" "ShareHouse") ∈ lw_tbl := lw_at lw_m1 126 rfl
theorem q341 : (Jvm.Cond.fieldLinkNest "ShareHouse" (191 : Nat) "ShareHouse$Circuit" "gates" "I" "ShareHouse") ∈ lw_tbl := lw_at lw_m1 130 rfl
theorem q343 : (Jvm.Cond.fieldLinkNest "ShareHouse" (194 : Nat) "ShareHouse$Circuit" "many" "I" "ShareHouse") ∈ lw_tbl := lw_at lw_m1 132 rfl
theorem q346 : (Jvm.Cond.fieldLinkNest "ShareHouse" (200 : Nat) "ShareHouse$Circuit" "inputs" "I" "ShareHouse") ∈ lw_tbl := lw_at lw_m1 135 rfl
theorem q351 : (Jvm.Cond.fieldLinkNest "ShareHouse" (197 : Nat) "ShareHouse$Circuit" "deepest" "I" "ShareHouse") ∈ lw_tbl := lw_at lw_m1 140 rfl
theorem q375 : (Jvm.Cond.classLink "ShareHouse" (44 : Nat) "ShareHouse$Draws") ∈ lw_all := lw_g (lw_at lw_m1 164 rfl) rfl
theorem q377 : (Jvm.Cond.methodLinkNest "ShareHouse" (46 : Nat) ({ cls := "ShareHouse$Draws", name := "<init>", desc := "()V" } : Jvm.MethodName) "ShareHouse") ∈ lw_tbl := lw_at lw_m1 166 rfl
theorem q395 : (Jvm.Cond.fieldLinkNest "ShareHouse" (223 : Nat) "ShareHouse$Draws" "many" "I" "ShareHouse") ∈ lw_tbl := lw_at lw_m1 184 rfl
theorem q397 : (Jvm.Cond.fieldLinkNest "ShareHouse" (224 : Nat) "ShareHouse$Draws" "seed" "I" "ShareHouse") ∈ lw_tbl := lw_at lw_m1 186 rfl
theorem q407 : (Jvm.Cond.classLink "ShareHouse" (55 : Nat) "ShareHouse$Bits") ∈ lw_all := lw_g (lw_at lw_m1 196 rfl) rfl
theorem q408 : (Jvm.Cond.methodLink "ShareHouse" (57 : Nat) ({ cls := "ShareHouse$Bits", name := "<init>", desc := "(I)V" } : Jvm.MethodName)) ∈ lw_all := lw_g (lw_at lw_m1 197 rfl) rfl
theorem q409 : (Jvm.Cond.constant "ShareHouse" (64 : Nat) (48192 : Int32)) ∈ lw_all := lw_g (lw_at lw_m1 198 rfl) rfl
theorem q410 : (Jvm.Cond.methodLink "ShareHouse" (68 : Nat) ({ cls := "java/lang/Math", name := "min", desc := "(II)I" } : Jvm.MethodName)) ∈ lw_all := lw_g (lw_at lw_m1 199 rfl) rfl
theorem q413 : (Jvm.Cond.methodLink "ShareHouse" (74 : Nat) ({ cls := "java/lang/Math", name := "max", desc := "(II)I" } : Jvm.MethodName)) ∈ lw_all := lw_g (lw_at lw_m1 202 rfl) rfl
theorem q416 : (Jvm.Cond.classLink "ShareHouse" (84 : Nat) "ShareHouse$Reader") ∈ lw_all := lw_g (lw_at lw_m1 205 rfl) rfl
theorem q418 : (Jvm.Cond.methodLink "ShareHouse" (86 : Nat) ({ cls := "ShareHouse$Reader", name := "<init>", desc := "(ILShareHouse$Code;LShareHouse$Names;LShareHouse$Fault;)V" } : Jvm.MethodName)) ∈ lw_all := lw_g (lw_at lw_m1 207 rfl) rfl
theorem q471 : (Jvm.Cond.classLink "ShareHouse" (93 : Nat) "ShareHouse$Checker") ∈ lw_all := lw_g (lw_at lw_m2 20 rfl) rfl
theorem q473 : (Jvm.Cond.methodLink "ShareHouse" (95 : Nat) ({ cls := "ShareHouse$Checker", name := "<init>", desc := "(ILShareHouse$Code;LShareHouse$Fault;)V" } : Jvm.MethodName)) ∈ lw_all := lw_g (lw_at lw_m2 22 rfl) rfl
theorem q518 : (Jvm.Cond.fieldLinkNest "ShareHouse" (176 : Nat) "ShareHouse$Checker" "inputBits" "I" "ShareHouse") ∈ lw_tbl := lw_at lw_m2 67 rfl
theorem q572 : (Jvm.Cond.classLink "ShareHouse" (102 : Nat) "ShareHouse$Builder") ∈ lw_all := lw_g (lw_at lw_m2 121 rfl) rfl
theorem q574 : (Jvm.Cond.methodLink "ShareHouse" (104 : Nat) ({ cls := "ShareHouse$Builder", name := "<init>", desc := "(ILShareHouse$Code;LShareHouse$Fault;LShareHouse$Circuit;)V" } : Jvm.MethodName)) ∈ lw_all := lw_g (lw_at lw_m2 123 rfl) rfl
theorem q618 : (Jvm.Cond.fieldLinkNest "ShareHouse" (209 : Nat) "ShareHouse$Builder" "steps" "I" "ShareHouse") ∈ lw_tbl := lw_at lw_m2 167 rfl
theorem q622 : (Jvm.Cond.fieldLinkNest "ShareHouse" (266 : Nat) "ShareHouse$Builder" "inputBits" "[I" "ShareHouse") ∈ lw_tbl := lw_at lw_m2 171 rfl
theorem q625 : (Jvm.Cond.fieldLinkNest "ShareHouse" (259 : Nat) "ShareHouse$Builder" "inputSizes" "[I" "ShareHouse") ∈ lw_tbl := lw_at lw_m2 174 rfl
theorem q628 : (Jvm.Cond.fieldLinkNest "ShareHouse" (256 : Nat) "ShareHouse$Builder" "inputParties" "[I" "ShareHouse") ∈ lw_tbl := lw_at lw_m2 177 rfl
theorem q631 : (Jvm.Cond.fieldLinkNest "ShareHouse" (203 : Nat) "ShareHouse$Builder" "inputWords" "I" "ShareHouse") ∈ lw_tbl := lw_at lw_m2 180 rfl
theorem q650 : (Jvm.Cond.fieldLinkNest "ShareHouse" (248 : Nat) "ShareHouse$Builder" "outputs" "[I" "ShareHouse") ∈ lw_tbl := lw_at lw_m2 199 rfl
theorem q653 : (Jvm.Cond.fieldLinkNest "ShareHouse" (245 : Nat) "ShareHouse$Builder" "outputSizes" "[I" "ShareHouse") ∈ lw_tbl := lw_at lw_m2 202 rfl
theorem q656 : (Jvm.Cond.fieldLinkNest "ShareHouse" (206 : Nat) "ShareHouse$Builder" "outputWords" "I" "ShareHouse") ∈ lw_tbl := lw_at lw_m2 205 rfl
theorem q733 : (Jvm.Cond.classLink "ShareHouse" (111 : Nat) "ShareHouse$Plan") ∈ lw_all := lw_g (lw_at lw_m3 42 rfl) rfl
theorem q735 : (Jvm.Cond.methodLink "ShareHouse" (113 : Nat) ({ cls := "ShareHouse$Plan", name := "<init>", desc := "(IILShareHouse$Circuit;LShareHouse$Builder;)V" } : Jvm.MethodName)) ∈ lw_all := lw_g (lw_at lw_m3 44 rfl) rfl
theorem q787 : (Jvm.Cond.classLink "ShareHouse" (120 : Nat) "ShareHouse$Party") ∈ lw_all := lw_g (lw_at lw_m3 96 rfl) rfl
theorem q790 : (Jvm.Cond.methodLink "ShareHouse" (126 : Nat) ({ cls := "ShareHouse$Party", name := "<init>", desc := "(LShareHouse$Plan;I)V" } : Jvm.MethodName)) ∈ lw_all := lw_g (lw_at lw_m3 99 rfl) rfl
theorem q800 : (Jvm.Cond.fieldLinkNest "ShareHouse" (316 : Nat) "ShareHouse$Party" "number" "I" "ShareHouse") ∈ lw_tbl := lw_at lw_m3 109 rfl
theorem q802 : (Jvm.Cond.fieldLinkNest "ShareHouse" (335 : Nat) "ShareHouse$Party" "shares" "LShareHouse$Bits;" "ShareHouse") ∈ lw_tbl := lw_at lw_m3 111 rfl
theorem q804 : (Jvm.Cond.fieldLinkNest "ShareHouse" (275 : Nat) "ShareHouse$Party" "cut" "LShareHouse$Bits;" "ShareHouse") ∈ lw_tbl := lw_at lw_m3 113 rfl
theorem q806 : (Jvm.Cond.fieldLinkNest "ShareHouse" (278 : Nat) "ShareHouse$Party" "a" "LShareHouse$Bits;" "ShareHouse") ∈ lw_tbl := lw_at lw_m3 115 rfl
theorem q808 : (Jvm.Cond.fieldLinkNest "ShareHouse" (281 : Nat) "ShareHouse$Party" "b" "LShareHouse$Bits;" "ShareHouse") ∈ lw_tbl := lw_at lw_m3 117 rfl
theorem q810 : (Jvm.Cond.fieldLinkNest "ShareHouse" (284 : Nat) "ShareHouse$Party" "c" "LShareHouse$Bits;" "ShareHouse") ∈ lw_tbl := lw_at lw_m3 119 rfl
theorem q812 : (Jvm.Cond.fieldLinkNest "ShareHouse" (299 : Nat) "ShareHouse$Party" "at" "I" "ShareHouse") ∈ lw_tbl := lw_at lw_m3 121 rfl
theorem q814 : (Jvm.Cond.fieldLinkNest "ShareHouse" (326 : Nat) "ShareHouse$Party" "came" "I" "ShareHouse") ∈ lw_tbl := lw_at lw_m3 123 rfl
theorem q843 : (Jvm.Cond.methodLink "ShareHouse" (138 : Nat) ({ cls := "ShareHouse$Fault", name := "clear", desc := "()V" } : Jvm.MethodName)) ∈ lw_all := lw_g (lw_at lw_m3 152 rfl) rfl
theorem q847 : (Jvm.Cond.fieldLink "ShareHouse" (77 : Nat) "ShareHouse" "parties" "I") ∈ lw_all := lw_g (lw_at lw_m3 156 rfl) rfl
theorem q848 : (Jvm.Cond.fieldLink "ShareHouse" (81 : Nat) "ShareHouse" "width" "I") ∈ lw_all := lw_g (lw_at lw_m3 157 rfl) rfl
theorem q849 : (Jvm.Cond.fieldLink "ShareHouse" (9 : Nat) "ShareHouse" "ready" "[B") ∈ lw_all := lw_g (lw_at lw_m3 158 rfl) rfl
theorem q850 : (Jvm.Cond.fieldLink "ShareHouse" (13 : Nat) "ShareHouse" "tape" "[B") ∈ lw_all := lw_g (lw_at lw_m3 159 rfl) rfl
theorem q851 : (Jvm.Cond.fieldLink "ShareHouse" (141 : Nat) "ShareHouse" "taped" "I") ∈ lw_all := lw_g (lw_at lw_m3 160 rfl) rfl
theorem q852 : (Jvm.Cond.fieldLink "ShareHouse" (19 : Nat) "ShareHouse" "code" "LShareHouse$Code;") ∈ lw_all := lw_g (lw_at lw_m3 161 rfl) rfl
theorem q853 : (Jvm.Cond.fieldLink "ShareHouse" (26 : Nat) "ShareHouse" "names" "LShareHouse$Names;") ∈ lw_all := lw_g (lw_at lw_m3 162 rfl) rfl
theorem q854 : (Jvm.Cond.fieldLink "ShareHouse" (33 : Nat) "ShareHouse" "fault" "LShareHouse$Fault;") ∈ lw_all := lw_g (lw_at lw_m3 163 rfl) rfl
theorem q855 : (Jvm.Cond.fieldLink "ShareHouse" (40 : Nat) "ShareHouse" "circuit" "LShareHouse$Circuit;") ∈ lw_all := lw_g (lw_at lw_m3 164 rfl) rfl
theorem q856 : (Jvm.Cond.fieldLink "ShareHouse" (89 : Nat) "ShareHouse" "reader" "LShareHouse$Reader;") ∈ lw_all := lw_g (lw_at lw_m3 165 rfl) rfl
theorem q857 : (Jvm.Cond.fieldLink "ShareHouse" (98 : Nat) "ShareHouse" "checker" "LShareHouse$Checker;") ∈ lw_all := lw_g (lw_at lw_m3 166 rfl) rfl
theorem q858 : (Jvm.Cond.fieldLink "ShareHouse" (107 : Nat) "ShareHouse" "builder" "LShareHouse$Builder;") ∈ lw_all := lw_g (lw_at lw_m3 167 rfl) rfl
theorem q859 : (Jvm.Cond.fieldLink "ShareHouse" (116 : Nat) "ShareHouse" "plan" "LShareHouse$Plan;") ∈ lw_all := lw_g (lw_at lw_m3 168 rfl) rfl
theorem q860 : (Jvm.Cond.fieldLink "ShareHouse" (122 : Nat) "ShareHouse" "all" "[LShareHouse$Party;") ∈ lw_all := lw_g (lw_at lw_m3 169 rfl) rfl
theorem q861 : (Jvm.Cond.fieldLink "ShareHouse" (47 : Nat) "ShareHouse" "draws" "LShareHouse$Draws;") ∈ lw_all := lw_g (lw_at lw_m3 170 rfl) rfl
theorem q862 : (Jvm.Cond.fieldLink "ShareHouse" (51 : Nat) "ShareHouse" "values" "[I") ∈ lw_all := lw_g (lw_at lw_m3 171 rfl) rfl
theorem q863 : (Jvm.Cond.fieldLink "ShareHouse" (60 : Nat) "ShareHouse" "dealt" "LShareHouse$Bits;") ∈ lw_all := lw_g (lw_at lw_m3 172 rfl) rfl
theorem q864 : (Jvm.Cond.fieldLink "ShareHouse" (65 : Nat) "ShareHouse" "plain" "LShareHouse$Bits;") ∈ lw_all := lw_g (lw_at lw_m3 173 rfl) rfl
theorem q865 : (Jvm.Cond.fieldLink "ShareHouse" (150 : Nat) "ShareHouse" "hasCircuit" "Z") ∈ lw_all := lw_g (lw_at lw_m3 174 rfl) rfl
theorem q866 : (Jvm.Cond.fieldLink "ShareHouse" (154 : Nat) "ShareHouse" "isDealt" "Z") ∈ lw_all := lw_g (lw_at lw_m3 175 rfl) rfl
theorem q867 : (Jvm.Cond.fieldLink "ShareHouse" (129 : Nat) "ShareHouse" "froms" "[I") ∈ lw_all := lw_g (lw_at lw_m3 176 rfl) rfl
theorem q868 : (Jvm.Cond.fieldLink "ShareHouse" (132 : Nat) "ShareHouse" "tos" "[I") ∈ lw_all := lw_g (lw_at lw_m3 177 rfl) rfl
theorem q869 : (Jvm.Cond.fieldLink "ShareHouse" (135 : Nat) "ShareHouse" "rounds" "[I") ∈ lw_all := lw_g (lw_at lw_m3 178 rfl) rfl
theorem q870 : (Jvm.Cond.fieldLink "ShareHouse" (157 : Nat) "ShareHouse" "flying" "I") ∈ lw_all := lw_g (lw_at lw_m3 179 rfl) rfl
theorem q871 : (Jvm.Cond.fieldLink "ShareHouse" (160 : Nat) "ShareHouse" "delivered" "I") ∈ lw_all := lw_g (lw_at lw_m3 180 rfl) rfl
theorem q872 : (Jvm.Cond.laysFinal "ShareHouse" "ShareHouse" "parties" "I") ∈ lw_all := lw_g (lw_at lw_m3 181 rfl) rfl
theorem q873 : (Jvm.Cond.soleField "ShareHouse" "parties") ∈ lw_all := lw_g (lw_at lw_m3 182 rfl) rfl
theorem q874 : (Jvm.Cond.laysFinal "ShareHouse" "ShareHouse" "width" "I") ∈ lw_all := lw_g (lw_at lw_m3 183 rfl) rfl
theorem q875 : (Jvm.Cond.soleField "ShareHouse" "width") ∈ lw_all := lw_g (lw_at lw_m3 184 rfl) rfl
theorem q876 : (Jvm.Cond.laysFinal "ShareHouse" "ShareHouse" "ready" "[B") ∈ lw_all := lw_g (lw_at lw_m3 185 rfl) rfl
theorem q877 : (Jvm.Cond.soleField "ShareHouse" "ready") ∈ lw_all := lw_g (lw_at lw_m3 186 rfl) rfl
theorem q878 : (Jvm.Cond.laysFinal "ShareHouse" "ShareHouse" "tape" "[B") ∈ lw_all := lw_g (lw_at lw_m3 187 rfl) rfl
theorem q879 : (Jvm.Cond.soleField "ShareHouse" "tape") ∈ lw_all := lw_g (lw_at lw_m3 188 rfl) rfl
theorem q880 : (Jvm.Cond.lays "ShareHouse" "ShareHouse" "taped" "I") ∈ lw_all := lw_g (lw_at lw_m3 189 rfl) rfl
theorem q881 : (Jvm.Cond.soleField "ShareHouse" "taped") ∈ lw_all := lw_g (lw_at lw_m3 190 rfl) rfl
theorem q882 : (Jvm.Cond.laysFinal "ShareHouse" "ShareHouse" "code" "LShareHouse$Code;") ∈ lw_all := lw_g (lw_at lw_m3 191 rfl) rfl
theorem q883 : (Jvm.Cond.soleField "ShareHouse" "code") ∈ lw_all := lw_g (lw_at lw_m3 192 rfl) rfl
theorem q884 : (Jvm.Cond.laysFinal "ShareHouse" "ShareHouse" "names" "LShareHouse$Names;") ∈ lw_all := lw_g (lw_at lw_m3 193 rfl) rfl
theorem q885 : (Jvm.Cond.soleField "ShareHouse" "names") ∈ lw_all := lw_g (lw_at lw_m3 194 rfl) rfl
theorem q886 : (Jvm.Cond.laysFinal "ShareHouse" "ShareHouse" "fault" "LShareHouse$Fault;") ∈ lw_all := lw_g (lw_at lw_m3 195 rfl) rfl
theorem q887 : (Jvm.Cond.soleField "ShareHouse" "fault") ∈ lw_all := lw_g (lw_at lw_m3 196 rfl) rfl
theorem q888 : (Jvm.Cond.laysFinal "ShareHouse" "ShareHouse" "circuit" "LShareHouse$Circuit;") ∈ lw_all := lw_g (lw_at lw_m3 197 rfl) rfl
theorem q889 : (Jvm.Cond.soleField "ShareHouse" "circuit") ∈ lw_all := lw_g (lw_at lw_m3 198 rfl) rfl
theorem q890 : (Jvm.Cond.laysFinal "ShareHouse" "ShareHouse" "reader" "LShareHouse$Reader;") ∈ lw_all := lw_g (lw_at lw_m3 199 rfl) rfl
theorem q891 : (Jvm.Cond.soleField "ShareHouse" "reader") ∈ lw_all := lw_g (lw_at lw_m3 200 rfl) rfl
theorem q892 : (Jvm.Cond.laysFinal "ShareHouse" "ShareHouse" "checker" "LShareHouse$Checker;") ∈ lw_all := lw_g (lw_at lw_m3 201 rfl) rfl
theorem q893 : (Jvm.Cond.soleField "ShareHouse" "checker") ∈ lw_all := lw_g (lw_at lw_m3 202 rfl) rfl
theorem q894 : (Jvm.Cond.laysFinal "ShareHouse" "ShareHouse" "builder" "LShareHouse$Builder;") ∈ lw_all := lw_g (lw_at lw_m3 203 rfl) rfl
theorem q895 : (Jvm.Cond.soleField "ShareHouse" "builder") ∈ lw_all := lw_g (lw_at lw_m3 204 rfl) rfl
theorem q896 : (Jvm.Cond.laysFinal "ShareHouse" "ShareHouse" "plan" "LShareHouse$Plan;") ∈ lw_all := lw_g (lw_at lw_m3 205 rfl) rfl
theorem q897 : (Jvm.Cond.soleField "ShareHouse" "plan") ∈ lw_all := lw_g (lw_at lw_m3 206 rfl) rfl
theorem q898 : (Jvm.Cond.laysFinal "ShareHouse" "ShareHouse" "all" "[LShareHouse$Party;") ∈ lw_all := lw_g (lw_at lw_m3 207 rfl) rfl
theorem q899 : (Jvm.Cond.soleField "ShareHouse" "all") ∈ lw_all := lw_g (lw_at lw_m3 208 rfl) rfl
theorem q900 : (Jvm.Cond.laysFinal "ShareHouse" "ShareHouse" "draws" "LShareHouse$Draws;") ∈ lw_all := lw_g (lw_at lw_m3 209 rfl) rfl
theorem q901 : (Jvm.Cond.soleField "ShareHouse" "draws") ∈ lw_all := lw_g (lw_at lw_m3 210 rfl) rfl
theorem q902 : (Jvm.Cond.laysFinal "ShareHouse" "ShareHouse" "values" "[I") ∈ lw_all := lw_g (lw_at lw_m3 211 rfl) rfl
theorem q903 : (Jvm.Cond.soleField "ShareHouse" "values") ∈ lw_all := lw_g (lw_at lw_m3 212 rfl) rfl
theorem q904 : (Jvm.Cond.laysFinal "ShareHouse" "ShareHouse" "dealt" "LShareHouse$Bits;") ∈ lw_all := lw_g (lw_at lw_m3 213 rfl) rfl
theorem q905 : (Jvm.Cond.soleField "ShareHouse" "dealt") ∈ lw_all := lw_g (lw_at lw_m3 214 rfl) rfl
theorem q906 : (Jvm.Cond.laysFinal "ShareHouse" "ShareHouse" "plain" "LShareHouse$Bits;") ∈ lw_all := lw_g (lw_at lw_m3 215 rfl) rfl
theorem q907 : (Jvm.Cond.soleField "ShareHouse" "plain") ∈ lw_all := lw_g (lw_at lw_m3 216 rfl) rfl
theorem q908 : (Jvm.Cond.lays "ShareHouse" "ShareHouse" "hasCircuit" "Z") ∈ lw_all := lw_g (lw_at lw_m3 217 rfl) rfl
theorem q909 : (Jvm.Cond.soleField "ShareHouse" "hasCircuit") ∈ lw_all := lw_g (lw_at lw_m3 218 rfl) rfl
theorem q910 : (Jvm.Cond.lays "ShareHouse" "ShareHouse" "isDealt" "Z") ∈ lw_all := lw_g (lw_at lw_m3 219 rfl) rfl
theorem q911 : (Jvm.Cond.soleField "ShareHouse" "isDealt") ∈ lw_all := lw_g (lw_at lw_m3 220 rfl) rfl
theorem q912 : (Jvm.Cond.laysFinal "ShareHouse" "ShareHouse" "froms" "[I") ∈ lw_all := lw_g (lw_at lw_m3 221 rfl) rfl
theorem q913 : (Jvm.Cond.soleField "ShareHouse" "froms") ∈ lw_all := lw_g (lw_at lw_m3 222 rfl) rfl
theorem q914 : (Jvm.Cond.laysFinal "ShareHouse" "ShareHouse" "tos" "[I") ∈ lw_all := lw_g (lw_at lw_m3 223 rfl) rfl
theorem q915 : (Jvm.Cond.soleField "ShareHouse" "tos") ∈ lw_all := lw_g (lw_at lw_m3 224 rfl) rfl
theorem q916 : (Jvm.Cond.laysFinal "ShareHouse" "ShareHouse" "rounds" "[I") ∈ lw_all := lw_g (lw_at lw_m3 225 rfl) rfl
theorem q917 : (Jvm.Cond.soleField "ShareHouse" "rounds") ∈ lw_all := lw_g (lw_at lw_m3 226 rfl) rfl
theorem q918 : (Jvm.Cond.lays "ShareHouse" "ShareHouse" "flying" "I") ∈ lw_all := lw_g (lw_at lw_m3 227 rfl) rfl
theorem q919 : (Jvm.Cond.soleField "ShareHouse" "flying") ∈ lw_all := lw_g (lw_at lw_m3 228 rfl) rfl
theorem q920 : (Jvm.Cond.lays "ShareHouse" "ShareHouse" "delivered" "I") ∈ lw_all := lw_g (lw_at lw_m3 229 rfl) rfl
theorem q921 : (Jvm.Cond.soleField "ShareHouse" "delivered") ∈ lw_all := lw_g (lw_at lw_m3 230 rfl) rfl
theorem q922 : (Jvm.Cond.superclass "ShareHouse" "java/lang/Object") ∈ lw_all := lw_g (lw_at lw_m3 231 rfl) rfl
theorem q924 : (Jvm.Cond.instanceMethod ({ cls := "ShareHouse", name := "feed", desc := "(IIIII)V" } : Jvm.MethodName)) ∈ lw_all := lw_g (lw_at lw_m3 233 rfl) rfl
theorem q925 : (Jvm.Cond.selects "ShareHouse" ({ cls := "ShareHouse", name := "feed", desc := "(IIIII)V" } : Jvm.MethodName) ({ cls := "ShareHouse", name := "feed", desc := "(IIIII)V" } : Jvm.MethodName)) ∈ lw_all := lw_g (lw_at lw_m3 234 rfl) rfl
theorem q926 : (Jvm.Cond.code ({ cls := "ShareHouse", name := "feed", desc := "(IIIII)V" } : Jvm.MethodName) prog_1_method_2_code (8 : Nat) (Option.none : Option Jvm.ClassFile.FieldType)) ∈ lw_all := lw_g (lw_at lw_m3 235 rfl) rfl
theorem q928 : (Jvm.Cond.instanceMethod ({ cls := "ShareHouse", name := "end", desc := "(I)I" } : Jvm.MethodName)) ∈ lw_all := lw_g (lw_at lw_m3 237 rfl) rfl
theorem q929 : (Jvm.Cond.selects "ShareHouse" ({ cls := "ShareHouse", name := "end", desc := "(I)I" } : Jvm.MethodName) ({ cls := "ShareHouse", name := "end", desc := "(I)I" } : Jvm.MethodName)) ∈ lw_all := lw_g (lw_at lw_m3 238 rfl) rfl
theorem q930 : (Jvm.Cond.code ({ cls := "ShareHouse", name := "end", desc := "(I)I" } : Jvm.MethodName) prog_1_method_3_code (3 : Nat) (Option.some Jvm.ClassFile.FieldType.int)) ∈ lw_all := lw_g (lw_at lw_m3 239 rfl) rfl
theorem q931 : (Jvm.Cond.methodLink "ShareHouse" (144 : Nat) ({ cls := "java/lang/System", name := "arraycopy", desc := "(Ljava/lang/Object;ILjava/lang/Object;II)V" } : Jvm.MethodName)) ∈ lw_all := lw_g (lw_at lw_m4 0 rfl) rfl
theorem q935 : (Jvm.Cond.instanceMethod ({ cls := "ShareHouse", name := "compile", desc := "()I" } : Jvm.MethodName)) ∈ lw_all := lw_g (lw_at lw_m4 4 rfl) rfl
theorem q936 : (Jvm.Cond.selects "ShareHouse" ({ cls := "ShareHouse", name := "compile", desc := "()I" } : Jvm.MethodName) ({ cls := "ShareHouse", name := "compile", desc := "()I" } : Jvm.MethodName)) ∈ lw_all := lw_g (lw_at lw_m4 5 rfl) rfl
theorem q937 : (Jvm.Cond.code ({ cls := "ShareHouse", name := "compile", desc := "()I" } : Jvm.MethodName) prog_1_method_4_code (3 : Nat) (Option.some Jvm.ClassFile.FieldType.int)) ∈ lw_all := lw_g (lw_at lw_m4 6 rfl) rfl
theorem q938 : (Jvm.Cond.methodLink "ShareHouse" (163 : Nat) ({ cls := "ShareHouse$Names", name := "clear", desc := "()V" } : Jvm.MethodName)) ∈ lw_all := lw_g (lw_at lw_m4 7 rfl) rfl
theorem q942 : (Jvm.Cond.methodLink "ShareHouse" (164 : Nat) ({ cls := "ShareHouse$Code", name := "clear", desc := "()V" } : Jvm.MethodName)) ∈ lw_all := lw_g (lw_at lw_m4 11 rfl) rfl
theorem q946 : (Jvm.Cond.methodLink "ShareHouse" (165 : Nat) ({ cls := "ShareHouse$Reader", name := "read", desc := "([BI)V" } : Jvm.MethodName)) ∈ lw_all := lw_g (lw_at lw_m4 15 rfl) rfl
theorem q1306 : (Jvm.Cond.methodLink "ShareHouse" (169 : Nat) ({ cls := "ShareHouse$Fault", name := "is", desc := "()Z" } : Jvm.MethodName)) ∈ lw_all := lw_g (lw_at lw_m5 135 rfl) rfl
theorem q1307 : (Jvm.Cond.methodLink "ShareHouse" (173 : Nat) ({ cls := "ShareHouse$Checker", name := "check", desc := "()V" } : Jvm.MethodName)) ∈ lw_all := lw_g (lw_at lw_m5 136 rfl) rfl
theorem q1423 : (Jvm.Cond.methodLink "ShareHouse" (179 : Nat) ({ cls := "ShareHouse$Builder", name := "build", desc := "(I)V" } : Jvm.MethodName)) ∈ lw_all := lw_g (lw_at lw_m6 12 rfl) rfl
theorem q1616 : (Jvm.Cond.methodLink "ShareHouse" (185 : Nat) ({ cls := "ShareHouse$Plan", name := "make", desc := "()V" } : Jvm.MethodName)) ∈ lw_all := lw_g (lw_at lw_m6 205 rfl) rfl
theorem q1625 : (Jvm.Cond.instanceMethod ({ cls := "ShareHouse", name := "look", desc := "(I)I" } : Jvm.MethodName)) ∈ lw_all := lw_g (lw_at lw_m6 214 rfl) rfl
theorem q1626 : (Jvm.Cond.selects "ShareHouse" ({ cls := "ShareHouse", name := "look", desc := "(I)I" } : Jvm.MethodName) ({ cls := "ShareHouse", name := "look", desc := "(I)I" } : Jvm.MethodName)) ∈ lw_all := lw_g (lw_at lw_m6 215 rfl) rfl
theorem q1627 : (Jvm.Cond.code ({ cls := "ShareHouse", name := "look", desc := "(I)I" } : Jvm.MethodName) prog_1_method_7_code (2 : Nat) (Option.some Jvm.ClassFile.FieldType.int)) ∈ lw_all := lw_g (lw_at lw_m6 216 rfl) rfl
theorem q1628 : (Jvm.Cond.methodLink "ShareHouse" (215 : Nat) ({ cls := "ShareHouse", name := "circuitLook", desc := "(I)I" } : Jvm.MethodName)) ∈ lw_all := lw_g (lw_at lw_m6 217 rfl) rfl
theorem q1629 : (Jvm.Cond.privateMethod ({ cls := "ShareHouse", name := "circuitLook", desc := "(I)I" } : Jvm.MethodName)) ∈ lw_tbl := lw_at lw_m6 218 rfl
theorem q1630 : (Jvm.Cond.instanceMethod ({ cls := "ShareHouse", name := "circuitLook", desc := "(I)I" } : Jvm.MethodName)) ∈ lw_all := lw_g (lw_at lw_m6 219 rfl) rfl
theorem q1631 : (Jvm.Cond.code ({ cls := "ShareHouse", name := "circuitLook", desc := "(I)I" } : Jvm.MethodName) prog_1_method_6_code (2 : Nat) (Option.some Jvm.ClassFile.FieldType.int)) ∈ lw_all := lw_g (lw_at lw_m6 220 rfl) rfl
theorem q1632 : (Jvm.Cond.methodLink "ShareHouse" (219 : Nat) ({ cls := "ShareHouse", name := "done", desc := "()I" } : Jvm.MethodName)) ∈ lw_all := lw_g (lw_at lw_m6 221 rfl) rfl
theorem q1633 : (Jvm.Cond.privateMethod ({ cls := "ShareHouse", name := "done", desc := "()I" } : Jvm.MethodName)) ∈ lw_tbl := lw_at lw_m6 222 rfl
theorem q1634 : (Jvm.Cond.instanceMethod ({ cls := "ShareHouse", name := "done", desc := "()I" } : Jvm.MethodName)) ∈ lw_all := lw_g (lw_at lw_m6 223 rfl) rfl
theorem q1635 : (Jvm.Cond.code ({ cls := "ShareHouse", name := "done", desc := "()I" } : Jvm.MethodName) prog_1_method_5_code (3 : Nat) (Option.some Jvm.ClassFile.FieldType.int)) ∈ lw_all := lw_g (lw_at lw_m6 224 rfl) rfl
theorem q1636 : (Jvm.Cond.methodLinkNest "ShareHouse" (188 : Nat) ({ cls := "ShareHouse$Party", name := "isDone", desc := "()Z" } : Jvm.MethodName) "ShareHouse") ∈ lw_tbl := lw_at lw_m6 225 rfl
theorem q1641 : (Jvm.Cond.instanceMethod ({ cls := "ShareHouse", name := "gate", desc := "(II)I" } : Jvm.MethodName)) ∈ lw_all := lw_g (lw_at lw_m6 230 rfl) rfl
theorem q1642 : (Jvm.Cond.selects "ShareHouse" ({ cls := "ShareHouse", name := "gate", desc := "(II)I" } : Jvm.MethodName) ({ cls := "ShareHouse", name := "gate", desc := "(II)I" } : Jvm.MethodName)) ∈ lw_all := lw_g (lw_at lw_m6 231 rfl) rfl
theorem q1643 : (Jvm.Cond.code ({ cls := "ShareHouse", name := "gate", desc := "(II)I" } : Jvm.MethodName) prog_1_method_8_code (3 : Nat) (Option.some Jvm.ClassFile.FieldType.int)) ∈ lw_all := lw_g (lw_at lw_m6 232 rfl) rfl
theorem q1645 : (Jvm.Cond.instanceMethod ({ cls := "ShareHouse", name := "literal", desc := "(II)I" } : Jvm.MethodName)) ∈ lw_all := lw_g (lw_at lw_m6 234 rfl) rfl
theorem q1646 : (Jvm.Cond.selects "ShareHouse" ({ cls := "ShareHouse", name := "literal", desc := "(II)I" } : Jvm.MethodName) ({ cls := "ShareHouse", name := "literal", desc := "(II)I" } : Jvm.MethodName)) ∈ lw_all := lw_g (lw_at lw_m6 235 rfl) rfl
theorem q1647 : (Jvm.Cond.code ({ cls := "ShareHouse", name := "literal", desc := "(II)I" } : Jvm.MethodName) prog_1_method_10_code (3 : Nat) (Option.some Jvm.ClassFile.FieldType.int)) ∈ lw_all := lw_g (lw_at lw_m6 236 rfl) rfl
theorem q1648 : (Jvm.Cond.methodLink "ShareHouse" (241 : Nat) ({ cls := "ShareHouse", name := "isOutput", desc := "(I)Z" } : Jvm.MethodName)) ∈ lw_all := lw_g (lw_at lw_m6 237 rfl) rfl
theorem q1649 : (Jvm.Cond.privateMethod ({ cls := "ShareHouse", name := "isOutput", desc := "(I)Z" } : Jvm.MethodName)) ∈ lw_tbl := lw_at lw_m6 238 rfl
theorem q1650 : (Jvm.Cond.instanceMethod ({ cls := "ShareHouse", name := "isOutput", desc := "(I)Z" } : Jvm.MethodName)) ∈ lw_all := lw_g (lw_at lw_m6 239 rfl) rfl
theorem q1651 : (Jvm.Cond.code ({ cls := "ShareHouse", name := "isOutput", desc := "(I)Z" } : Jvm.MethodName) prog_1_method_9_code (2 : Nat) (Option.some Jvm.ClassFile.FieldType.boolean)) ∈ lw_all := lw_g (lw_at lw_m7 0 rfl) rfl
theorem q1653 : (Jvm.Cond.instanceMethod ({ cls := "ShareHouse", name := "input", desc := "(II)J" } : Jvm.MethodName)) ∈ lw_all := lw_g (lw_at lw_m7 2 rfl) rfl
theorem q1654 : (Jvm.Cond.selects "ShareHouse" ({ cls := "ShareHouse", name := "input", desc := "(II)J" } : Jvm.MethodName) ({ cls := "ShareHouse", name := "input", desc := "(II)J" } : Jvm.MethodName)) ∈ lw_all := lw_g (lw_at lw_m7 3 rfl) rfl
theorem q1655 : (Jvm.Cond.code ({ cls := "ShareHouse", name := "input", desc := "(II)J" } : Jvm.MethodName) prog_1_method_12_code (3 : Nat) (Option.some Jvm.ClassFile.FieldType.long)) ∈ lw_all := lw_g (lw_at lw_m7 4 rfl) rfl
theorem q1656 : (Jvm.Cond.methodLink "ShareHouse" (251 : Nat) ({ cls := "ShareHouse", name := "isInput", desc := "(I)Z" } : Jvm.MethodName)) ∈ lw_all := lw_g (lw_at lw_m7 5 rfl) rfl
theorem q1657 : (Jvm.Cond.privateMethod ({ cls := "ShareHouse", name := "isInput", desc := "(I)Z" } : Jvm.MethodName)) ∈ lw_tbl := lw_at lw_m7 6 rfl
theorem q1658 : (Jvm.Cond.instanceMethod ({ cls := "ShareHouse", name := "isInput", desc := "(I)Z" } : Jvm.MethodName)) ∈ lw_all := lw_g (lw_at lw_m7 7 rfl) rfl
theorem q1659 : (Jvm.Cond.code ({ cls := "ShareHouse", name := "isInput", desc := "(I)Z" } : Jvm.MethodName) prog_1_method_11_code (2 : Nat) (Option.some Jvm.ClassFile.FieldType.boolean)) ∈ lw_all := lw_g (lw_at lw_m7 8 rfl) rfl
theorem q1660 : (Jvm.Cond.constantLong "ShareHouse" (254 : Nat) (-1 : Int64)) ∈ lw_all := lw_g (lw_at lw_m7 9 rfl) rfl
theorem q1662 : (Jvm.Cond.instanceMethod ({ cls := "ShareHouse", name := "give", desc := "(II)Z" } : Jvm.MethodName)) ∈ lw_all := lw_g (lw_at lw_m7 11 rfl) rfl
theorem q1663 : (Jvm.Cond.selects "ShareHouse" ({ cls := "ShareHouse", name := "give", desc := "(II)Z" } : Jvm.MethodName) ({ cls := "ShareHouse", name := "give", desc := "(II)Z" } : Jvm.MethodName)) ∈ lw_all := lw_g (lw_at lw_m7 12 rfl) rfl
theorem q1664 : (Jvm.Cond.code ({ cls := "ShareHouse", name := "give", desc := "(II)Z" } : Jvm.MethodName) prog_1_method_13_code (3 : Nat) (Option.some Jvm.ClassFile.FieldType.boolean)) ∈ lw_all := lw_g (lw_at lw_m7 13 rfl) rfl
theorem q1666 : (Jvm.Cond.instanceMethod ({ cls := "ShareHouse", name := "seed", desc := "(I)V" } : Jvm.MethodName)) ∈ lw_all := lw_g (lw_at lw_m7 15 rfl) rfl
theorem q1667 : (Jvm.Cond.selects "ShareHouse" ({ cls := "ShareHouse", name := "seed", desc := "(I)V" } : Jvm.MethodName) ({ cls := "ShareHouse", name := "seed", desc := "(I)V" } : Jvm.MethodName)) ∈ lw_all := lw_g (lw_at lw_m7 16 rfl) rfl
theorem q1668 : (Jvm.Cond.code ({ cls := "ShareHouse", name := "seed", desc := "(I)V" } : Jvm.MethodName) prog_1_method_14_code (2 : Nat) (Option.none : Option Jvm.ClassFile.FieldType)) ∈ lw_all := lw_g (lw_at lw_m7 17 rfl) rfl
theorem q1670 : (Jvm.Cond.instanceMethod ({ cls := "ShareHouse", name := "draws", desc := "(JI)I" } : Jvm.MethodName)) ∈ lw_all := lw_g (lw_at lw_m7 19 rfl) rfl
theorem q1671 : (Jvm.Cond.selects "ShareHouse" ({ cls := "ShareHouse", name := "draws", desc := "(JI)I" } : Jvm.MethodName) ({ cls := "ShareHouse", name := "draws", desc := "(JI)I" } : Jvm.MethodName)) ∈ lw_all := lw_g (lw_at lw_m7 20 rfl) rfl
theorem q1672 : (Jvm.Cond.code ({ cls := "ShareHouse", name := "draws", desc := "(JI)I" } : Jvm.MethodName) prog_1_method_15_code (4 : Nat) (Option.some Jvm.ClassFile.FieldType.int)) ∈ lw_all := lw_g (lw_at lw_m7 21 rfl) rfl
theorem q1673 : (Jvm.Cond.methodLink "ShareHouse" (262 : Nat) ({ cls := "ShareHouse$Draws", name := "add", desc := "(JI)Z" } : Jvm.MethodName)) ∈ lw_all := lw_g (lw_at lw_m7 22 rfl) rfl
theorem q1683 : (Jvm.Cond.instanceMethod ({ cls := "ShareHouse", name := "deal", desc := "()Z" } : Jvm.MethodName)) ∈ lw_all := lw_g (lw_at lw_m7 32 rfl) rfl
theorem q1684 : (Jvm.Cond.selects "ShareHouse" ({ cls := "ShareHouse", name := "deal", desc := "()Z" } : Jvm.MethodName) ({ cls := "ShareHouse", name := "deal", desc := "()Z" } : Jvm.MethodName)) ∈ lw_all := lw_g (lw_at lw_m7 33 rfl) rfl
theorem q1685 : (Jvm.Cond.code ({ cls := "ShareHouse", name := "deal", desc := "()Z" } : Jvm.MethodName) prog_1_method_18_code (3 : Nat) (Option.some Jvm.ClassFile.FieldType.boolean)) ∈ lw_all := lw_g (lw_at lw_m7 34 rfl) rfl
theorem q1686 : (Jvm.Cond.methodLink "ShareHouse" (287 : Nat) ({ cls := "ShareHouse", name := "cutInputs", desc := "()V" } : Jvm.MethodName)) ∈ lw_all := lw_g (lw_at lw_m7 35 rfl) rfl
theorem q1687 : (Jvm.Cond.privateMethod ({ cls := "ShareHouse", name := "cutInputs", desc := "()V" } : Jvm.MethodName)) ∈ lw_tbl := lw_at lw_m7 36 rfl
theorem q1688 : (Jvm.Cond.instanceMethod ({ cls := "ShareHouse", name := "cutInputs", desc := "()V" } : Jvm.MethodName)) ∈ lw_all := lw_g (lw_at lw_m7 37 rfl) rfl
theorem q1689 : (Jvm.Cond.code ({ cls := "ShareHouse", name := "cutInputs", desc := "()V" } : Jvm.MethodName) prog_1_method_16_code (8 : Nat) (Option.none : Option Jvm.ClassFile.FieldType)) ∈ lw_all := lw_g (lw_at lw_m7 38 rfl) rfl
theorem q1690 : (Jvm.Cond.methodLink "ShareHouse" (268 : Nat) ({ cls := "ShareHouse$Bits", name := "set", desc := "(II)V" } : Jvm.MethodName)) ∈ lw_all := lw_g (lw_at lw_m7 39 rfl) rfl
theorem q1691 : (Jvm.Cond.methodLink "ShareHouse" (272 : Nat) ({ cls := "ShareHouse$Draws", name := "draw", desc := "()I" } : Jvm.MethodName)) ∈ lw_all := lw_g (lw_at lw_m7 40 rfl) rfl
theorem q1700 : (Jvm.Cond.methodLink "ShareHouse" (290 : Nat) ({ cls := "ShareHouse", name := "cutTriple", desc := "(I)V" } : Jvm.MethodName)) ∈ lw_all := lw_g (lw_at lw_m7 49 rfl) rfl
theorem q1701 : (Jvm.Cond.privateMethod ({ cls := "ShareHouse", name := "cutTriple", desc := "(I)V" } : Jvm.MethodName)) ∈ lw_tbl := lw_at lw_m7 50 rfl
theorem q1702 : (Jvm.Cond.instanceMethod ({ cls := "ShareHouse", name := "cutTriple", desc := "(I)V" } : Jvm.MethodName)) ∈ lw_all := lw_g (lw_at lw_m7 51 rfl) rfl
theorem q1703 : (Jvm.Cond.code ({ cls := "ShareHouse", name := "cutTriple", desc := "(I)V" } : Jvm.MethodName) prog_1_method_17_code (7 : Nat) (Option.none : Option Jvm.ClassFile.FieldType)) ∈ lw_all := lw_g (lw_at lw_m7 52 rfl) rfl
theorem q1704 : (Jvm.Cond.methodLink "ShareHouse" (293 : Nat) ({ cls := "ShareHouse$Party", name := "begin", desc := "()V" } : Jvm.MethodName)) ∈ lw_all := lw_g (lw_at lw_m7 53 rfl) rfl
theorem q1708 : (Jvm.Cond.methodLink "ShareHouse" (296 : Nat) ({ cls := "ShareHouse", name := "send", desc := "(I)I" } : Jvm.MethodName)) ∈ lw_all := lw_g (lw_at lw_m7 57 rfl) rfl
theorem q1709 : (Jvm.Cond.privateMethod ({ cls := "ShareHouse", name := "send", desc := "(I)I" } : Jvm.MethodName)) ∈ lw_tbl := lw_at lw_m7 58 rfl
theorem q1710 : (Jvm.Cond.instanceMethod ({ cls := "ShareHouse", name := "send", desc := "(I)I" } : Jvm.MethodName)) ∈ lw_all := lw_g (lw_at lw_m7 59 rfl) rfl
theorem q1711 : (Jvm.Cond.code ({ cls := "ShareHouse", name := "send", desc := "(I)I" } : Jvm.MethodName) prog_1_method_19_code (3 : Nat) (Option.some Jvm.ClassFile.FieldType.int)) ∈ lw_all := lw_g (lw_at lw_m7 60 rfl) rfl
theorem q1713 : (Jvm.Cond.instanceMethod ({ cls := "ShareHouse", name := "message", desc := "(II)I" } : Jvm.MethodName)) ∈ lw_all := lw_g (lw_at lw_m7 62 rfl) rfl
theorem q1714 : (Jvm.Cond.selects "ShareHouse" ({ cls := "ShareHouse", name := "message", desc := "(II)I" } : Jvm.MethodName) ({ cls := "ShareHouse", name := "message", desc := "(II)I" } : Jvm.MethodName)) ∈ lw_all := lw_g (lw_at lw_m7 63 rfl) rfl
theorem q1715 : (Jvm.Cond.code ({ cls := "ShareHouse", name := "message", desc := "(II)I" } : Jvm.MethodName) prog_1_method_20_code (4 : Nat) (Option.some Jvm.ClassFile.FieldType.int)) ∈ lw_all := lw_g (lw_at lw_m7 64 rfl) rfl
theorem q1716 : (Jvm.Cond.methodLink "ShareHouse" (302 : Nat) ({ cls := "ShareHouse$Plan", name := "length", desc := "(II)I" } : Jvm.MethodName)) ∈ lw_all := lw_g (lw_at lw_m7 65 rfl) rfl
theorem q1724 : (Jvm.Cond.methodLink "ShareHouse" (305 : Nat) ({ cls := "ShareHouse$Party", name := "bit", desc := "(LShareHouse$Party;II)I" } : Jvm.MethodName)) ∈ lw_all := lw_g (lw_at lw_m7 73 rfl) rfl
theorem q1738 : (Jvm.Cond.instanceMethod ({ cls := "ShareHouse", name := "deliver", desc := "(I)I" } : Jvm.MethodName)) ∈ lw_all := lw_g (lw_at lw_m7 87 rfl) rfl
theorem q1739 : (Jvm.Cond.selects "ShareHouse" ({ cls := "ShareHouse", name := "deliver", desc := "(I)I" } : Jvm.MethodName) ({ cls := "ShareHouse", name := "deliver", desc := "(I)I" } : Jvm.MethodName)) ∈ lw_all := lw_g (lw_at lw_m7 88 rfl) rfl
theorem q1740 : (Jvm.Cond.code ({ cls := "ShareHouse", name := "deliver", desc := "(I)I" } : Jvm.MethodName) prog_1_method_21_code (6 : Nat) (Option.some Jvm.ClassFile.FieldType.int)) ∈ lw_all := lw_g (lw_at lw_m7 89 rfl) rfl
theorem q1741 : (Jvm.Cond.methodLink "ShareHouse" (309 : Nat) ({ cls := "ShareHouse$Party", name := "take", desc := "(II)V" } : Jvm.MethodName)) ∈ lw_all := lw_g (lw_at lw_m7 90 rfl) rfl
theorem q1757 : (Jvm.Cond.methodLink "ShareHouse" (312 : Nat) ({ cls := "ShareHouse$Party", name := "goes", desc := "([LShareHouse$Party;)Z" } : Jvm.MethodName)) ∈ lw_all := lw_g (lw_at lw_m7 106 rfl) rfl
theorem q1773 : (Jvm.Cond.instanceMethod ({ cls := "ShareHouse", name := "rush", desc := "(II)I" } : Jvm.MethodName)) ∈ lw_all := lw_g (lw_at lw_m7 122 rfl) rfl
theorem q1774 : (Jvm.Cond.selects "ShareHouse" ({ cls := "ShareHouse", name := "rush", desc := "(II)I" } : Jvm.MethodName) ({ cls := "ShareHouse", name := "rush", desc := "(II)I" } : Jvm.MethodName)) ∈ lw_all := lw_g (lw_at lw_m7 123 rfl) rfl
theorem q1775 : (Jvm.Cond.code ({ cls := "ShareHouse", name := "rush", desc := "(II)I" } : Jvm.MethodName) prog_1_method_22_code (5 : Nat) (Option.some Jvm.ClassFile.FieldType.int)) ∈ lw_all := lw_g (lw_at lw_m7 124 rfl) rfl
theorem q1776 : (Jvm.Cond.constant "ShareHouse" (319 : Nat) (100000 : Int32)) ∈ lw_all := lw_g (lw_at lw_m7 125 rfl) rfl
theorem q1777 : (Jvm.Cond.methodLink "ShareHouse" (320 : Nat) ({ cls := "ShareHouse", name := "deliver", desc := "(I)I" } : Jvm.MethodName)) ∈ lw_all := lw_g (lw_at lw_m7 126 rfl) rfl
theorem q1779 : (Jvm.Cond.instanceMethod ({ cls := "ShareHouse", name := "party", desc := "(II)I" } : Jvm.MethodName)) ∈ lw_all := lw_g (lw_at lw_m7 128 rfl) rfl
theorem q1780 : (Jvm.Cond.selects "ShareHouse" ({ cls := "ShareHouse", name := "party", desc := "(II)I" } : Jvm.MethodName) ({ cls := "ShareHouse", name := "party", desc := "(II)I" } : Jvm.MethodName)) ∈ lw_all := lw_g (lw_at lw_m7 129 rfl) rfl
theorem q1781 : (Jvm.Cond.code ({ cls := "ShareHouse", name := "party", desc := "(II)I" } : Jvm.MethodName) prog_1_method_24_code (3 : Nat) (Option.some Jvm.ClassFile.FieldType.int)) ∈ lw_all := lw_g (lw_at lw_m7 130 rfl) rfl
theorem q1782 : (Jvm.Cond.methodLink "ShareHouse" (323 : Nat) ({ cls := "ShareHouse", name := "isParty", desc := "(I)Z" } : Jvm.MethodName)) ∈ lw_all := lw_g (lw_at lw_m7 131 rfl) rfl
theorem q1783 : (Jvm.Cond.privateMethod ({ cls := "ShareHouse", name := "isParty", desc := "(I)Z" } : Jvm.MethodName)) ∈ lw_tbl := lw_at lw_m7 132 rfl
theorem q1784 : (Jvm.Cond.instanceMethod ({ cls := "ShareHouse", name := "isParty", desc := "(I)Z" } : Jvm.MethodName)) ∈ lw_all := lw_g (lw_at lw_m7 133 rfl) rfl
theorem q1785 : (Jvm.Cond.code ({ cls := "ShareHouse", name := "isParty", desc := "(I)Z" } : Jvm.MethodName) prog_1_method_23_code (2 : Nat) (Option.some Jvm.ClassFile.FieldType.boolean)) ∈ lw_all := lw_g (lw_at lw_m7 134 rfl) rfl
theorem q1786 : (Jvm.Cond.methodLink "ShareHouse" (329 : Nat) ({ cls := "ShareHouse$Party", name := "viewSize", desc := "()I" } : Jvm.MethodName)) ∈ lw_all := lw_g (lw_at lw_m7 135 rfl) rfl
theorem q1797 : (Jvm.Cond.instanceMethod ({ cls := "ShareHouse", name := "dealt", desc := "(III)I" } : Jvm.MethodName)) ∈ lw_all := lw_g (lw_at lw_m7 146 rfl) rfl
theorem q1798 : (Jvm.Cond.selects "ShareHouse" ({ cls := "ShareHouse", name := "dealt", desc := "(III)I" } : Jvm.MethodName) ({ cls := "ShareHouse", name := "dealt", desc := "(III)I" } : Jvm.MethodName)) ∈ lw_all := lw_g (lw_at lw_m7 147 rfl) rfl
theorem q1799 : (Jvm.Cond.code ({ cls := "ShareHouse", name := "dealt", desc := "(III)I" } : Jvm.MethodName) prog_1_method_25_code (4 : Nat) (Option.some Jvm.ClassFile.FieldType.int)) ∈ lw_all := lw_g (lw_at lw_m7 148 rfl) rfl
theorem q1800 : (Jvm.Cond.methodLink "ShareHouse" (332 : Nat) ({ cls := "ShareHouse$Bits", name := "get", desc := "(I)I" } : Jvm.MethodName)) ∈ lw_all := lw_g (lw_at lw_m7 149 rfl) rfl
theorem q1802 : (Jvm.Cond.instanceMethod ({ cls := "ShareHouse", name := "share", desc := "(II)I" } : Jvm.MethodName)) ∈ lw_all := lw_g (lw_at lw_m7 151 rfl) rfl
theorem q1803 : (Jvm.Cond.selects "ShareHouse" ({ cls := "ShareHouse", name := "share", desc := "(II)I" } : Jvm.MethodName) ({ cls := "ShareHouse", name := "share", desc := "(II)I" } : Jvm.MethodName)) ∈ lw_all := lw_g (lw_at lw_m7 152 rfl) rfl
theorem q1804 : (Jvm.Cond.code ({ cls := "ShareHouse", name := "share", desc := "(II)I" } : Jvm.MethodName) prog_1_method_26_code (4 : Nat) (Option.some Jvm.ClassFile.FieldType.int)) ∈ lw_all := lw_g (lw_at lw_m7 153 rfl) rfl
theorem q1806 : (Jvm.Cond.instanceMethod ({ cls := "ShareHouse", name := "view", desc := "(II)I" } : Jvm.MethodName)) ∈ lw_all := lw_g (lw_at lw_m7 155 rfl) rfl
theorem q1807 : (Jvm.Cond.selects "ShareHouse" ({ cls := "ShareHouse", name := "view", desc := "(II)I" } : Jvm.MethodName) ({ cls := "ShareHouse", name := "view", desc := "(II)I" } : Jvm.MethodName)) ∈ lw_all := lw_g (lw_at lw_m7 156 rfl) rfl
theorem q1808 : (Jvm.Cond.code ({ cls := "ShareHouse", name := "view", desc := "(II)I" } : Jvm.MethodName) prog_1_method_27_code (3 : Nat) (Option.some Jvm.ClassFile.FieldType.int)) ∈ lw_all := lw_g (lw_at lw_m7 157 rfl) rfl
theorem q1809 : (Jvm.Cond.methodLink "ShareHouse" (338 : Nat) ({ cls := "ShareHouse$Party", name := "view", desc := "([LShareHouse$Party;LShareHouse$Bits;I)I" } : Jvm.MethodName)) ∈ lw_all := lw_g (lw_at lw_m7 158 rfl) rfl
theorem q1818 : (Jvm.Cond.instanceMethod ({ cls := "ShareHouse", name := "told", desc := "(II)J" } : Jvm.MethodName)) ∈ lw_all := lw_g (lw_at lw_m7 167 rfl) rfl
theorem q1819 : (Jvm.Cond.selects "ShareHouse" ({ cls := "ShareHouse", name := "told", desc := "(II)J" } : Jvm.MethodName) ({ cls := "ShareHouse", name := "told", desc := "(II)J" } : Jvm.MethodName)) ∈ lw_all := lw_g (lw_at lw_m7 168 rfl) rfl
theorem q1820 : (Jvm.Cond.code ({ cls := "ShareHouse", name := "told", desc := "(II)J" } : Jvm.MethodName) prog_1_method_28_code (8 : Nat) (Option.some Jvm.ClassFile.FieldType.long)) ∈ lw_all := lw_g (lw_at lw_m7 169 rfl) rfl
theorem q1821 : (Jvm.Cond.methodLinkNest "ShareHouse" (342 : Nat) ({ cls := "ShareHouse$Party", name := "shareOf", desc := "(I)I" } : Jvm.MethodName) "ShareHouse") ∈ lw_tbl := lw_at lw_m7 170 rfl
theorem q1823 : (Jvm.Cond.instanceMethod ({ cls := "ShareHouse", name := "truth", desc := "(I)J" } : Jvm.MethodName)) ∈ lw_all := lw_g (lw_at lw_m7 172 rfl) rfl
theorem q1824 : (Jvm.Cond.selects "ShareHouse" ({ cls := "ShareHouse", name := "truth", desc := "(I)J" } : Jvm.MethodName) ({ cls := "ShareHouse", name := "truth", desc := "(I)J" } : Jvm.MethodName)) ∈ lw_all := lw_g (lw_at lw_m7 173 rfl) rfl
theorem q1825 : (Jvm.Cond.code ({ cls := "ShareHouse", name := "truth", desc := "(I)J" } : Jvm.MethodName) prog_1_method_30_code (5 : Nat) (Option.some Jvm.ClassFile.FieldType.long)) ∈ lw_all := lw_g (lw_at lw_m7 174 rfl) rfl
theorem q1826 : (Jvm.Cond.methodLink "ShareHouse" (345 : Nat) ({ cls := "ShareHouse", name := "plainOf", desc := "(I)I" } : Jvm.MethodName)) ∈ lw_all := lw_g (lw_at lw_m7 175 rfl) rfl
theorem q1827 : (Jvm.Cond.privateMethod ({ cls := "ShareHouse", name := "plainOf", desc := "(I)I" } : Jvm.MethodName)) ∈ lw_tbl := lw_at lw_m7 176 rfl
theorem q1828 : (Jvm.Cond.instanceMethod ({ cls := "ShareHouse", name := "plainOf", desc := "(I)I" } : Jvm.MethodName)) ∈ lw_all := lw_g (lw_at lw_m7 177 rfl) rfl
theorem q1829 : (Jvm.Cond.code ({ cls := "ShareHouse", name := "plainOf", desc := "(I)I" } : Jvm.MethodName) prog_1_method_29_code (2 : Nat) (Option.some Jvm.ClassFile.FieldType.int)) ∈ lw_all := lw_g (lw_at lw_m7 178 rfl) rfl
theorem in_X1 : ∀ w ∈ wsX10, w ∈ lw_all := lw_in wsX10 [872, 874, 876, 878, 880, 882, 884, 886, 888, 890, 892, 894, 896, 898, 900, 902, 904, 906, 908, 910, 912, 914, 916, 918, 920] (by decide +kernel) (by decide +kernel)
theorem q213 : (Jvm.Cond.initialized "ShareHouse$Code") ∈ lw_all := lw_g (lw_at lw_m1 2 rfl) rfl
theorem q246 : (Jvm.Cond.instantiable "ShareHouse$Code" (5 : Nat)) ∈ lw_all := lw_g (lw_at lw_m1 35 rfl) rfl
theorem q248 : (Jvm.Cond.instanceMethod ({ cls := "ShareHouse$Code", name := "<init>", desc := "()V" } : Jvm.MethodName)) ∈ lw_all := lw_g (lw_at lw_m1 37 rfl) rfl
theorem q249 : (Jvm.Cond.code ({ cls := "ShareHouse$Code", name := "<init>", desc := "()V" } : Jvm.MethodName) prog_6_method_1_code (1 : Nat) (Option.none : Option Jvm.ClassFile.FieldType)) ∈ lw_all := lw_g (lw_at lw_m1 38 rfl) rfl
theorem q250 : (Jvm.Cond.methodLink "ShareHouse$Code" (3 : Nat) ({ cls := "java/lang/Object", name := "<init>", desc := "()V" } : Jvm.MethodName)) ∈ lw_all := lw_g (lw_at lw_m1 39 rfl) rfl
theorem q251 : (Jvm.Cond.classLink "ShareHouse$Code" (9 : Nat) "ShareHouse$Op") ∈ lw_all := lw_g (lw_at lw_m1 40 rfl) rfl
theorem q253 : (Jvm.Cond.fieldLink "ShareHouse$Code" (11 : Nat) "ShareHouse$Code" "ops" "[LShareHouse$Op;") ∈ lw_all := lw_g (lw_at lw_m1 42 rfl) rfl
theorem q256 : (Jvm.Cond.fieldLink "ShareHouse$Code" (17 : Nat) "ShareHouse$Code" "of" "[I") ∈ lw_all := lw_g (lw_at lw_m1 45 rfl) rfl
theorem q259 : (Jvm.Cond.fieldLink "ShareHouse$Code" (21 : Nat) "ShareHouse$Code" "places" "[I") ∈ lw_all := lw_g (lw_at lw_m1 48 rfl) rfl
theorem q262 : (Jvm.Cond.fieldLink "ShareHouse$Code" (24 : Nat) "ShareHouse$Code" "more" "[I") ∈ lw_all := lw_g (lw_at lw_m1 51 rfl) rfl
theorem q266 : (Jvm.Cond.fieldLink "ShareHouse$Code" (27 : Nat) "ShareHouse$Code" "size" "I") ∈ lw_all := lw_g (lw_at lw_m1 55 rfl) rfl
theorem q269 : (Jvm.Cond.laysFinal "ShareHouse$Code" "ShareHouse$Code" "ops" "[LShareHouse$Op;") ∈ lw_all := lw_g (lw_at lw_m1 58 rfl) rfl
theorem q270 : (Jvm.Cond.soleField "ShareHouse$Code" "ops") ∈ lw_all := lw_g (lw_at lw_m1 59 rfl) rfl
theorem q271 : (Jvm.Cond.laysFinal "ShareHouse$Code" "ShareHouse$Code" "of" "[I") ∈ lw_all := lw_g (lw_at lw_m1 60 rfl) rfl
theorem q272 : (Jvm.Cond.soleField "ShareHouse$Code" "of") ∈ lw_all := lw_g (lw_at lw_m1 61 rfl) rfl
theorem q273 : (Jvm.Cond.laysFinal "ShareHouse$Code" "ShareHouse$Code" "places" "[I") ∈ lw_all := lw_g (lw_at lw_m1 62 rfl) rfl
theorem q274 : (Jvm.Cond.soleField "ShareHouse$Code" "places") ∈ lw_all := lw_g (lw_at lw_m1 63 rfl) rfl
theorem q275 : (Jvm.Cond.laysFinal "ShareHouse$Code" "ShareHouse$Code" "more" "[I") ∈ lw_all := lw_g (lw_at lw_m1 64 rfl) rfl
theorem q276 : (Jvm.Cond.soleField "ShareHouse$Code" "more") ∈ lw_all := lw_g (lw_at lw_m1 65 rfl) rfl
theorem q277 : (Jvm.Cond.lays "ShareHouse$Code" "ShareHouse$Code" "size" "I") ∈ lw_all := lw_g (lw_at lw_m1 66 rfl) rfl
theorem q278 : (Jvm.Cond.soleField "ShareHouse$Code" "size") ∈ lw_all := lw_g (lw_at lw_m1 67 rfl) rfl
theorem q279 : (Jvm.Cond.superclass "ShareHouse$Code" "java/lang/Object") ∈ lw_all := lw_g (lw_at lw_m1 68 rfl) rfl
theorem q943 : (Jvm.Cond.instanceMethod ({ cls := "ShareHouse$Code", name := "clear", desc := "()V" } : Jvm.MethodName)) ∈ lw_all := lw_g (lw_at lw_m4 12 rfl) rfl
theorem q944 : (Jvm.Cond.selects "ShareHouse$Code" ({ cls := "ShareHouse$Code", name := "clear", desc := "()V" } : Jvm.MethodName) ({ cls := "ShareHouse$Code", name := "clear", desc := "()V" } : Jvm.MethodName)) ∈ lw_all := lw_g (lw_at lw_m4 13 rfl) rfl
theorem q945 : (Jvm.Cond.code ({ cls := "ShareHouse$Code", name := "clear", desc := "()V" } : Jvm.MethodName) prog_6_method_2_code (1 : Nat) (Option.none : Option Jvm.ClassFile.FieldType)) ∈ lw_all := lw_g (lw_at lw_m4 14 rfl) rfl
theorem q1106 : (Jvm.Cond.instanceMethod ({ cls := "ShareHouse$Code", name := "add", desc := "(LShareHouse$Op;III)I" } : Jvm.MethodName)) ∈ lw_all := lw_g (lw_at lw_m4 175 rfl) rfl
theorem q1107 : (Jvm.Cond.selects "ShareHouse$Code" ({ cls := "ShareHouse$Code", name := "add", desc := "(LShareHouse$Op;III)I" } : Jvm.MethodName) ({ cls := "ShareHouse$Code", name := "add", desc := "(LShareHouse$Op;III)I" } : Jvm.MethodName)) ∈ lw_all := lw_g (lw_at lw_m4 176 rfl) rfl
theorem q1108 : (Jvm.Cond.code ({ cls := "ShareHouse$Code", name := "add", desc := "(LShareHouse$Op;III)I" } : Jvm.MethodName) prog_6_method_3_code (5 : Nat) (Option.some Jvm.ClassFile.FieldType.int)) ∈ lw_all := lw_g (lw_at lw_m4 177 rfl) rfl
theorem in_X2 : ∀ w ∈ wsX20, w ∈ lw_all := lw_in wsX20 [269, 271, 273, 275, 277] (by decide +kernel) (by decide +kernel)
theorem q214 : (Jvm.Cond.initialized "ShareHouse$Names") ∈ lw_all := lw_g (lw_at lw_m1 3 rfl) rfl
theorem q283 : (Jvm.Cond.instantiable "ShareHouse$Names" (5 : Nat)) ∈ lw_all := lw_g (lw_at lw_m1 72 rfl) rfl
theorem q285 : (Jvm.Cond.instanceMethod ({ cls := "ShareHouse$Names", name := "<init>", desc := "()V" } : Jvm.MethodName)) ∈ lw_all := lw_g (lw_at lw_m1 74 rfl) rfl
theorem q286 : (Jvm.Cond.code ({ cls := "ShareHouse$Names", name := "<init>", desc := "()V" } : Jvm.MethodName) prog_9_method_1_code (1 : Nat) (Option.none : Option Jvm.ClassFile.FieldType)) ∈ lw_all := lw_g (lw_at lw_m1 75 rfl) rfl
theorem q287 : (Jvm.Cond.methodLink "ShareHouse$Names" (3 : Nat) ({ cls := "java/lang/Object", name := "<init>", desc := "()V" } : Jvm.MethodName)) ∈ lw_all := lw_g (lw_at lw_m1 76 rfl) rfl
theorem q288 : (Jvm.Cond.fieldLink "ShareHouse$Names" (9 : Nat) "ShareHouse$Names" "letters" "[B") ∈ lw_all := lw_g (lw_at lw_m1 77 rfl) rfl
theorem q289 : (Jvm.Cond.fieldLink "ShareHouse$Names" (15 : Nat) "ShareHouse$Names" "from" "[I") ∈ lw_all := lw_g (lw_at lw_m1 78 rfl) rfl
theorem q290 : (Jvm.Cond.fieldLink "ShareHouse$Names" (19 : Nat) "ShareHouse$Names" "sizes" "[I") ∈ lw_all := lw_g (lw_at lw_m1 79 rfl) rfl
theorem q291 : (Jvm.Cond.fieldLink "ShareHouse$Names" (22 : Nat) "ShareHouse$Names" "many" "I") ∈ lw_all := lw_g (lw_at lw_m1 80 rfl) rfl
theorem q292 : (Jvm.Cond.fieldLink "ShareHouse$Names" (26 : Nat) "ShareHouse$Names" "used" "I") ∈ lw_all := lw_g (lw_at lw_m1 81 rfl) rfl
theorem q293 : (Jvm.Cond.laysFinal "ShareHouse$Names" "ShareHouse$Names" "letters" "[B") ∈ lw_all := lw_g (lw_at lw_m1 82 rfl) rfl
theorem q294 : (Jvm.Cond.soleField "ShareHouse$Names" "letters") ∈ lw_all := lw_g (lw_at lw_m1 83 rfl) rfl
theorem q295 : (Jvm.Cond.laysFinal "ShareHouse$Names" "ShareHouse$Names" "from" "[I") ∈ lw_all := lw_g (lw_at lw_m1 84 rfl) rfl
theorem q296 : (Jvm.Cond.soleField "ShareHouse$Names" "from") ∈ lw_all := lw_g (lw_at lw_m1 85 rfl) rfl
theorem q297 : (Jvm.Cond.laysFinal "ShareHouse$Names" "ShareHouse$Names" "sizes" "[I") ∈ lw_all := lw_g (lw_at lw_m1 86 rfl) rfl
theorem q298 : (Jvm.Cond.soleField "ShareHouse$Names" "sizes") ∈ lw_all := lw_g (lw_at lw_m1 87 rfl) rfl
theorem q299 : (Jvm.Cond.lays "ShareHouse$Names" "ShareHouse$Names" "many" "I") ∈ lw_all := lw_g (lw_at lw_m1 88 rfl) rfl
theorem q300 : (Jvm.Cond.soleField "ShareHouse$Names" "many") ∈ lw_all := lw_g (lw_at lw_m1 89 rfl) rfl
theorem q301 : (Jvm.Cond.lays "ShareHouse$Names" "ShareHouse$Names" "used" "I") ∈ lw_all := lw_g (lw_at lw_m1 90 rfl) rfl
theorem q302 : (Jvm.Cond.soleField "ShareHouse$Names" "used") ∈ lw_all := lw_g (lw_at lw_m1 91 rfl) rfl
theorem q303 : (Jvm.Cond.superclass "ShareHouse$Names" "java/lang/Object") ∈ lw_all := lw_g (lw_at lw_m1 92 rfl) rfl
theorem q939 : (Jvm.Cond.instanceMethod ({ cls := "ShareHouse$Names", name := "clear", desc := "()V" } : Jvm.MethodName)) ∈ lw_all := lw_g (lw_at lw_m4 8 rfl) rfl
theorem q940 : (Jvm.Cond.selects "ShareHouse$Names" ({ cls := "ShareHouse$Names", name := "clear", desc := "()V" } : Jvm.MethodName) ({ cls := "ShareHouse$Names", name := "clear", desc := "()V" } : Jvm.MethodName)) ∈ lw_all := lw_g (lw_at lw_m4 9 rfl) rfl
theorem q941 : (Jvm.Cond.code ({ cls := "ShareHouse$Names", name := "clear", desc := "()V" } : Jvm.MethodName) prog_9_method_2_code (1 : Nat) (Option.none : Option Jvm.ClassFile.FieldType)) ∈ lw_all := lw_g (lw_at lw_m4 10 rfl) rfl
theorem q1059 : (Jvm.Cond.instanceMethod ({ cls := "ShareHouse$Names", name := "number", desc := "([BII)I" } : Jvm.MethodName)) ∈ lw_all := lw_g (lw_at lw_m4 128 rfl) rfl
theorem q1060 : (Jvm.Cond.selects "ShareHouse$Names" ({ cls := "ShareHouse$Names", name := "number", desc := "([BII)I" } : Jvm.MethodName) ({ cls := "ShareHouse$Names", name := "number", desc := "([BII)I" } : Jvm.MethodName)) ∈ lw_all := lw_g (lw_at lw_m4 129 rfl) rfl
theorem q1061 : (Jvm.Cond.code ({ cls := "ShareHouse$Names", name := "number", desc := "([BII)I" } : Jvm.MethodName) prog_9_method_3_code (5 : Nat) (Option.some Jvm.ClassFile.FieldType.int)) ∈ lw_all := lw_g (lw_at lw_m4 130 rfl) rfl
theorem q1062 : (Jvm.Cond.methodLink "ShareHouse$Names" (29 : Nat) ({ cls := "ShareHouse$Names", name := "is", desc := "(I[BII)Z" } : Jvm.MethodName)) ∈ lw_all := lw_g (lw_at lw_m4 131 rfl) rfl
theorem q1063 : (Jvm.Cond.privateMethod ({ cls := "ShareHouse$Names", name := "is", desc := "(I[BII)Z" } : Jvm.MethodName)) ∈ lw_tbl := lw_at lw_m4 132 rfl
theorem q1064 : (Jvm.Cond.instanceMethod ({ cls := "ShareHouse$Names", name := "is", desc := "(I[BII)Z" } : Jvm.MethodName)) ∈ lw_all := lw_g (lw_at lw_m4 133 rfl) rfl
theorem q1065 : (Jvm.Cond.code ({ cls := "ShareHouse$Names", name := "is", desc := "(I[BII)Z" } : Jvm.MethodName) prog_9_method_4_code (6 : Nat) (Option.some Jvm.ClassFile.FieldType.boolean)) ∈ lw_all := lw_g (lw_at lw_m4 134 rfl) rfl
theorem q1066 : (Jvm.Cond.methodLink "ShareHouse$Names" (33 : Nat) ({ cls := "java/lang/System", name := "arraycopy", desc := "(Ljava/lang/Object;ILjava/lang/Object;II)V" } : Jvm.MethodName)) ∈ lw_all := lw_g (lw_at lw_m4 135 rfl) rfl
theorem in_X3 : ∀ w ∈ wsX30, w ∈ lw_all := lw_in wsX30 [293, 295, 297, 299, 301] (by decide +kernel) (by decide +kernel)
theorem q215 : (Jvm.Cond.initialized "ShareHouse$Fault") ∈ lw_all := lw_g (lw_at lw_m1 4 rfl) rfl
theorem q305 : (Jvm.Cond.instantiable "ShareHouse$Fault" (2 : Nat)) ∈ lw_all := lw_g (lw_at lw_m1 94 rfl) rfl
theorem q307 : (Jvm.Cond.instanceMethod ({ cls := "ShareHouse$Fault", name := "<init>", desc := "()V" } : Jvm.MethodName)) ∈ lw_all := lw_g (lw_at lw_m1 96 rfl) rfl
theorem q308 : (Jvm.Cond.code ({ cls := "ShareHouse$Fault", name := "<init>", desc := "()V" } : Jvm.MethodName) prog_8_method_1_code (1 : Nat) (Option.none : Option Jvm.ClassFile.FieldType)) ∈ lw_all := lw_g (lw_at lw_m1 97 rfl) rfl
theorem q309 : (Jvm.Cond.methodLink "ShareHouse$Fault" (3 : Nat) ({ cls := "java/lang/Object", name := "<init>", desc := "()V" } : Jvm.MethodName)) ∈ lw_all := lw_g (lw_at lw_m1 98 rfl) rfl
theorem q310 : (Jvm.Cond.fieldLink "ShareHouse$Fault" (9 : Nat) "ShareHouse$Fault" "what" "I") ∈ lw_all := lw_g (lw_at lw_m1 99 rfl) rfl
theorem q312 : (Jvm.Cond.fieldLink "ShareHouse$Fault" (15 : Nat) "ShareHouse$Fault" "place" "I") ∈ lw_all := lw_g (lw_at lw_m1 101 rfl) rfl
theorem q314 : (Jvm.Cond.lays "ShareHouse$Fault" "ShareHouse$Fault" "what" "I") ∈ lw_all := lw_g (lw_at lw_m1 103 rfl) rfl
theorem q315 : (Jvm.Cond.soleField "ShareHouse$Fault" "what") ∈ lw_all := lw_g (lw_at lw_m1 104 rfl) rfl
theorem q316 : (Jvm.Cond.lays "ShareHouse$Fault" "ShareHouse$Fault" "place" "I") ∈ lw_all := lw_g (lw_at lw_m1 105 rfl) rfl
theorem q317 : (Jvm.Cond.soleField "ShareHouse$Fault" "place") ∈ lw_all := lw_g (lw_at lw_m1 106 rfl) rfl
theorem q318 : (Jvm.Cond.superclass "ShareHouse$Fault" "java/lang/Object") ∈ lw_all := lw_g (lw_at lw_m1 107 rfl) rfl
theorem q844 : (Jvm.Cond.instanceMethod ({ cls := "ShareHouse$Fault", name := "clear", desc := "()V" } : Jvm.MethodName)) ∈ lw_all := lw_g (lw_at lw_m3 153 rfl) rfl
theorem q845 : (Jvm.Cond.selects "ShareHouse$Fault" ({ cls := "ShareHouse$Fault", name := "clear", desc := "()V" } : Jvm.MethodName) ({ cls := "ShareHouse$Fault", name := "clear", desc := "()V" } : Jvm.MethodName)) ∈ lw_all := lw_g (lw_at lw_m3 154 rfl) rfl
theorem q846 : (Jvm.Cond.code ({ cls := "ShareHouse$Fault", name := "clear", desc := "()V" } : Jvm.MethodName) prog_8_method_2_code (1 : Nat) (Option.none : Option Jvm.ClassFile.FieldType)) ∈ lw_all := lw_g (lw_at lw_m3 155 rfl) rfl
theorem q956 : (Jvm.Cond.instanceMethod ({ cls := "ShareHouse$Fault", name := "is", desc := "()Z" } : Jvm.MethodName)) ∈ lw_all := lw_g (lw_at lw_m4 25 rfl) rfl
theorem q957 : (Jvm.Cond.selects "ShareHouse$Fault" ({ cls := "ShareHouse$Fault", name := "is", desc := "()Z" } : Jvm.MethodName) ({ cls := "ShareHouse$Fault", name := "is", desc := "()Z" } : Jvm.MethodName)) ∈ lw_all := lw_g (lw_at lw_m4 26 rfl) rfl
theorem q958 : (Jvm.Cond.code ({ cls := "ShareHouse$Fault", name := "is", desc := "()Z" } : Jvm.MethodName) prog_8_method_4_code (1 : Nat) (Option.some Jvm.ClassFile.FieldType.boolean)) ∈ lw_all := lw_g (lw_at lw_m4 27 rfl) rfl
theorem q1055 : (Jvm.Cond.instanceMethod ({ cls := "ShareHouse$Fault", name := "set", desc := "(II)V" } : Jvm.MethodName)) ∈ lw_all := lw_g (lw_at lw_m4 124 rfl) rfl
theorem q1056 : (Jvm.Cond.selects "ShareHouse$Fault" ({ cls := "ShareHouse$Fault", name := "set", desc := "(II)V" } : Jvm.MethodName) ({ cls := "ShareHouse$Fault", name := "set", desc := "(II)V" } : Jvm.MethodName)) ∈ lw_all := lw_g (lw_at lw_m4 125 rfl) rfl
theorem q1057 : (Jvm.Cond.code ({ cls := "ShareHouse$Fault", name := "set", desc := "(II)V" } : Jvm.MethodName) prog_8_method_3_code (3 : Nat) (Option.none : Option Jvm.ClassFile.FieldType)) ∈ lw_all := lw_g (lw_at lw_m4 126 rfl) rfl
theorem in_X4 : ∀ w ∈ wsX40, w ∈ lw_all := lw_in wsX40 [314, 316] (by decide +kernel) (by decide +kernel)
theorem q216 : (Jvm.Cond.initialized "ShareHouse$Circuit") ∈ lw_all := lw_g (lw_at lw_m1 5 rfl) rfl
theorem q320 : (Jvm.Cond.instantiable "ShareHouse$Circuit" (9 : Nat)) ∈ lw_all := lw_g (lw_at lw_m1 109 rfl) rfl
theorem q322 : (Jvm.Cond.instanceMethod ({ cls := "ShareHouse$Circuit", name := "<init>", desc := "()V" } : Jvm.MethodName)) ∈ lw_all := lw_g (lw_at lw_m1 111 rfl) rfl
theorem q323 : (Jvm.Cond.code ({ cls := "ShareHouse$Circuit", name := "<init>", desc := "()V" } : Jvm.MethodName) prog_5_method_1_code (1 : Nat) (Option.none : Option Jvm.ClassFile.FieldType)) ∈ lw_all := lw_g (lw_at lw_m1 112 rfl) rfl
theorem q324 : (Jvm.Cond.methodLink "ShareHouse$Circuit" (3 : Nat) ({ cls := "java/lang/Object", name := "<init>", desc := "()V" } : Jvm.MethodName)) ∈ lw_all := lw_g (lw_at lw_m1 113 rfl) rfl
theorem q325 : (Jvm.Cond.constant "ShareHouse$Circuit" (9 : Nat) (40000 : Int32)) ∈ lw_all := lw_g (lw_at lw_m1 114 rfl) rfl
theorem q326 : (Jvm.Cond.fieldLink "ShareHouse$Circuit" (10 : Nat) "ShareHouse$Circuit" "left" "[I") ∈ lw_all := lw_g (lw_at lw_m1 115 rfl) rfl
theorem q329 : (Jvm.Cond.fieldLink "ShareHouse$Circuit" (16 : Nat) "ShareHouse$Circuit" "right" "[I") ∈ lw_all := lw_g (lw_at lw_m1 118 rfl) rfl
theorem q332 : (Jvm.Cond.fieldLink "ShareHouse$Circuit" (19 : Nat) "ShareHouse$Circuit" "levels" "[S") ∈ lw_all := lw_g (lw_at lw_m1 121 rfl) rfl
theorem q335 : (Jvm.Cond.fieldLink "ShareHouse$Circuit" (23 : Nat) "ShareHouse$Circuit" "ands" "[Z") ∈ lw_all := lw_g (lw_at lw_m1 124 rfl) rfl
theorem q339 : (Jvm.Cond.fieldLink "ShareHouse$Circuit" (27 : Nat) "ShareHouse$Circuit" "gates" "I") ∈ lw_all := lw_g (lw_at lw_m1 128 rfl) rfl
theorem q342 : (Jvm.Cond.fieldLink "ShareHouse$Circuit" (31 : Nat) "ShareHouse$Circuit" "many" "I") ∈ lw_all := lw_g (lw_at lw_m1 131 rfl) rfl
theorem q345 : (Jvm.Cond.fieldLink "ShareHouse$Circuit" (37 : Nat) "ShareHouse$Circuit" "inputs" "I") ∈ lw_all := lw_g (lw_at lw_m1 134 rfl) rfl
theorem q348 : (Jvm.Cond.fieldLink "ShareHouse$Circuit" (34 : Nat) "ShareHouse$Circuit" "deepest" "I") ∈ lw_all := lw_g (lw_at lw_m1 137 rfl) rfl
theorem q352 : (Jvm.Cond.fieldLink "ShareHouse$Circuit" (40 : Nat) "ShareHouse$Circuit" "full" "Z") ∈ lw_all := lw_g (lw_at lw_m1 141 rfl) rfl
theorem q354 : (Jvm.Cond.laysFinal "ShareHouse$Circuit" "ShareHouse$Circuit" "left" "[I") ∈ lw_all := lw_g (lw_at lw_m1 143 rfl) rfl
theorem q355 : (Jvm.Cond.soleField "ShareHouse$Circuit" "left") ∈ lw_all := lw_g (lw_at lw_m1 144 rfl) rfl
theorem q356 : (Jvm.Cond.laysFinal "ShareHouse$Circuit" "ShareHouse$Circuit" "right" "[I") ∈ lw_all := lw_g (lw_at lw_m1 145 rfl) rfl
theorem q357 : (Jvm.Cond.soleField "ShareHouse$Circuit" "right") ∈ lw_all := lw_g (lw_at lw_m1 146 rfl) rfl
theorem q358 : (Jvm.Cond.laysFinal "ShareHouse$Circuit" "ShareHouse$Circuit" "levels" "[S") ∈ lw_all := lw_g (lw_at lw_m1 147 rfl) rfl
theorem q359 : (Jvm.Cond.soleField "ShareHouse$Circuit" "levels") ∈ lw_all := lw_g (lw_at lw_m1 148 rfl) rfl
theorem q360 : (Jvm.Cond.laysFinal "ShareHouse$Circuit" "ShareHouse$Circuit" "ands" "[Z") ∈ lw_all := lw_g (lw_at lw_m1 149 rfl) rfl
theorem q361 : (Jvm.Cond.soleField "ShareHouse$Circuit" "ands") ∈ lw_all := lw_g (lw_at lw_m1 150 rfl) rfl
theorem q362 : (Jvm.Cond.lays "ShareHouse$Circuit" "ShareHouse$Circuit" "gates" "I") ∈ lw_all := lw_g (lw_at lw_m1 151 rfl) rfl
theorem q363 : (Jvm.Cond.soleField "ShareHouse$Circuit" "gates") ∈ lw_all := lw_g (lw_at lw_m1 152 rfl) rfl
theorem q364 : (Jvm.Cond.lays "ShareHouse$Circuit" "ShareHouse$Circuit" "many" "I") ∈ lw_all := lw_g (lw_at lw_m1 153 rfl) rfl
theorem q365 : (Jvm.Cond.soleField "ShareHouse$Circuit" "many") ∈ lw_all := lw_g (lw_at lw_m1 154 rfl) rfl
theorem q366 : (Jvm.Cond.lays "ShareHouse$Circuit" "ShareHouse$Circuit" "inputs" "I") ∈ lw_all := lw_g (lw_at lw_m1 155 rfl) rfl
theorem q367 : (Jvm.Cond.soleField "ShareHouse$Circuit" "inputs") ∈ lw_all := lw_g (lw_at lw_m1 156 rfl) rfl
theorem q368 : (Jvm.Cond.lays "ShareHouse$Circuit" "ShareHouse$Circuit" "deepest" "I") ∈ lw_all := lw_g (lw_at lw_m1 157 rfl) rfl
theorem q369 : (Jvm.Cond.soleField "ShareHouse$Circuit" "deepest") ∈ lw_all := lw_g (lw_at lw_m1 158 rfl) rfl
theorem q370 : (Jvm.Cond.lays "ShareHouse$Circuit" "ShareHouse$Circuit" "full" "Z") ∈ lw_all := lw_g (lw_at lw_m1 159 rfl) rfl
theorem q371 : (Jvm.Cond.soleField "ShareHouse$Circuit" "full") ∈ lw_all := lw_g (lw_at lw_m1 160 rfl) rfl
theorem q372 : (Jvm.Cond.superclass "ShareHouse$Circuit" "java/lang/Object") ∈ lw_all := lw_g (lw_at lw_m1 161 rfl) rfl
theorem q1428 : (Jvm.Cond.instanceMethod ({ cls := "ShareHouse$Circuit", name := "clear", desc := "(I)V" } : Jvm.MethodName)) ∈ lw_all := lw_g (lw_at lw_m6 17 rfl) rfl
theorem q1429 : (Jvm.Cond.selects "ShareHouse$Circuit" ({ cls := "ShareHouse$Circuit", name := "clear", desc := "(I)V" } : Jvm.MethodName) ({ cls := "ShareHouse$Circuit", name := "clear", desc := "(I)V" } : Jvm.MethodName)) ∈ lw_all := lw_g (lw_at lw_m6 18 rfl) rfl
theorem q1430 : (Jvm.Cond.code ({ cls := "ShareHouse$Circuit", name := "clear", desc := "(I)V" } : Jvm.MethodName) prog_5_method_2_code (2 : Nat) (Option.none : Option Jvm.ClassFile.FieldType)) ∈ lw_all := lw_g (lw_at lw_m6 19 rfl) rfl
theorem q1451 : (Jvm.Cond.instanceMethod ({ cls := "ShareHouse$Circuit", name := "xor", desc := "(II)I" } : Jvm.MethodName)) ∈ lw_all := lw_g (lw_at lw_m6 40 rfl) rfl
theorem q1452 : (Jvm.Cond.selects "ShareHouse$Circuit" ({ cls := "ShareHouse$Circuit", name := "xor", desc := "(II)I" } : Jvm.MethodName) ({ cls := "ShareHouse$Circuit", name := "xor", desc := "(II)I" } : Jvm.MethodName)) ∈ lw_all := lw_g (lw_at lw_m6 41 rfl) rfl
theorem q1453 : (Jvm.Cond.code ({ cls := "ShareHouse$Circuit", name := "xor", desc := "(II)I" } : Jvm.MethodName) prog_5_method_5_code (3 : Nat) (Option.some Jvm.ClassFile.FieldType.int)) ∈ lw_all := lw_g (lw_at lw_m6 42 rfl) rfl
theorem q1454 : (Jvm.Cond.methodLink "ShareHouse$Circuit" (54 : Nat) ({ cls := "ShareHouse$Circuit", name := "gate", desc := "(ZII)I" } : Jvm.MethodName)) ∈ lw_all := lw_g (lw_at lw_m6 43 rfl) rfl
theorem q1455 : (Jvm.Cond.privateMethod ({ cls := "ShareHouse$Circuit", name := "gate", desc := "(ZII)I" } : Jvm.MethodName)) ∈ lw_tbl := lw_at lw_m6 44 rfl
theorem q1456 : (Jvm.Cond.instanceMethod ({ cls := "ShareHouse$Circuit", name := "gate", desc := "(ZII)I" } : Jvm.MethodName)) ∈ lw_all := lw_g (lw_at lw_m6 45 rfl) rfl
theorem q1457 : (Jvm.Cond.code ({ cls := "ShareHouse$Circuit", name := "gate", desc := "(ZII)I" } : Jvm.MethodName) prog_5_method_3_code (5 : Nat) (Option.some Jvm.ClassFile.FieldType.int)) ∈ lw_all := lw_g (lw_at lw_m6 46 rfl) rfl
theorem q1458 : (Jvm.Cond.methodLink "ShareHouse$Circuit" (44 : Nat) ({ cls := "ShareHouse$Circuit", name := "levelOf", desc := "(I)I" } : Jvm.MethodName)) ∈ lw_all := lw_g (lw_at lw_m6 47 rfl) rfl
theorem q1459 : (Jvm.Cond.instanceMethod ({ cls := "ShareHouse$Circuit", name := "levelOf", desc := "(I)I" } : Jvm.MethodName)) ∈ lw_all := lw_g (lw_at lw_m6 48 rfl) rfl
theorem q1460 : (Jvm.Cond.selects "ShareHouse$Circuit" ({ cls := "ShareHouse$Circuit", name := "levelOf", desc := "(I)I" } : Jvm.MethodName) ({ cls := "ShareHouse$Circuit", name := "levelOf", desc := "(I)I" } : Jvm.MethodName)) ∈ lw_all := lw_g (lw_at lw_m6 49 rfl) rfl
theorem q1461 : (Jvm.Cond.code ({ cls := "ShareHouse$Circuit", name := "levelOf", desc := "(I)I" } : Jvm.MethodName) prog_5_method_4_code (2 : Nat) (Option.some Jvm.ClassFile.FieldType.int)) ∈ lw_all := lw_g (lw_at lw_m6 50 rfl) rfl
theorem q1462 : (Jvm.Cond.methodLink "ShareHouse$Circuit" (48 : Nat) ({ cls := "java/lang/Math", name := "max", desc := "(II)I" } : Jvm.MethodName)) ∈ lw_all := lw_g (lw_at lw_m6 51 rfl) rfl
theorem q1464 : (Jvm.Cond.instanceMethod ({ cls := "ShareHouse$Circuit", name := "and", desc := "(II)I" } : Jvm.MethodName)) ∈ lw_all := lw_g (lw_at lw_m6 53 rfl) rfl
theorem q1465 : (Jvm.Cond.selects "ShareHouse$Circuit" ({ cls := "ShareHouse$Circuit", name := "and", desc := "(II)I" } : Jvm.MethodName) ({ cls := "ShareHouse$Circuit", name := "and", desc := "(II)I" } : Jvm.MethodName)) ∈ lw_all := lw_g (lw_at lw_m6 54 rfl) rfl
theorem q1466 : (Jvm.Cond.code ({ cls := "ShareHouse$Circuit", name := "and", desc := "(II)I" } : Jvm.MethodName) prog_5_method_6_code (3 : Nat) (Option.some Jvm.ClassFile.FieldType.int)) ∈ lw_all := lw_g (lw_at lw_m6 55 rfl) rfl
theorem q1481 : (Jvm.Cond.instanceMethod ({ cls := "ShareHouse$Circuit", name := "mux", desc := "(III)I" } : Jvm.MethodName)) ∈ lw_all := lw_g (lw_at lw_m6 70 rfl) rfl
theorem q1482 : (Jvm.Cond.selects "ShareHouse$Circuit" ({ cls := "ShareHouse$Circuit", name := "mux", desc := "(III)I" } : Jvm.MethodName) ({ cls := "ShareHouse$Circuit", name := "mux", desc := "(III)I" } : Jvm.MethodName)) ∈ lw_all := lw_g (lw_at lw_m6 71 rfl) rfl
theorem q1483 : (Jvm.Cond.code ({ cls := "ShareHouse$Circuit", name := "mux", desc := "(III)I" } : Jvm.MethodName) prog_5_method_8_code (4 : Nat) (Option.some Jvm.ClassFile.FieldType.int)) ∈ lw_all := lw_g (lw_at lw_m6 72 rfl) rfl
theorem q1484 : (Jvm.Cond.methodLink "ShareHouse$Circuit" (61 : Nat) ({ cls := "ShareHouse$Circuit", name := "xor", desc := "(II)I" } : Jvm.MethodName)) ∈ lw_all := lw_g (lw_at lw_m6 73 rfl) rfl
theorem q1485 : (Jvm.Cond.methodLink "ShareHouse$Circuit" (58 : Nat) ({ cls := "ShareHouse$Circuit", name := "and", desc := "(II)I" } : Jvm.MethodName)) ∈ lw_all := lw_g (lw_at lw_m6 74 rfl) rfl
theorem q1517 : (Jvm.Cond.instanceMethod ({ cls := "ShareHouse$Circuit", name := "or", desc := "(II)I" } : Jvm.MethodName)) ∈ lw_all := lw_g (lw_at lw_m6 106 rfl) rfl
theorem q1518 : (Jvm.Cond.selects "ShareHouse$Circuit" ({ cls := "ShareHouse$Circuit", name := "or", desc := "(II)I" } : Jvm.MethodName) ({ cls := "ShareHouse$Circuit", name := "or", desc := "(II)I" } : Jvm.MethodName)) ∈ lw_all := lw_g (lw_at lw_m6 107 rfl) rfl
theorem q1519 : (Jvm.Cond.code ({ cls := "ShareHouse$Circuit", name := "or", desc := "(II)I" } : Jvm.MethodName) prog_5_method_7_code (3 : Nat) (Option.some Jvm.ClassFile.FieldType.int)) ∈ lw_all := lw_g (lw_at lw_m6 108 rfl) rfl
theorem in_X5 : ∀ w ∈ wsX50, w ∈ lw_all := lw_in wsX50 [354, 356, 358, 360, 362, 364, 366, 368, 370] (by decide +kernel) (by decide +kernel)
theorem q217 : (Jvm.Cond.initialized "ShareHouse$Draws") ∈ lw_all := lw_g (lw_at lw_m1 6 rfl) rfl
theorem q376 : (Jvm.Cond.instantiable "ShareHouse$Draws" (4 : Nat)) ∈ lw_all := lw_g (lw_at lw_m1 165 rfl) rfl
theorem q378 : (Jvm.Cond.instanceMethod ({ cls := "ShareHouse$Draws", name := "<init>", desc := "()V" } : Jvm.MethodName)) ∈ lw_all := lw_g (lw_at lw_m1 167 rfl) rfl
theorem q379 : (Jvm.Cond.code ({ cls := "ShareHouse$Draws", name := "<init>", desc := "()V" } : Jvm.MethodName) prog_7_method_1_code (1 : Nat) (Option.none : Option Jvm.ClassFile.FieldType)) ∈ lw_all := lw_g (lw_at lw_m1 168 rfl) rfl
theorem q380 : (Jvm.Cond.methodLink "ShareHouse$Draws" (3 : Nat) ({ cls := "java/lang/Object", name := "<init>", desc := "()V" } : Jvm.MethodName)) ∈ lw_all := lw_g (lw_at lw_m1 169 rfl) rfl
theorem q381 : (Jvm.Cond.classLink "ShareHouse$Draws" (9 : Nat) "ShareHouse$Bits") ∈ lw_all := lw_g (lw_at lw_m1 170 rfl) rfl
theorem q383 : (Jvm.Cond.methodLink "ShareHouse$Draws" (11 : Nat) ({ cls := "ShareHouse$Bits", name := "<init>", desc := "(I)V" } : Jvm.MethodName)) ∈ lw_all := lw_g (lw_at lw_m1 172 rfl) rfl
theorem q392 : (Jvm.Cond.fieldLink "ShareHouse$Draws" (14 : Nat) "ShareHouse$Draws" "waiting" "LShareHouse$Bits;") ∈ lw_all := lw_g (lw_at lw_m1 181 rfl) rfl
theorem q393 : (Jvm.Cond.fieldLink "ShareHouse$Draws" (27 : Nat) "ShareHouse$Draws" "first" "I") ∈ lw_all := lw_g (lw_at lw_m1 182 rfl) rfl
theorem q394 : (Jvm.Cond.fieldLink "ShareHouse$Draws" (24 : Nat) "ShareHouse$Draws" "many" "I") ∈ lw_all := lw_g (lw_at lw_m1 183 rfl) rfl
theorem q396 : (Jvm.Cond.fieldLink "ShareHouse$Draws" (20 : Nat) "ShareHouse$Draws" "seed" "I") ∈ lw_all := lw_g (lw_at lw_m1 185 rfl) rfl
theorem q398 : (Jvm.Cond.laysFinal "ShareHouse$Draws" "ShareHouse$Draws" "waiting" "LShareHouse$Bits;") ∈ lw_all := lw_g (lw_at lw_m1 187 rfl) rfl
theorem q399 : (Jvm.Cond.soleField "ShareHouse$Draws" "waiting") ∈ lw_all := lw_g (lw_at lw_m1 188 rfl) rfl
theorem q400 : (Jvm.Cond.lays "ShareHouse$Draws" "ShareHouse$Draws" "first" "I") ∈ lw_all := lw_g (lw_at lw_m1 189 rfl) rfl
theorem q401 : (Jvm.Cond.soleField "ShareHouse$Draws" "first") ∈ lw_all := lw_g (lw_at lw_m1 190 rfl) rfl
theorem q402 : (Jvm.Cond.lays "ShareHouse$Draws" "ShareHouse$Draws" "many" "I") ∈ lw_all := lw_g (lw_at lw_m1 191 rfl) rfl
theorem q403 : (Jvm.Cond.soleField "ShareHouse$Draws" "many") ∈ lw_all := lw_g (lw_at lw_m1 192 rfl) rfl
theorem q404 : (Jvm.Cond.lays "ShareHouse$Draws" "ShareHouse$Draws" "seed" "I") ∈ lw_all := lw_g (lw_at lw_m1 193 rfl) rfl
theorem q405 : (Jvm.Cond.soleField "ShareHouse$Draws" "seed") ∈ lw_all := lw_g (lw_at lw_m1 194 rfl) rfl
theorem q406 : (Jvm.Cond.superclass "ShareHouse$Draws" "java/lang/Object") ∈ lw_all := lw_g (lw_at lw_m1 195 rfl) rfl
theorem q1674 : (Jvm.Cond.instanceMethod ({ cls := "ShareHouse$Draws", name := "add", desc := "(JI)Z" } : Jvm.MethodName)) ∈ lw_all := lw_g (lw_at lw_m7 23 rfl) rfl
theorem q1675 : (Jvm.Cond.selects "ShareHouse$Draws" ({ cls := "ShareHouse$Draws", name := "add", desc := "(JI)Z" } : Jvm.MethodName) ({ cls := "ShareHouse$Draws", name := "add", desc := "(JI)Z" } : Jvm.MethodName)) ∈ lw_all := lw_g (lw_at lw_m7 24 rfl) rfl
theorem q1676 : (Jvm.Cond.code ({ cls := "ShareHouse$Draws", name := "add", desc := "(JI)Z" } : Jvm.MethodName) prog_7_method_2_code (5 : Nat) (Option.some Jvm.ClassFile.FieldType.boolean)) ∈ lw_all := lw_g (lw_at lw_m7 25 rfl) rfl
theorem q1677 : (Jvm.Cond.methodLink "ShareHouse$Draws" (30 : Nat) ({ cls := "ShareHouse$Bits", name := "set", desc := "(II)V" } : Jvm.MethodName)) ∈ lw_all := lw_g (lw_at lw_m7 26 rfl) rfl
theorem q1692 : (Jvm.Cond.instanceMethod ({ cls := "ShareHouse$Draws", name := "draw", desc := "()I" } : Jvm.MethodName)) ∈ lw_all := lw_g (lw_at lw_m7 41 rfl) rfl
theorem q1693 : (Jvm.Cond.selects "ShareHouse$Draws" ({ cls := "ShareHouse$Draws", name := "draw", desc := "()I" } : Jvm.MethodName) ({ cls := "ShareHouse$Draws", name := "draw", desc := "()I" } : Jvm.MethodName)) ∈ lw_all := lw_g (lw_at lw_m7 42 rfl) rfl
theorem q1694 : (Jvm.Cond.code ({ cls := "ShareHouse$Draws", name := "draw", desc := "()I" } : Jvm.MethodName) prog_7_method_3_code (2 : Nat) (Option.some Jvm.ClassFile.FieldType.int)) ∈ lw_all := lw_g (lw_at lw_m7 43 rfl) rfl
theorem q1695 : (Jvm.Cond.methodLink "ShareHouse$Draws" (34 : Nat) ({ cls := "ShareHouse$Bits", name := "get", desc := "(I)I" } : Jvm.MethodName)) ∈ lw_all := lw_g (lw_at lw_m7 44 rfl) rfl
theorem q1699 : (Jvm.Cond.constant "ShareHouse$Draws" (38 : Nat) (1103515245 : Int32)) ∈ lw_all := lw_g (lw_at lw_m7 48 rfl) rfl
theorem in_X6 : ∀ w ∈ wsX60, w ∈ lw_all := lw_in wsX60 [398, 400, 402, 404] (by decide +kernel) (by decide +kernel)
theorem q218 : (Jvm.Cond.initialized "ShareHouse$Bits") ∈ lw_all := lw_g (lw_at lw_m1 7 rfl) rfl
theorem q382 : (Jvm.Cond.instantiable "ShareHouse$Bits" (1 : Nat)) ∈ lw_all := lw_g (lw_at lw_m1 171 rfl) rfl
theorem q384 : (Jvm.Cond.instanceMethod ({ cls := "ShareHouse$Bits", name := "<init>", desc := "(I)V" } : Jvm.MethodName)) ∈ lw_all := lw_g (lw_at lw_m1 173 rfl) rfl
theorem q385 : (Jvm.Cond.code ({ cls := "ShareHouse$Bits", name := "<init>", desc := "(I)V" } : Jvm.MethodName) prog_2_method_1_code (2 : Nat) (Option.none : Option Jvm.ClassFile.FieldType)) ∈ lw_all := lw_g (lw_at lw_m1 174 rfl) rfl
theorem q386 : (Jvm.Cond.methodLink "ShareHouse$Bits" (1 : Nat) ({ cls := "java/lang/Object", name := "<init>", desc := "()V" } : Jvm.MethodName)) ∈ lw_all := lw_g (lw_at lw_m1 175 rfl) rfl
theorem q387 : (Jvm.Cond.fieldLink "ShareHouse$Bits" (7 : Nat) "ShareHouse$Bits" "words" "[J") ∈ lw_all := lw_g (lw_at lw_m1 176 rfl) rfl
theorem q388 : (Jvm.Cond.laysFinal "ShareHouse$Bits" "ShareHouse$Bits" "words" "[J") ∈ lw_all := lw_g (lw_at lw_m1 177 rfl) rfl
theorem q389 : (Jvm.Cond.soleField "ShareHouse$Bits" "words") ∈ lw_all := lw_g (lw_at lw_m1 178 rfl) rfl
theorem q390 : (Jvm.Cond.superclass "ShareHouse$Bits" "java/lang/Object") ∈ lw_all := lw_g (lw_at lw_m1 179 rfl) rfl
theorem q1678 : (Jvm.Cond.instanceMethod ({ cls := "ShareHouse$Bits", name := "set", desc := "(II)V" } : Jvm.MethodName)) ∈ lw_all := lw_g (lw_at lw_m7 27 rfl) rfl
theorem q1679 : (Jvm.Cond.selects "ShareHouse$Bits" ({ cls := "ShareHouse$Bits", name := "set", desc := "(II)V" } : Jvm.MethodName) ({ cls := "ShareHouse$Bits", name := "set", desc := "(II)V" } : Jvm.MethodName)) ∈ lw_all := lw_g (lw_at lw_m7 28 rfl) rfl
theorem q1680 : (Jvm.Cond.code ({ cls := "ShareHouse$Bits", name := "set", desc := "(II)V" } : Jvm.MethodName) prog_2_method_3_code (3 : Nat) (Option.none : Option Jvm.ClassFile.FieldType)) ∈ lw_all := lw_g (lw_at lw_m7 29 rfl) rfl
theorem q1681 : (Jvm.Cond.constantLong "ShareHouse$Bits" (13 : Nat) (-1 : Int64)) ∈ lw_all := lw_g (lw_at lw_m7 30 rfl) rfl
theorem q1696 : (Jvm.Cond.instanceMethod ({ cls := "ShareHouse$Bits", name := "get", desc := "(I)I" } : Jvm.MethodName)) ∈ lw_all := lw_g (lw_at lw_m7 45 rfl) rfl
theorem q1697 : (Jvm.Cond.selects "ShareHouse$Bits" ({ cls := "ShareHouse$Bits", name := "get", desc := "(I)I" } : Jvm.MethodName) ({ cls := "ShareHouse$Bits", name := "get", desc := "(I)I" } : Jvm.MethodName)) ∈ lw_all := lw_g (lw_at lw_m7 46 rfl) rfl
theorem q1698 : (Jvm.Cond.code ({ cls := "ShareHouse$Bits", name := "get", desc := "(I)I" } : Jvm.MethodName) prog_2_method_2_code (2 : Nat) (Option.some Jvm.ClassFile.FieldType.int)) ∈ lw_all := lw_g (lw_at lw_m7 47 rfl) rfl
theorem in_X7 : ∀ w ∈ wsX70, w ∈ lw_all := lw_in wsX70 [388] (by decide +kernel) (by decide +kernel)
theorem q220 : (Jvm.Cond.initialized "ShareHouse$Reader") ∈ lw_all := lw_g (lw_at lw_m1 9 rfl) rfl
theorem q265 : (Jvm.Cond.fieldLinkNest "ShareHouse$Reader" (217 : Nat) "ShareHouse$Code" "more" "[I" "ShareHouse") ∈ lw_tbl := lw_at lw_m1 54 rfl
theorem q417 : (Jvm.Cond.instantiable "ShareHouse$Reader" (16 : Nat)) ∈ lw_all := lw_g (lw_at lw_m1 206 rfl) rfl
theorem q419 : (Jvm.Cond.instanceMethod ({ cls := "ShareHouse$Reader", name := "<init>", desc := "(ILShareHouse$Code;LShareHouse$Names;LShareHouse$Fault;)V" } : Jvm.MethodName)) ∈ lw_all := lw_g (lw_at lw_m1 208 rfl) rfl
theorem q420 : (Jvm.Cond.code ({ cls := "ShareHouse$Reader", name := "<init>", desc := "(ILShareHouse$Code;LShareHouse$Names;LShareHouse$Fault;)V" } : Jvm.MethodName) prog_13_method_1_code (5 : Nat) (Option.none : Option Jvm.ClassFile.FieldType)) ∈ lw_all := lw_g (lw_at lw_m1 209 rfl) rfl
theorem q421 : (Jvm.Cond.methodLink "ShareHouse$Reader" (3 : Nat) ({ cls := "java/lang/Object", name := "<init>", desc := "()V" } : Jvm.MethodName)) ∈ lw_all := lw_g (lw_at lw_m1 210 rfl) rfl
theorem q422 : (Jvm.Cond.fieldLink "ShareHouse$Reader" (9 : Nat) "ShareHouse$Reader" "text" "[B") ∈ lw_all := lw_g (lw_at lw_m1 211 rfl) rfl
theorem q423 : (Jvm.Cond.fieldLink "ShareHouse$Reader" (34 : Nat) "ShareHouse$Reader" "size" "I") ∈ lw_all := lw_g (lw_at lw_m1 212 rfl) rfl
theorem q424 : (Jvm.Cond.fieldLink "ShareHouse$Reader" (31 : Nat) "ShareHouse$Reader" "at" "I") ∈ lw_all := lw_g (lw_at lw_m1 213 rfl) rfl
theorem q425 : (Jvm.Cond.fieldLink "ShareHouse$Reader" (130 : Nat) "ShareHouse$Reader" "deep" "I") ∈ lw_all := lw_g (lw_at lw_m1 214 rfl) rfl
theorem q426 : (Jvm.Cond.fieldLink "ShareHouse$Reader" (139 : Nat) "ShareHouse$Reader" "inputs" "I") ∈ lw_all := lw_g (lw_at lw_m1 215 rfl) rfl
theorem q427 : (Jvm.Cond.fieldLink "ShareHouse$Reader" (142 : Nat) "ShareHouse$Reader" "vars" "I") ∈ lw_all := lw_g (lw_at lw_m1 216 rfl) rfl
theorem q428 : (Jvm.Cond.fieldLink "ShareHouse$Reader" (15 : Nat) "ShareHouse$Reader" "parties" "I") ∈ lw_all := lw_g (lw_at lw_m1 217 rfl) rfl
theorem q429 : (Jvm.Cond.fieldLink "ShareHouse$Reader" (19 : Nat) "ShareHouse$Reader" "code" "LShareHouse$Code;") ∈ lw_all := lw_g (lw_at lw_m1 218 rfl) rfl
theorem q430 : (Jvm.Cond.fieldLink "ShareHouse$Reader" (23 : Nat) "ShareHouse$Reader" "names" "LShareHouse$Names;") ∈ lw_all := lw_g (lw_at lw_m1 219 rfl) rfl
theorem q431 : (Jvm.Cond.fieldLink "ShareHouse$Reader" (27 : Nat) "ShareHouse$Reader" "fault" "LShareHouse$Fault;") ∈ lw_all := lw_g (lw_at lw_m1 220 rfl) rfl
theorem q432 : (Jvm.Cond.fieldLink "ShareHouse$Reader" (114 : Nat) "ShareHouse$Reader" "place" "I") ∈ lw_all := lw_g (lw_at lw_m1 221 rfl) rfl
theorem q433 : (Jvm.Cond.fieldLink "ShareHouse$Reader" (172 : Nat) "ShareHouse$Reader" "sort" "I") ∈ lw_all := lw_g (lw_at lw_m1 222 rfl) rfl
theorem q434 : (Jvm.Cond.fieldLink "ShareHouse$Reader" (174 : Nat) "ShareHouse$Reader" "many" "I") ∈ lw_all := lw_g (lw_at lw_m1 223 rfl) rfl
theorem q435 : (Jvm.Cond.fieldLink "ShareHouse$Reader" (305 : Nat) "ShareHouse$Reader" "operator" "LShareHouse$Op;") ∈ lw_all := lw_g (lw_at lw_m1 224 rfl) rfl
theorem q436 : (Jvm.Cond.fieldLink "ShareHouse$Reader" (308 : Nat) "ShareHouse$Reader" "signs" "I") ∈ lw_all := lw_g (lw_at lw_m1 225 rfl) rfl
theorem q437 : (Jvm.Cond.fieldLink "ShareHouse$Reader" (311 : Nat) "ShareHouse$Reader" "rank" "I") ∈ lw_all := lw_g (lw_at lw_m1 226 rfl) rfl
theorem q438 : (Jvm.Cond.laysFinal "ShareHouse$Reader" "ShareHouse$Reader" "text" "[B") ∈ lw_all := lw_g (lw_at lw_m1 227 rfl) rfl
theorem q439 : (Jvm.Cond.soleField "ShareHouse$Reader" "text") ∈ lw_all := lw_g (lw_at lw_m1 228 rfl) rfl
theorem q440 : (Jvm.Cond.lays "ShareHouse$Reader" "ShareHouse$Reader" "size" "I") ∈ lw_all := lw_g (lw_at lw_m1 229 rfl) rfl
theorem q441 : (Jvm.Cond.soleField "ShareHouse$Reader" "size") ∈ lw_all := lw_g (lw_at lw_m1 230 rfl) rfl
theorem q442 : (Jvm.Cond.lays "ShareHouse$Reader" "ShareHouse$Reader" "at" "I") ∈ lw_all := lw_g (lw_at lw_m1 231 rfl) rfl
theorem q443 : (Jvm.Cond.soleField "ShareHouse$Reader" "at") ∈ lw_all := lw_g (lw_at lw_m1 232 rfl) rfl
theorem q444 : (Jvm.Cond.lays "ShareHouse$Reader" "ShareHouse$Reader" "deep" "I") ∈ lw_all := lw_g (lw_at lw_m1 233 rfl) rfl
theorem q445 : (Jvm.Cond.soleField "ShareHouse$Reader" "deep") ∈ lw_all := lw_g (lw_at lw_m1 234 rfl) rfl
theorem q446 : (Jvm.Cond.lays "ShareHouse$Reader" "ShareHouse$Reader" "inputs" "I") ∈ lw_all := lw_g (lw_at lw_m1 235 rfl) rfl
theorem q447 : (Jvm.Cond.soleField "ShareHouse$Reader" "inputs") ∈ lw_all := lw_g (lw_at lw_m1 236 rfl) rfl
theorem q448 : (Jvm.Cond.lays "ShareHouse$Reader" "ShareHouse$Reader" "vars" "I") ∈ lw_all := lw_g (lw_at lw_m1 237 rfl) rfl
theorem q449 : (Jvm.Cond.soleField "ShareHouse$Reader" "vars") ∈ lw_all := lw_g (lw_at lw_m1 238 rfl) rfl
theorem q450 : (Jvm.Cond.laysFinal "ShareHouse$Reader" "ShareHouse$Reader" "parties" "I") ∈ lw_all := lw_g (lw_at lw_m1 239 rfl) rfl
theorem q451 : (Jvm.Cond.soleField "ShareHouse$Reader" "parties") ∈ lw_all := lw_g (lw_at lw_m2 0 rfl) rfl
theorem q452 : (Jvm.Cond.laysFinal "ShareHouse$Reader" "ShareHouse$Reader" "code" "LShareHouse$Code;") ∈ lw_all := lw_g (lw_at lw_m2 1 rfl) rfl
theorem q453 : (Jvm.Cond.soleField "ShareHouse$Reader" "code") ∈ lw_all := lw_g (lw_at lw_m2 2 rfl) rfl
theorem q454 : (Jvm.Cond.laysFinal "ShareHouse$Reader" "ShareHouse$Reader" "names" "LShareHouse$Names;") ∈ lw_all := lw_g (lw_at lw_m2 3 rfl) rfl
theorem q455 : (Jvm.Cond.soleField "ShareHouse$Reader" "names") ∈ lw_all := lw_g (lw_at lw_m2 4 rfl) rfl
theorem q456 : (Jvm.Cond.laysFinal "ShareHouse$Reader" "ShareHouse$Reader" "fault" "LShareHouse$Fault;") ∈ lw_all := lw_g (lw_at lw_m2 5 rfl) rfl
theorem q457 : (Jvm.Cond.soleField "ShareHouse$Reader" "fault") ∈ lw_all := lw_g (lw_at lw_m2 6 rfl) rfl
theorem q458 : (Jvm.Cond.lays "ShareHouse$Reader" "ShareHouse$Reader" "place" "I") ∈ lw_all := lw_g (lw_at lw_m2 7 rfl) rfl
theorem q459 : (Jvm.Cond.soleField "ShareHouse$Reader" "place") ∈ lw_all := lw_g (lw_at lw_m2 8 rfl) rfl
theorem q460 : (Jvm.Cond.lays "ShareHouse$Reader" "ShareHouse$Reader" "sort" "I") ∈ lw_all := lw_g (lw_at lw_m2 9 rfl) rfl
theorem q461 : (Jvm.Cond.soleField "ShareHouse$Reader" "sort") ∈ lw_all := lw_g (lw_at lw_m2 10 rfl) rfl
theorem q462 : (Jvm.Cond.lays "ShareHouse$Reader" "ShareHouse$Reader" "many" "I") ∈ lw_all := lw_g (lw_at lw_m2 11 rfl) rfl
theorem q463 : (Jvm.Cond.soleField "ShareHouse$Reader" "many") ∈ lw_all := lw_g (lw_at lw_m2 12 rfl) rfl
theorem q464 : (Jvm.Cond.lays "ShareHouse$Reader" "ShareHouse$Reader" "operator" "LShareHouse$Op;") ∈ lw_all := lw_g (lw_at lw_m2 13 rfl) rfl
theorem q465 : (Jvm.Cond.soleField "ShareHouse$Reader" "operator") ∈ lw_all := lw_g (lw_at lw_m2 14 rfl) rfl
theorem q466 : (Jvm.Cond.lays "ShareHouse$Reader" "ShareHouse$Reader" "signs" "I") ∈ lw_all := lw_g (lw_at lw_m2 15 rfl) rfl
theorem q467 : (Jvm.Cond.soleField "ShareHouse$Reader" "signs") ∈ lw_all := lw_g (lw_at lw_m2 16 rfl) rfl
theorem q468 : (Jvm.Cond.lays "ShareHouse$Reader" "ShareHouse$Reader" "rank" "I") ∈ lw_all := lw_g (lw_at lw_m2 17 rfl) rfl
theorem q469 : (Jvm.Cond.soleField "ShareHouse$Reader" "rank") ∈ lw_all := lw_g (lw_at lw_m2 18 rfl) rfl
theorem q470 : (Jvm.Cond.superclass "ShareHouse$Reader" "java/lang/Object") ∈ lw_all := lw_g (lw_at lw_m2 19 rfl) rfl
theorem q947 : (Jvm.Cond.instanceMethod ({ cls := "ShareHouse$Reader", name := "read", desc := "([BI)V" } : Jvm.MethodName)) ∈ lw_all := lw_g (lw_at lw_m4 16 rfl) rfl
theorem q948 : (Jvm.Cond.selects "ShareHouse$Reader" ({ cls := "ShareHouse$Reader", name := "read", desc := "([BI)V" } : Jvm.MethodName) ({ cls := "ShareHouse$Reader", name := "read", desc := "([BI)V" } : Jvm.MethodName)) ∈ lw_all := lw_g (lw_at lw_m4 17 rfl) rfl
theorem q949 : (Jvm.Cond.code ({ cls := "ShareHouse$Reader", name := "read", desc := "([BI)V" } : Jvm.MethodName) prog_13_method_17_code (4 : Nat) (Option.none : Option Jvm.ClassFile.FieldType)) ∈ lw_all := lw_g (lw_at lw_m4 18 rfl) rfl
theorem q950 : (Jvm.Cond.methodLink "ShareHouse$Reader" (133 : Nat) ({ cls := "java/lang/System", name := "arraycopy", desc := "(Ljava/lang/Object;ILjava/lang/Object;II)V" } : Jvm.MethodName)) ∈ lw_all := lw_g (lw_at lw_m4 19 rfl) rfl
theorem q951 : (Jvm.Cond.methodLink "ShareHouse$Reader" (93 : Nat) ({ cls := "ShareHouse$Reader", name := "skip", desc := "()V" } : Jvm.MethodName)) ∈ lw_all := lw_g (lw_at lw_m4 20 rfl) rfl
theorem q952 : (Jvm.Cond.privateMethod ({ cls := "ShareHouse$Reader", name := "skip", desc := "()V" } : Jvm.MethodName)) ∈ lw_tbl := lw_at lw_m4 21 rfl
theorem q953 : (Jvm.Cond.instanceMethod ({ cls := "ShareHouse$Reader", name := "skip", desc := "()V" } : Jvm.MethodName)) ∈ lw_all := lw_g (lw_at lw_m4 22 rfl) rfl
theorem q954 : (Jvm.Cond.code ({ cls := "ShareHouse$Reader", name := "skip", desc := "()V" } : Jvm.MethodName) prog_13_method_5_code (2 : Nat) (Option.none : Option Jvm.ClassFile.FieldType)) ∈ lw_all := lw_g (lw_at lw_m4 23 rfl) rfl
theorem q955 : (Jvm.Cond.methodLink "ShareHouse$Reader" (96 : Nat) ({ cls := "ShareHouse$Fault", name := "is", desc := "()Z" } : Jvm.MethodName)) ∈ lw_all := lw_g (lw_at lw_m4 24 rfl) rfl
theorem q959 : (Jvm.Cond.methodLink "ShareHouse$Reader" (145 : Nat) ({ cls := "ShareHouse$Reader", name := "item", desc := "()V" } : Jvm.MethodName)) ∈ lw_all := lw_g (lw_at lw_m4 28 rfl) rfl
theorem q960 : (Jvm.Cond.privateMethod ({ cls := "ShareHouse$Reader", name := "item", desc := "()V" } : Jvm.MethodName)) ∈ lw_tbl := lw_at lw_m4 29 rfl
theorem q961 : (Jvm.Cond.instanceMethod ({ cls := "ShareHouse$Reader", name := "item", desc := "()V" } : Jvm.MethodName)) ∈ lw_all := lw_g (lw_at lw_m4 30 rfl) rfl
theorem q962 : (Jvm.Cond.code ({ cls := "ShareHouse$Reader", name := "item", desc := "()V" } : Jvm.MethodName) prog_13_method_18_code (1 : Nat) (Option.none : Option Jvm.ClassFile.FieldType)) ∈ lw_all := lw_g (lw_at lw_m4 31 rfl) rfl
theorem q963 : (Jvm.Cond.stringRef "ShareHouse$Reader" (63 : Nat) "input") ∈ lw_tbl := lw_at lw_m4 32 rfl
theorem q964 : (Jvm.Cond.methodLink "ShareHouse$Reader" (65 : Nat) ({ cls := "ShareHouse$Reader", name := "isWord", desc := "(Ljava/lang/String;)Z" } : Jvm.MethodName)) ∈ lw_all := lw_g (lw_at lw_m4 33 rfl) rfl
theorem q965 : (Jvm.Cond.privateMethod ({ cls := "ShareHouse$Reader", name := "isWord", desc := "(Ljava/lang/String;)Z" } : Jvm.MethodName)) ∈ lw_tbl := lw_at lw_m4 34 rfl
theorem q966 : (Jvm.Cond.instanceMethod ({ cls := "ShareHouse$Reader", name := "isWord", desc := "(Ljava/lang/String;)Z" } : Jvm.MethodName)) ∈ lw_all := lw_g (lw_at lw_m4 35 rfl) rfl
theorem q967 : (Jvm.Cond.code ({ cls := "ShareHouse$Reader", name := "isWord", desc := "(Ljava/lang/String;)Z" } : Jvm.MethodName) prog_13_method_8_code (4 : Nat) (Option.some Jvm.ClassFile.FieldType.boolean)) ∈ lw_all := lw_g (lw_at lw_m4 36 rfl) rfl
theorem q968 : (Jvm.Cond.methodLink "ShareHouse$Reader" (50 : Nat) ({ cls := "java/lang/String", name := "length", desc := "()I" } : Jvm.MethodName)) ∈ lw_all := lw_g (lw_at lw_m4 37 rfl) rfl
theorem q978 : (Jvm.Cond.methodLink "ShareHouse$Reader" (56 : Nat) ({ cls := "ShareHouse$Reader", name := "wordEnd", desc := "()I" } : Jvm.MethodName)) ∈ lw_all := lw_g (lw_at lw_m4 47 rfl) rfl
theorem q979 : (Jvm.Cond.privateMethod ({ cls := "ShareHouse$Reader", name := "wordEnd", desc := "()I" } : Jvm.MethodName)) ∈ lw_tbl := lw_at lw_m4 48 rfl
theorem q980 : (Jvm.Cond.instanceMethod ({ cls := "ShareHouse$Reader", name := "wordEnd", desc := "()I" } : Jvm.MethodName)) ∈ lw_all := lw_g (lw_at lw_m4 49 rfl) rfl
theorem q981 : (Jvm.Cond.code ({ cls := "ShareHouse$Reader", name := "wordEnd", desc := "()I" } : Jvm.MethodName) prog_13_method_7_code (2 : Nat) (Option.some Jvm.ClassFile.FieldType.int)) ∈ lw_all := lw_g (lw_at lw_m4 50 rfl) rfl
theorem q982 : (Jvm.Cond.methodLink "ShareHouse$Reader" (43 : Nat) ({ cls := "ShareHouse$Reader", name := "isLetter", desc := "(I)Z" } : Jvm.MethodName)) ∈ lw_all := lw_g (lw_at lw_m4 51 rfl) rfl
theorem q983 : (Jvm.Cond.static ({ cls := "ShareHouse$Reader", name := "isLetter", desc := "(I)Z" } : Jvm.MethodName)) ∈ lw_all := lw_g (lw_at lw_m4 52 rfl) rfl
theorem q984 : (Jvm.Cond.code ({ cls := "ShareHouse$Reader", name := "isLetter", desc := "(I)Z" } : Jvm.MethodName) prog_13_method_2_code (1 : Nat) (Option.some Jvm.ClassFile.FieldType.boolean)) ∈ lw_all := lw_g (lw_at lw_m4 53 rfl) rfl
theorem q985 : (Jvm.Cond.methodLink "ShareHouse$Reader" (47 : Nat) ({ cls := "ShareHouse$Reader", name := "isDigit", desc := "(I)Z" } : Jvm.MethodName)) ∈ lw_all := lw_g (lw_at lw_m4 54 rfl) rfl
theorem q986 : (Jvm.Cond.static ({ cls := "ShareHouse$Reader", name := "isDigit", desc := "(I)Z" } : Jvm.MethodName)) ∈ lw_all := lw_g (lw_at lw_m4 55 rfl) rfl
theorem q987 : (Jvm.Cond.code ({ cls := "ShareHouse$Reader", name := "isDigit", desc := "(I)Z" } : Jvm.MethodName) prog_13_method_3_code (1 : Nat) (Option.some Jvm.ClassFile.FieldType.boolean)) ∈ lw_all := lw_g (lw_at lw_m4 56 rfl) rfl
theorem q988 : (Jvm.Cond.methodLink "ShareHouse$Reader" (59 : Nat) ({ cls := "java/lang/String", name := "charAt", desc := "(I)C" } : Jvm.MethodName)) ∈ lw_all := lw_g (lw_at lw_m4 57 rfl) rfl
theorem q1026 : (Jvm.Cond.methodLink "ShareHouse$Reader" (160 : Nat) ({ cls := "ShareHouse$Reader", name := "input", desc := "()V" } : Jvm.MethodName)) ∈ lw_all := lw_g (lw_at lw_m4 95 rfl) rfl
theorem q1027 : (Jvm.Cond.privateMethod ({ cls := "ShareHouse$Reader", name := "input", desc := "()V" } : Jvm.MethodName)) ∈ lw_tbl := lw_at lw_m4 96 rfl
theorem q1028 : (Jvm.Cond.instanceMethod ({ cls := "ShareHouse$Reader", name := "input", desc := "()V" } : Jvm.MethodName)) ∈ lw_all := lw_g (lw_at lw_m4 97 rfl) rfl
theorem q1029 : (Jvm.Cond.code ({ cls := "ShareHouse$Reader", name := "input", desc := "()V" } : Jvm.MethodName) prog_13_method_21_code (5 : Nat) (Option.none : Option Jvm.ClassFile.FieldType)) ∈ lw_all := lw_g (lw_at lw_m4 98 rfl) rfl
theorem q1030 : (Jvm.Cond.methodLink "ShareHouse$Reader" (186 : Nat) ({ cls := "ShareHouse$Reader", name := "name", desc := "()I" } : Jvm.MethodName)) ∈ lw_all := lw_g (lw_at lw_m4 99 rfl) rfl
theorem q1031 : (Jvm.Cond.privateMethod ({ cls := "ShareHouse$Reader", name := "name", desc := "()I" } : Jvm.MethodName)) ∈ lw_tbl := lw_at lw_m4 100 rfl
theorem q1032 : (Jvm.Cond.instanceMethod ({ cls := "ShareHouse$Reader", name := "name", desc := "()I" } : Jvm.MethodName)) ∈ lw_all := lw_g (lw_at lw_m4 101 rfl) rfl
theorem q1033 : (Jvm.Cond.code ({ cls := "ShareHouse$Reader", name := "name", desc := "()I" } : Jvm.MethodName) prog_13_method_14_code (3 : Nat) (Option.some Jvm.ClassFile.FieldType.int)) ∈ lw_all := lw_g (lw_at lw_m4 102 rfl) rfl
theorem q1034 : (Jvm.Cond.methodLink "ShareHouse$Reader" (117 : Nat) ({ cls := "ShareHouse$Reader", name := "isKeyword", desc := "()Z" } : Jvm.MethodName)) ∈ lw_all := lw_g (lw_at lw_m4 103 rfl) rfl
theorem q1035 : (Jvm.Cond.privateMethod ({ cls := "ShareHouse$Reader", name := "isKeyword", desc := "()Z" } : Jvm.MethodName)) ∈ lw_tbl := lw_at lw_m4 104 rfl
theorem q1036 : (Jvm.Cond.instanceMethod ({ cls := "ShareHouse$Reader", name := "isKeyword", desc := "()Z" } : Jvm.MethodName)) ∈ lw_all := lw_g (lw_at lw_m4 105 rfl) rfl
theorem q1037 : (Jvm.Cond.code ({ cls := "ShareHouse$Reader", name := "isKeyword", desc := "()Z" } : Jvm.MethodName) prog_13_method_9_code (1 : Nat) (Option.some Jvm.ClassFile.FieldType.boolean)) ∈ lw_all := lw_g (lw_at lw_m4 106 rfl) rfl
theorem q1038 : (Jvm.Cond.stringRef "ShareHouse$Reader" (69 : Nat) "of") ∈ lw_tbl := lw_at lw_m4 107 rfl
theorem q1039 : (Jvm.Cond.stringRef "ShareHouse$Reader" (71 : Nat) "var") ∈ lw_tbl := lw_at lw_m4 108 rfl
theorem q1040 : (Jvm.Cond.stringRef "ShareHouse$Reader" (73 : Nat) "def") ∈ lw_tbl := lw_at lw_m4 109 rfl
theorem q1041 : (Jvm.Cond.stringRef "ShareHouse$Reader" (75 : Nat) "for") ∈ lw_tbl := lw_at lw_m4 110 rfl
theorem q1042 : (Jvm.Cond.stringRef "ShareHouse$Reader" (77 : Nat) "to") ∈ lw_tbl := lw_at lw_m4 111 rfl
theorem q1043 : (Jvm.Cond.stringRef "ShareHouse$Reader" (79 : Nat) "if") ∈ lw_tbl := lw_at lw_m4 112 rfl
theorem q1044 : (Jvm.Cond.stringRef "ShareHouse$Reader" (81 : Nat) "else") ∈ lw_tbl := lw_at lw_m4 113 rfl
theorem q1045 : (Jvm.Cond.stringRef "ShareHouse$Reader" (83 : Nat) "output") ∈ lw_tbl := lw_at lw_m4 114 rfl
theorem q1046 : (Jvm.Cond.stringRef "ShareHouse$Reader" (85 : Nat) "int") ∈ lw_tbl := lw_at lw_m4 115 rfl
theorem q1047 : (Jvm.Cond.stringRef "ShareHouse$Reader" (87 : Nat) "bit") ∈ lw_tbl := lw_at lw_m4 116 rfl
theorem q1048 : (Jvm.Cond.stringRef "ShareHouse$Reader" (89 : Nat) "true") ∈ lw_tbl := lw_at lw_m4 117 rfl
theorem q1049 : (Jvm.Cond.stringRef "ShareHouse$Reader" (91 : Nat) "false") ∈ lw_tbl := lw_at lw_m4 118 rfl
theorem q1050 : (Jvm.Cond.methodLink "ShareHouse$Reader" (100 : Nat) ({ cls := "ShareHouse$Reader", name := "bad", desc := "()V" } : Jvm.MethodName)) ∈ lw_all := lw_g (lw_at lw_m4 119 rfl) rfl
theorem q1051 : (Jvm.Cond.privateMethod ({ cls := "ShareHouse$Reader", name := "bad", desc := "()V" } : Jvm.MethodName)) ∈ lw_tbl := lw_at lw_m4 120 rfl
theorem q1052 : (Jvm.Cond.instanceMethod ({ cls := "ShareHouse$Reader", name := "bad", desc := "()V" } : Jvm.MethodName)) ∈ lw_all := lw_g (lw_at lw_m4 121 rfl) rfl
theorem q1053 : (Jvm.Cond.code ({ cls := "ShareHouse$Reader", name := "bad", desc := "()V" } : Jvm.MethodName) prog_13_method_6_code (1 : Nat) (Option.none : Option Jvm.ClassFile.FieldType)) ∈ lw_all := lw_g (lw_at lw_m4 122 rfl) rfl
theorem q1054 : (Jvm.Cond.methodLink "ShareHouse$Reader" (37 : Nat) ({ cls := "ShareHouse$Fault", name := "set", desc := "(II)V" } : Jvm.MethodName)) ∈ lw_all := lw_g (lw_at lw_m4 123 rfl) rfl
theorem q1058 : (Jvm.Cond.methodLink "ShareHouse$Reader" (120 : Nat) ({ cls := "ShareHouse$Names", name := "number", desc := "([BII)I" } : Jvm.MethodName)) ∈ lw_all := lw_g (lw_at lw_m4 127 rfl) rfl
theorem q1067 : (Jvm.Cond.methodLink "ShareHouse$Reader" (189 : Nat) ({ cls := "ShareHouse$Reader", name := "word", desc := "(Ljava/lang/String;)V" } : Jvm.MethodName)) ∈ lw_all := lw_g (lw_at lw_m4 136 rfl) rfl
theorem q1068 : (Jvm.Cond.privateMethod ({ cls := "ShareHouse$Reader", name := "word", desc := "(Ljava/lang/String;)V" } : Jvm.MethodName)) ∈ lw_tbl := lw_at lw_m4 137 rfl
theorem q1069 : (Jvm.Cond.instanceMethod ({ cls := "ShareHouse$Reader", name := "word", desc := "(Ljava/lang/String;)V" } : Jvm.MethodName)) ∈ lw_all := lw_g (lw_at lw_m4 138 rfl) rfl
theorem q1070 : (Jvm.Cond.code ({ cls := "ShareHouse$Reader", name := "word", desc := "(Ljava/lang/String;)V" } : Jvm.MethodName) prog_13_method_10_code (2 : Nat) (Option.none : Option Jvm.ClassFile.FieldType)) ∈ lw_all := lw_g (lw_at lw_m4 139 rfl) rfl
theorem q1071 : (Jvm.Cond.methodLink "ShareHouse$Reader" (179 : Nat) ({ cls := "ShareHouse$Reader", name := "number", desc := "(JJ)I" } : Jvm.MethodName)) ∈ lw_all := lw_g (lw_at lw_m4 140 rfl) rfl
theorem q1072 : (Jvm.Cond.privateMethod ({ cls := "ShareHouse$Reader", name := "number", desc := "(JJ)I" } : Jvm.MethodName)) ∈ lw_tbl := lw_at lw_m4 141 rfl
theorem q1073 : (Jvm.Cond.instanceMethod ({ cls := "ShareHouse$Reader", name := "number", desc := "(JJ)I" } : Jvm.MethodName)) ∈ lw_all := lw_g (lw_at lw_m4 142 rfl) rfl
theorem q1074 : (Jvm.Cond.code ({ cls := "ShareHouse$Reader", name := "number", desc := "(JJ)I" } : Jvm.MethodName) prog_13_method_15_code (8 : Nat) (Option.some Jvm.ClassFile.FieldType.int)) ∈ lw_all := lw_g (lw_at lw_m4 143 rfl) rfl
theorem q1075 : (Jvm.Cond.methodLink "ShareHouse$Reader" (103 : Nat) ({ cls := "ShareHouse$Reader", name := "look", desc := "(I)I" } : Jvm.MethodName)) ∈ lw_all := lw_g (lw_at lw_m4 144 rfl) rfl
theorem q1076 : (Jvm.Cond.privateMethod ({ cls := "ShareHouse$Reader", name := "look", desc := "(I)I" } : Jvm.MethodName)) ∈ lw_tbl := lw_at lw_m4 145 rfl
theorem q1077 : (Jvm.Cond.instanceMethod ({ cls := "ShareHouse$Reader", name := "look", desc := "(I)I" } : Jvm.MethodName)) ∈ lw_all := lw_g (lw_at lw_m4 146 rfl) rfl
theorem q1078 : (Jvm.Cond.code ({ cls := "ShareHouse$Reader", name := "look", desc := "(I)I" } : Jvm.MethodName) prog_13_method_4_code (2 : Nat) (Option.some Jvm.ClassFile.FieldType.int)) ∈ lw_all := lw_g (lw_at lw_m4 147 rfl) rfl
theorem q1079 : (Jvm.Cond.constantLong "ShareHouse$Reader" (126 : Nat) (10 : Int64)) ∈ lw_all := lw_g (lw_at lw_m4 148 rfl) rfl
theorem q1080 : (Jvm.Cond.constantLong "ShareHouse$Reader" (128 : Nat) (48 : Int64)) ∈ lw_all := lw_g (lw_at lw_m4 149 rfl) rfl
theorem q1081 : (Jvm.Cond.methodLink "ShareHouse$Reader" (182 : Nat) ({ cls := "ShareHouse$Reader", name := "sign", desc := "(I)V" } : Jvm.MethodName)) ∈ lw_all := lw_g (lw_at lw_m4 150 rfl) rfl
theorem q1082 : (Jvm.Cond.privateMethod ({ cls := "ShareHouse$Reader", name := "sign", desc := "(I)V" } : Jvm.MethodName)) ∈ lw_tbl := lw_at lw_m4 151 rfl
theorem q1083 : (Jvm.Cond.instanceMethod ({ cls := "ShareHouse$Reader", name := "sign", desc := "(I)V" } : Jvm.MethodName)) ∈ lw_all := lw_g (lw_at lw_m4 152 rfl) rfl
theorem q1084 : (Jvm.Cond.code ({ cls := "ShareHouse$Reader", name := "sign", desc := "(I)V" } : Jvm.MethodName) prog_13_method_13_code (3 : Nat) (Option.none : Option Jvm.ClassFile.FieldType)) ∈ lw_all := lw_g (lw_at lw_m4 153 rfl) rfl
theorem q1085 : (Jvm.Cond.methodLink "ShareHouse$Reader" (110 : Nat) ({ cls := "ShareHouse$Reader", name := "isAlone", desc := "(II)Z" } : Jvm.MethodName)) ∈ lw_all := lw_g (lw_at lw_m4 154 rfl) rfl
theorem q1086 : (Jvm.Cond.privateMethod ({ cls := "ShareHouse$Reader", name := "isAlone", desc := "(II)Z" } : Jvm.MethodName)) ∈ lw_tbl := lw_at lw_m4 155 rfl
theorem q1087 : (Jvm.Cond.instanceMethod ({ cls := "ShareHouse$Reader", name := "isAlone", desc := "(II)Z" } : Jvm.MethodName)) ∈ lw_all := lw_g (lw_at lw_m4 156 rfl) rfl
theorem q1088 : (Jvm.Cond.code ({ cls := "ShareHouse$Reader", name := "isAlone", desc := "(II)Z" } : Jvm.MethodName) prog_13_method_12_code (3 : Nat) (Option.some Jvm.ClassFile.FieldType.boolean)) ∈ lw_all := lw_g (lw_at lw_m4 157 rfl) rfl
theorem q1089 : (Jvm.Cond.methodLink "ShareHouse$Reader" (107 : Nat) ({ cls := "ShareHouse$Reader", name := "isSign", desc := "(I)Z" } : Jvm.MethodName)) ∈ lw_all := lw_g (lw_at lw_m4 158 rfl) rfl
theorem q1090 : (Jvm.Cond.privateMethod ({ cls := "ShareHouse$Reader", name := "isSign", desc := "(I)Z" } : Jvm.MethodName)) ∈ lw_tbl := lw_at lw_m4 159 rfl
theorem q1091 : (Jvm.Cond.instanceMethod ({ cls := "ShareHouse$Reader", name := "isSign", desc := "(I)Z" } : Jvm.MethodName)) ∈ lw_all := lw_g (lw_at lw_m4 160 rfl) rfl
theorem q1092 : (Jvm.Cond.code ({ cls := "ShareHouse$Reader", name := "isSign", desc := "(I)Z" } : Jvm.MethodName) prog_13_method_11_code (2 : Nat) (Option.some Jvm.ClassFile.FieldType.boolean)) ∈ lw_all := lw_g (lw_at lw_m4 161 rfl) rfl
theorem q1093 : (Jvm.Cond.methodLink "ShareHouse$Reader" (193 : Nat) ({ cls := "ShareHouse$Reader", name := "type", desc := "()V" } : Jvm.MethodName)) ∈ lw_all := lw_g (lw_at lw_m4 162 rfl) rfl
theorem q1094 : (Jvm.Cond.privateMethod ({ cls := "ShareHouse$Reader", name := "type", desc := "()V" } : Jvm.MethodName)) ∈ lw_tbl := lw_at lw_m4 163 rfl
theorem q1095 : (Jvm.Cond.instanceMethod ({ cls := "ShareHouse$Reader", name := "type", desc := "()V" } : Jvm.MethodName)) ∈ lw_all := lw_g (lw_at lw_m4 164 rfl) rfl
theorem q1096 : (Jvm.Cond.code ({ cls := "ShareHouse$Reader", name := "type", desc := "()V" } : Jvm.MethodName) prog_13_method_20_code (1 : Nat) (Option.none : Option Jvm.ClassFile.FieldType)) ∈ lw_all := lw_g (lw_at lw_m4 165 rfl) rfl
theorem q1097 : (Jvm.Cond.methodLink "ShareHouse$Reader" (169 : Nat) ({ cls := "ShareHouse$Reader", name := "sort", desc := "()I" } : Jvm.MethodName)) ∈ lw_all := lw_g (lw_at lw_m4 166 rfl) rfl
theorem q1098 : (Jvm.Cond.privateMethod ({ cls := "ShareHouse$Reader", name := "sort", desc := "()I" } : Jvm.MethodName)) ∈ lw_tbl := lw_at lw_m4 167 rfl
theorem q1099 : (Jvm.Cond.instanceMethod ({ cls := "ShareHouse$Reader", name := "sort", desc := "()I" } : Jvm.MethodName)) ∈ lw_all := lw_g (lw_at lw_m4 168 rfl) rfl
theorem q1100 : (Jvm.Cond.code ({ cls := "ShareHouse$Reader", name := "sort", desc := "()I" } : Jvm.MethodName) prog_13_method_19_code (2 : Nat) (Option.some Jvm.ClassFile.FieldType.int)) ∈ lw_all := lw_g (lw_at lw_m4 169 rfl) rfl
theorem q1101 : (Jvm.Cond.constantLong "ShareHouse$Reader" (177 : Nat) (64 : Int64)) ∈ lw_all := lw_g (lw_at lw_m4 170 rfl) rfl
theorem q1102 : (Jvm.Cond.methodLink "ShareHouse$Reader" (196 : Nat) ({ cls := "java/lang/Math", name := "max", desc := "(II)I" } : Jvm.MethodName)) ∈ lw_all := lw_g (lw_at lw_m4 171 rfl) rfl
theorem q1103 : (Jvm.Cond.fieldLink "ShareHouse$Reader" (202 : Nat) "ShareHouse$Op" "INPUT" "LShareHouse$Op;") ∈ lw_all := lw_g (lw_at lw_m4 172 rfl) rfl
theorem q1105 : (Jvm.Cond.methodLink "ShareHouse$Reader" (154 : Nat) ({ cls := "ShareHouse$Code", name := "add", desc := "(LShareHouse$Op;III)I" } : Jvm.MethodName)) ∈ lw_all := lw_g (lw_at lw_m4 174 rfl) rfl
theorem q1109 : (Jvm.Cond.methodLink "ShareHouse$Reader" (162 : Nat) ({ cls := "ShareHouse$Reader", name := "def", desc := "()V" } : Jvm.MethodName)) ∈ lw_all := lw_g (lw_at lw_m4 178 rfl) rfl
theorem q1110 : (Jvm.Cond.privateMethod ({ cls := "ShareHouse$Reader", name := "def", desc := "()V" } : Jvm.MethodName)) ∈ lw_tbl := lw_at lw_m4 179 rfl
theorem q1111 : (Jvm.Cond.instanceMethod ({ cls := "ShareHouse$Reader", name := "def", desc := "()V" } : Jvm.MethodName)) ∈ lw_all := lw_g (lw_at lw_m4 180 rfl) rfl
theorem q1112 : (Jvm.Cond.code ({ cls := "ShareHouse$Reader", name := "def", desc := "()V" } : Jvm.MethodName) prog_13_method_22_code (5 : Nat) (Option.none : Option Jvm.ClassFile.FieldType)) ∈ lw_all := lw_g (lw_at lw_m4 181 rfl) rfl
theorem q1113 : (Jvm.Cond.fieldLink "ShareHouse$Reader" (205 : Nat) "ShareHouse$Op" "DEF" "LShareHouse$Op;") ∈ lw_all := lw_g (lw_at lw_m4 182 rfl) rfl
theorem q1115 : (Jvm.Cond.methodLink "ShareHouse$Reader" (208 : Nat) ({ cls := "ShareHouse$Reader", name := "params", desc := "()V" } : Jvm.MethodName)) ∈ lw_all := lw_g (lw_at lw_m4 184 rfl) rfl
theorem q1116 : (Jvm.Cond.privateMethod ({ cls := "ShareHouse$Reader", name := "params", desc := "()V" } : Jvm.MethodName)) ∈ lw_tbl := lw_at lw_m4 185 rfl
theorem q1117 : (Jvm.Cond.instanceMethod ({ cls := "ShareHouse$Reader", name := "params", desc := "()V" } : Jvm.MethodName)) ∈ lw_all := lw_g (lw_at lw_m4 186 rfl) rfl
theorem q1118 : (Jvm.Cond.code ({ cls := "ShareHouse$Reader", name := "params", desc := "()V" } : Jvm.MethodName) prog_13_method_23_code (5 : Nat) (Option.none : Option Jvm.ClassFile.FieldType)) ∈ lw_all := lw_g (lw_at lw_m4 187 rfl) rfl
theorem q1119 : (Jvm.Cond.fieldLink "ShareHouse$Reader" (221 : Nat) "ShareHouse$Op" "PARAM" "LShareHouse$Op;") ∈ lw_all := lw_g (lw_at lw_m4 188 rfl) rfl
theorem q1121 : (Jvm.Cond.methodLink "ShareHouse$Reader" (211 : Nat) ({ cls := "ShareHouse$Reader", name := "expr", desc := "()V" } : Jvm.MethodName)) ∈ lw_all := lw_g (lw_at lw_m4 190 rfl) rfl
theorem q1122 : (Jvm.Cond.privateMethod ({ cls := "ShareHouse$Reader", name := "expr", desc := "()V" } : Jvm.MethodName)) ∈ lw_tbl := lw_at lw_m4 191 rfl
theorem q1123 : (Jvm.Cond.instanceMethod ({ cls := "ShareHouse$Reader", name := "expr", desc := "()V" } : Jvm.MethodName)) ∈ lw_all := lw_g (lw_at lw_m4 192 rfl) rfl
theorem q1124 : (Jvm.Cond.code ({ cls := "ShareHouse$Reader", name := "expr", desc := "()V" } : Jvm.MethodName) prog_13_method_32_code (3 : Nat) (Option.none : Option Jvm.ClassFile.FieldType)) ∈ lw_all := lw_g (lw_at lw_m4 193 rfl) rfl
theorem q1125 : (Jvm.Cond.methodLink "ShareHouse$Reader" (299 : Nat) ({ cls := "ShareHouse$Reader", name := "row", desc := "(I)V" } : Jvm.MethodName)) ∈ lw_all := lw_g (lw_at lw_m4 194 rfl) rfl
theorem q1126 : (Jvm.Cond.privateMethod ({ cls := "ShareHouse$Reader", name := "row", desc := "(I)V" } : Jvm.MethodName)) ∈ lw_tbl := lw_at lw_m4 195 rfl
theorem q1127 : (Jvm.Cond.instanceMethod ({ cls := "ShareHouse$Reader", name := "row", desc := "(I)V" } : Jvm.MethodName)) ∈ lw_all := lw_g (lw_at lw_m4 196 rfl) rfl
theorem q1128 : (Jvm.Cond.code ({ cls := "ShareHouse$Reader", name := "row", desc := "(I)V" } : Jvm.MethodName) prog_13_method_35_code (6 : Nat) (Option.none : Option Jvm.ClassFile.FieldType)) ∈ lw_all := lw_g (lw_at lw_m4 197 rfl) rfl
theorem q1129 : (Jvm.Cond.methodLink "ShareHouse$Reader" (371 : Nat) ({ cls := "ShareHouse$Reader", name := "factor", desc := "()V" } : Jvm.MethodName)) ∈ lw_all := lw_g (lw_at lw_m4 198 rfl) rfl
theorem q1130 : (Jvm.Cond.privateMethod ({ cls := "ShareHouse$Reader", name := "factor", desc := "()V" } : Jvm.MethodName)) ∈ lw_tbl := lw_at lw_m4 199 rfl
theorem q1131 : (Jvm.Cond.instanceMethod ({ cls := "ShareHouse$Reader", name := "factor", desc := "()V" } : Jvm.MethodName)) ∈ lw_all := lw_g (lw_at lw_m4 200 rfl) rfl
theorem q1132 : (Jvm.Cond.code ({ cls := "ShareHouse$Reader", name := "factor", desc := "()V" } : Jvm.MethodName) prog_13_method_36_code (5 : Nat) (Option.none : Option Jvm.ClassFile.FieldType)) ∈ lw_all := lw_g (lw_at lw_m4 201 rfl) rfl
theorem q1133 : (Jvm.Cond.methodLink "ShareHouse$Reader" (254 : Nat) ({ cls := "ShareHouse$Reader", name := "enter", desc := "(I)V" } : Jvm.MethodName)) ∈ lw_all := lw_g (lw_at lw_m4 202 rfl) rfl
theorem q1134 : (Jvm.Cond.privateMethod ({ cls := "ShareHouse$Reader", name := "enter", desc := "(I)V" } : Jvm.MethodName)) ∈ lw_tbl := lw_at lw_m4 203 rfl
theorem q1135 : (Jvm.Cond.instanceMethod ({ cls := "ShareHouse$Reader", name := "enter", desc := "(I)V" } : Jvm.MethodName)) ∈ lw_all := lw_g (lw_at lw_m4 204 rfl) rfl
theorem q1136 : (Jvm.Cond.code ({ cls := "ShareHouse$Reader", name := "enter", desc := "(I)V" } : Jvm.MethodName) prog_13_method_16_code (2 : Nat) (Option.none : Option Jvm.ClassFile.FieldType)) ∈ lw_all := lw_g (lw_at lw_m4 205 rfl) rfl
theorem q1137 : (Jvm.Cond.fieldLink "ShareHouse$Reader" (377 : Nat) "ShareHouse$Op" "NEGATE" "LShareHouse$Op;") ∈ lw_all := lw_g (lw_at lw_m4 206 rfl) rfl
theorem q1139 : (Jvm.Cond.fieldLink "ShareHouse$Reader" (380 : Nat) "ShareHouse$Op" "TURN" "LShareHouse$Op;") ∈ lw_all := lw_g (lw_at lw_m4 208 rfl) rfl
theorem q1141 : (Jvm.Cond.fieldLink "ShareHouse$Reader" (383 : Nat) "ShareHouse$Op" "NOT" "LShareHouse$Op;") ∈ lw_all := lw_g (lw_at lw_m4 210 rfl) rfl
theorem q1143 : (Jvm.Cond.fieldLink "ShareHouse$Reader" (386 : Nat) "ShareHouse$Op" "OPEN" "LShareHouse$Op;") ∈ lw_all := lw_g (lw_at lw_m4 212 rfl) rfl
theorem q1145 : (Jvm.Cond.methodLink "ShareHouse$Reader" (272 : Nat) ({ cls := "ShareHouse$Reader", name := "around", desc := "()V" } : Jvm.MethodName)) ∈ lw_all := lw_g (lw_at lw_m4 214 rfl) rfl
theorem q1146 : (Jvm.Cond.privateMethod ({ cls := "ShareHouse$Reader", name := "around", desc := "()V" } : Jvm.MethodName)) ∈ lw_tbl := lw_at lw_m4 215 rfl
theorem q1147 : (Jvm.Cond.instanceMethod ({ cls := "ShareHouse$Reader", name := "around", desc := "()V" } : Jvm.MethodName)) ∈ lw_all := lw_g (lw_at lw_m4 216 rfl) rfl
theorem q1148 : (Jvm.Cond.code ({ cls := "ShareHouse$Reader", name := "around", desc := "()V" } : Jvm.MethodName) prog_13_method_31_code (1 : Nat) (Option.none : Option Jvm.ClassFile.FieldType)) ∈ lw_all := lw_g (lw_at lw_m4 217 rfl) rfl
theorem q1149 : (Jvm.Cond.fieldLink "ShareHouse$Reader" (389 : Nat) "ShareHouse$Op" "CLOSE" "LShareHouse$Op;") ∈ lw_all := lw_g (lw_at lw_m4 218 rfl) rfl
theorem q1151 : (Jvm.Cond.constantLong "ShareHouse$Reader" (392 : Nat) (4294967295 : Int64)) ∈ lw_all := lw_g (lw_at lw_m4 220 rfl) rfl
theorem q1152 : (Jvm.Cond.fieldLink "ShareHouse$Reader" (394 : Nat) "ShareHouse$Op" "NUMBER" "LShareHouse$Op;") ∈ lw_all := lw_g (lw_at lw_m4 221 rfl) rfl
theorem q1154 : (Jvm.Cond.fieldLink "ShareHouse$Reader" (397 : Nat) "ShareHouse$Op" "TRUE" "LShareHouse$Op;") ∈ lw_all := lw_g (lw_at lw_m4 223 rfl) rfl
theorem q1156 : (Jvm.Cond.fieldLink "ShareHouse$Reader" (400 : Nat) "ShareHouse$Op" "FALSE" "LShareHouse$Op;") ∈ lw_all := lw_g (lw_at lw_m4 225 rfl) rfl
theorem q1158 : (Jvm.Cond.fieldLink "ShareHouse$Reader" (403 : Nat) "ShareHouse$Op" "INT" "LShareHouse$Op;") ∈ lw_all := lw_g (lw_at lw_m4 227 rfl) rfl
theorem q1160 : (Jvm.Cond.fieldLink "ShareHouse$Reader" (406 : Nat) "ShareHouse$Op" "ENDINT" "LShareHouse$Op;") ∈ lw_all := lw_g (lw_at lw_m4 229 rfl) rfl
theorem q1162 : (Jvm.Cond.methodLink "ShareHouse$Reader" (409 : Nat) ({ cls := "ShareHouse$Reader", name := "bitOf", desc := "(I)V" } : Jvm.MethodName)) ∈ lw_all := lw_g (lw_at lw_m4 231 rfl) rfl
theorem q1163 : (Jvm.Cond.privateMethod ({ cls := "ShareHouse$Reader", name := "bitOf", desc := "(I)V" } : Jvm.MethodName)) ∈ lw_tbl := lw_at lw_m4 232 rfl
theorem q1164 : (Jvm.Cond.instanceMethod ({ cls := "ShareHouse$Reader", name := "bitOf", desc := "(I)V" } : Jvm.MethodName)) ∈ lw_all := lw_g (lw_at lw_m4 233 rfl) rfl
theorem q1165 : (Jvm.Cond.code ({ cls := "ShareHouse$Reader", name := "bitOf", desc := "(I)V" } : Jvm.MethodName) prog_13_method_37_code (3 : Nat) (Option.none : Option Jvm.ClassFile.FieldType)) ∈ lw_all := lw_g (lw_at lw_m4 234 rfl) rfl
theorem q1166 : (Jvm.Cond.fieldLink "ShareHouse$Reader" (415 : Nat) "ShareHouse$Op" "BIT" "LShareHouse$Op;") ∈ lw_all := lw_g (lw_at lw_m4 235 rfl) rfl
theorem q1168 : (Jvm.Cond.fieldLink "ShareHouse$Reader" (418 : Nat) "ShareHouse$Op" "FIRST" "LShareHouse$Op;") ∈ lw_all := lw_g (lw_at lw_m4 237 rfl) rfl
theorem q1170 : (Jvm.Cond.fieldLink "ShareHouse$Reader" (421 : Nat) "ShareHouse$Op" "ENDBIT" "LShareHouse$Op;") ∈ lw_all := lw_g (lw_at lw_m4 239 rfl) rfl
theorem q1172 : (Jvm.Cond.methodLink "ShareHouse$Reader" (412 : Nat) ({ cls := "ShareHouse$Reader", name := "named", desc := "(I)V" } : Jvm.MethodName)) ∈ lw_all := lw_g (lw_at lw_m5 1 rfl) rfl
theorem q1173 : (Jvm.Cond.privateMethod ({ cls := "ShareHouse$Reader", name := "named", desc := "(I)V" } : Jvm.MethodName)) ∈ lw_tbl := lw_at lw_m5 2 rfl
theorem q1174 : (Jvm.Cond.instanceMethod ({ cls := "ShareHouse$Reader", name := "named", desc := "(I)V" } : Jvm.MethodName)) ∈ lw_all := lw_g (lw_at lw_m5 3 rfl) rfl
theorem q1175 : (Jvm.Cond.code ({ cls := "ShareHouse$Reader", name := "named", desc := "(I)V" } : Jvm.MethodName) prog_13_method_38_code (4 : Nat) (Option.none : Option Jvm.ClassFile.FieldType)) ∈ lw_all := lw_g (lw_at lw_m5 4 rfl) rfl
theorem q1176 : (Jvm.Cond.fieldLink "ShareHouse$Reader" (424 : Nat) "ShareHouse$Op" "ELEMENT" "LShareHouse$Op;") ∈ lw_all := lw_g (lw_at lw_m5 5 rfl) rfl
theorem q1178 : (Jvm.Cond.fieldLink "ShareHouse$Reader" (427 : Nat) "ShareHouse$Op" "ENDELEMENT" "LShareHouse$Op;") ∈ lw_all := lw_g (lw_at lw_m5 7 rfl) rfl
theorem q1180 : (Jvm.Cond.methodLink "ShareHouse$Reader" (430 : Nat) ({ cls := "ShareHouse$Reader", name := "call", desc := "(II)V" } : Jvm.MethodName)) ∈ lw_all := lw_g (lw_at lw_m5 9 rfl) rfl
theorem q1181 : (Jvm.Cond.privateMethod ({ cls := "ShareHouse$Reader", name := "call", desc := "(II)V" } : Jvm.MethodName)) ∈ lw_tbl := lw_at lw_m5 10 rfl
theorem q1182 : (Jvm.Cond.instanceMethod ({ cls := "ShareHouse$Reader", name := "call", desc := "(II)V" } : Jvm.MethodName)) ∈ lw_all := lw_g (lw_at lw_m5 11 rfl) rfl
theorem q1183 : (Jvm.Cond.code ({ cls := "ShareHouse$Reader", name := "call", desc := "(II)V" } : Jvm.MethodName) prog_13_method_39_code (7 : Nat) (Option.none : Option Jvm.ClassFile.FieldType)) ∈ lw_all := lw_g (lw_at lw_m5 12 rfl) rfl
theorem q1184 : (Jvm.Cond.fieldLink "ShareHouse$Reader" (436 : Nat) "ShareHouse$Op" "CALL" "LShareHouse$Op;") ∈ lw_all := lw_g (lw_at lw_m5 13 rfl) rfl
theorem q1186 : (Jvm.Cond.fieldLink "ShareHouse$Reader" (439 : Nat) "ShareHouse$Op" "ARGUMENT" "LShareHouse$Op;") ∈ lw_all := lw_g (lw_at lw_m5 15 rfl) rfl
theorem q1188 : (Jvm.Cond.fieldLink "ShareHouse$Reader" (442 : Nat) "ShareHouse$Op" "ENDCALL" "LShareHouse$Op;") ∈ lw_all := lw_g (lw_at lw_m5 17 rfl) rfl
theorem q1190 : (Jvm.Cond.fieldLink "ShareHouse$Reader" (433 : Nat) "ShareHouse$Op" "READ" "LShareHouse$Op;") ∈ lw_all := lw_g (lw_at lw_m5 19 rfl) rfl
theorem q1192 : (Jvm.Cond.methodLink "ShareHouse$Reader" (374 : Nat) ({ cls := "ShareHouse$Reader", name := "findOperator", desc := "()V" } : Jvm.MethodName)) ∈ lw_all := lw_g (lw_at lw_m5 21 rfl) rfl
theorem q1193 : (Jvm.Cond.privateMethod ({ cls := "ShareHouse$Reader", name := "findOperator", desc := "()V" } : Jvm.MethodName)) ∈ lw_tbl := lw_at lw_m5 22 rfl
theorem q1194 : (Jvm.Cond.instanceMethod ({ cls := "ShareHouse$Reader", name := "findOperator", desc := "()V" } : Jvm.MethodName)) ∈ lw_all := lw_g (lw_at lw_m5 23 rfl) rfl
theorem q1195 : (Jvm.Cond.code ({ cls := "ShareHouse$Reader", name := "findOperator", desc := "()V" } : Jvm.MethodName) prog_13_method_34_code (3 : Nat) (Option.none : Option Jvm.ClassFile.FieldType)) ∈ lw_all := lw_g (lw_at lw_m5 24 rfl) rfl
theorem q1196 : (Jvm.Cond.fieldLink "ShareHouse$Reader" (148 : Nat) "ShareHouse$Op" "END" "LShareHouse$Op;") ∈ lw_all := lw_g (lw_at lw_m5 25 rfl) rfl
theorem q1198 : (Jvm.Cond.methodLink "ShareHouse$Reader" (314 : Nat) ({ cls := "ShareHouse$Reader", name := "is", desc := "(LShareHouse$Op;II)V" } : Jvm.MethodName)) ∈ lw_all := lw_g (lw_at lw_m5 27 rfl) rfl
theorem q1199 : (Jvm.Cond.privateMethod ({ cls := "ShareHouse$Reader", name := "is", desc := "(LShareHouse$Op;II)V" } : Jvm.MethodName)) ∈ lw_tbl := lw_at lw_m5 28 rfl
theorem q1200 : (Jvm.Cond.instanceMethod ({ cls := "ShareHouse$Reader", name := "is", desc := "(LShareHouse$Op;II)V" } : Jvm.MethodName)) ∈ lw_all := lw_g (lw_at lw_m5 29 rfl) rfl
theorem q1201 : (Jvm.Cond.code ({ cls := "ShareHouse$Reader", name := "is", desc := "(LShareHouse$Op;II)V" } : Jvm.MethodName) prog_13_method_33_code (4 : Nat) (Option.none : Option Jvm.ClassFile.FieldType)) ∈ lw_all := lw_g (lw_at lw_m5 30 rfl) rfl
theorem q1202 : (Jvm.Cond.fieldLink "ShareHouse$Reader" (317 : Nat) "ShareHouse$Op" "OR" "LShareHouse$Op;") ∈ lw_all := lw_g (lw_at lw_m5 31 rfl) rfl
theorem q1204 : (Jvm.Cond.fieldLink "ShareHouse$Reader" (320 : Nat) "ShareHouse$Op" "BAR" "LShareHouse$Op;") ∈ lw_all := lw_g (lw_at lw_m5 33 rfl) rfl
theorem q1206 : (Jvm.Cond.fieldLink "ShareHouse$Reader" (323 : Nat) "ShareHouse$Op" "AND" "LShareHouse$Op;") ∈ lw_all := lw_g (lw_at lw_m5 35 rfl) rfl
theorem q1208 : (Jvm.Cond.fieldLink "ShareHouse$Reader" (326 : Nat) "ShareHouse$Op" "ET" "LShareHouse$Op;") ∈ lw_all := lw_g (lw_at lw_m5 37 rfl) rfl
theorem q1210 : (Jvm.Cond.fieldLink "ShareHouse$Reader" (329 : Nat) "ShareHouse$Op" "XOR" "LShareHouse$Op;") ∈ lw_all := lw_g (lw_at lw_m5 39 rfl) rfl
theorem q1212 : (Jvm.Cond.fieldLink "ShareHouse$Reader" (332 : Nat) "ShareHouse$Op" "SAME" "LShareHouse$Op;") ∈ lw_all := lw_g (lw_at lw_m5 41 rfl) rfl
theorem q1214 : (Jvm.Cond.fieldLink "ShareHouse$Reader" (335 : Nat) "ShareHouse$Op" "OTHER" "LShareHouse$Op;") ∈ lw_all := lw_g (lw_at lw_m5 43 rfl) rfl
theorem q1216 : (Jvm.Cond.fieldLink "ShareHouse$Reader" (338 : Nat) "ShareHouse$Op" "MOST" "LShareHouse$Op;") ∈ lw_all := lw_g (lw_at lw_m5 45 rfl) rfl
theorem q1218 : (Jvm.Cond.fieldLink "ShareHouse$Reader" (341 : Nat) "ShareHouse$Op" "LEFT" "LShareHouse$Op;") ∈ lw_all := lw_g (lw_at lw_m5 47 rfl) rfl
theorem q1220 : (Jvm.Cond.fieldLink "ShareHouse$Reader" (344 : Nat) "ShareHouse$Op" "LESS" "LShareHouse$Op;") ∈ lw_all := lw_g (lw_at lw_m5 49 rfl) rfl
theorem q1222 : (Jvm.Cond.fieldLink "ShareHouse$Reader" (347 : Nat) "ShareHouse$Op" "LEAST" "LShareHouse$Op;") ∈ lw_all := lw_g (lw_at lw_m5 51 rfl) rfl
theorem q1224 : (Jvm.Cond.fieldLink "ShareHouse$Reader" (350 : Nat) "ShareHouse$Op" "RIGHT" "LShareHouse$Op;") ∈ lw_all := lw_g (lw_at lw_m5 53 rfl) rfl
theorem q1226 : (Jvm.Cond.fieldLink "ShareHouse$Reader" (353 : Nat) "ShareHouse$Op" "MORE" "LShareHouse$Op;") ∈ lw_all := lw_g (lw_at lw_m5 55 rfl) rfl
theorem q1228 : (Jvm.Cond.fieldLink "ShareHouse$Reader" (356 : Nat) "ShareHouse$Op" "PLUS" "LShareHouse$Op;") ∈ lw_all := lw_g (lw_at lw_m5 57 rfl) rfl
theorem q1230 : (Jvm.Cond.fieldLink "ShareHouse$Reader" (359 : Nat) "ShareHouse$Op" "MINUS" "LShareHouse$Op;") ∈ lw_all := lw_g (lw_at lw_m5 59 rfl) rfl
theorem q1232 : (Jvm.Cond.fieldLink "ShareHouse$Reader" (362 : Nat) "ShareHouse$Op" "TIMES" "LShareHouse$Op;") ∈ lw_all := lw_g (lw_at lw_m5 61 rfl) rfl
theorem q1234 : (Jvm.Cond.fieldLink "ShareHouse$Reader" (365 : Nat) "ShareHouse$Op" "BY" "LShareHouse$Op;") ∈ lw_all := lw_g (lw_at lw_m5 63 rfl) rfl
theorem q1236 : (Jvm.Cond.fieldLink "ShareHouse$Reader" (368 : Nat) "ShareHouse$Op" "REST" "LShareHouse$Op;") ∈ lw_all := lw_g (lw_at lw_m5 65 rfl) rfl
theorem q1238 : (Jvm.Cond.fieldLink "ShareHouse$Reader" (302 : Nat) "ShareHouse$Op" "CHOOSE" "LShareHouse$Op;") ∈ lw_all := lw_g (lw_at lw_m5 67 rfl) rfl
theorem q1240 : (Jvm.Cond.fieldLink "ShareHouse$Reader" (214 : Nat) "ShareHouse$Op" "ENDDEF" "LShareHouse$Op;") ∈ lw_all := lw_g (lw_at lw_m5 69 rfl) rfl
theorem q1242 : (Jvm.Cond.methodLink "ShareHouse$Reader" (164 : Nat) ({ cls := "ShareHouse$Reader", name := "output", desc := "()V" } : Jvm.MethodName)) ∈ lw_all := lw_g (lw_at lw_m5 71 rfl) rfl
theorem q1243 : (Jvm.Cond.privateMethod ({ cls := "ShareHouse$Reader", name := "output", desc := "()V" } : Jvm.MethodName)) ∈ lw_tbl := lw_at lw_m5 72 rfl
theorem q1244 : (Jvm.Cond.instanceMethod ({ cls := "ShareHouse$Reader", name := "output", desc := "()V" } : Jvm.MethodName)) ∈ lw_all := lw_g (lw_at lw_m5 73 rfl) rfl
theorem q1245 : (Jvm.Cond.code ({ cls := "ShareHouse$Reader", name := "output", desc := "()V" } : Jvm.MethodName) prog_13_method_24_code (2 : Nat) (Option.none : Option Jvm.ClassFile.FieldType)) ∈ lw_all := lw_g (lw_at lw_m5 74 rfl) rfl
theorem q1246 : (Jvm.Cond.fieldLink "ShareHouse$Reader" (224 : Nat) "ShareHouse$Op" "OUTPUT" "LShareHouse$Op;") ∈ lw_all := lw_g (lw_at lw_m5 75 rfl) rfl
theorem q1248 : (Jvm.Cond.fieldLink "ShareHouse$Reader" (227 : Nat) "ShareHouse$Op" "ENDOUTPUT" "LShareHouse$Op;") ∈ lw_all := lw_g (lw_at lw_m5 77 rfl) rfl
theorem q1250 : (Jvm.Cond.methodLink "ShareHouse$Reader" (166 : Nat) ({ cls := "ShareHouse$Reader", name := "statement", desc := "()V" } : Jvm.MethodName)) ∈ lw_all := lw_g (lw_at lw_m5 79 rfl) rfl
theorem q1251 : (Jvm.Cond.privateMethod ({ cls := "ShareHouse$Reader", name := "statement", desc := "()V" } : Jvm.MethodName)) ∈ lw_tbl := lw_at lw_m5 80 rfl
theorem q1252 : (Jvm.Cond.instanceMethod ({ cls := "ShareHouse$Reader", name := "statement", desc := "()V" } : Jvm.MethodName)) ∈ lw_all := lw_g (lw_at lw_m5 81 rfl) rfl
theorem q1253 : (Jvm.Cond.code ({ cls := "ShareHouse$Reader", name := "statement", desc := "()V" } : Jvm.MethodName) prog_13_method_25_code (3 : Nat) (Option.none : Option Jvm.ClassFile.FieldType)) ∈ lw_all := lw_g (lw_at lw_m5 82 rfl) rfl
theorem q1254 : (Jvm.Cond.fieldLink "ShareHouse$Reader" (230 : Nat) "ShareHouse$Op" "STATEMENT" "LShareHouse$Op;") ∈ lw_all := lw_g (lw_at lw_m5 83 rfl) rfl
theorem q1256 : (Jvm.Cond.methodLink "ShareHouse$Reader" (233 : Nat) ({ cls := "ShareHouse$Reader", name := "variable", desc := "()V" } : Jvm.MethodName)) ∈ lw_all := lw_g (lw_at lw_m5 85 rfl) rfl
theorem q1257 : (Jvm.Cond.privateMethod ({ cls := "ShareHouse$Reader", name := "variable", desc := "()V" } : Jvm.MethodName)) ∈ lw_tbl := lw_at lw_m5 86 rfl
theorem q1258 : (Jvm.Cond.instanceMethod ({ cls := "ShareHouse$Reader", name := "variable", desc := "()V" } : Jvm.MethodName)) ∈ lw_all := lw_g (lw_at lw_m5 87 rfl) rfl
theorem q1259 : (Jvm.Cond.code ({ cls := "ShareHouse$Reader", name := "variable", desc := "()V" } : Jvm.MethodName) prog_13_method_26_code (7 : Nat) (Option.none : Option Jvm.ClassFile.FieldType)) ∈ lw_all := lw_g (lw_at lw_m5 88 rfl) rfl
theorem q1260 : (Jvm.Cond.fieldLink "ShareHouse$Reader" (245 : Nat) "ShareHouse$Op" "VAR" "LShareHouse$Op;") ∈ lw_all := lw_g (lw_at lw_m5 89 rfl) rfl
theorem q1262 : (Jvm.Cond.fieldLink "ShareHouse$Reader" (248 : Nat) "ShareHouse$Op" "ENDVAR" "LShareHouse$Op;") ∈ lw_all := lw_g (lw_at lw_m5 91 rfl) rfl
theorem q1264 : (Jvm.Cond.methodLink "ShareHouse$Reader" (236 : Nat) ({ cls := "ShareHouse$Reader", name := "condition", desc := "()V" } : Jvm.MethodName)) ∈ lw_all := lw_g (lw_at lw_m5 93 rfl) rfl
theorem q1265 : (Jvm.Cond.privateMethod ({ cls := "ShareHouse$Reader", name := "condition", desc := "()V" } : Jvm.MethodName)) ∈ lw_tbl := lw_at lw_m5 94 rfl
theorem q1266 : (Jvm.Cond.instanceMethod ({ cls := "ShareHouse$Reader", name := "condition", desc := "()V" } : Jvm.MethodName)) ∈ lw_all := lw_g (lw_at lw_m5 95 rfl) rfl
theorem q1267 : (Jvm.Cond.code ({ cls := "ShareHouse$Reader", name := "condition", desc := "()V" } : Jvm.MethodName) prog_13_method_29_code (6 : Nat) (Option.none : Option Jvm.ClassFile.FieldType)) ∈ lw_all := lw_g (lw_at lw_m5 96 rfl) rfl
theorem q1268 : (Jvm.Cond.fieldLink "ShareHouse$Reader" (275 : Nat) "ShareHouse$Op" "IF" "LShareHouse$Op;") ∈ lw_all := lw_g (lw_at lw_m5 97 rfl) rfl
theorem q1270 : (Jvm.Cond.methodLink "ShareHouse$Reader" (278 : Nat) ({ cls := "ShareHouse$Reader", name := "block", desc := "()V" } : Jvm.MethodName)) ∈ lw_all := lw_g (lw_at lw_m5 99 rfl) rfl
theorem q1271 : (Jvm.Cond.privateMethod ({ cls := "ShareHouse$Reader", name := "block", desc := "()V" } : Jvm.MethodName)) ∈ lw_tbl := lw_at lw_m5 100 rfl
theorem q1272 : (Jvm.Cond.instanceMethod ({ cls := "ShareHouse$Reader", name := "block", desc := "()V" } : Jvm.MethodName)) ∈ lw_all := lw_g (lw_at lw_m5 101 rfl) rfl
theorem q1273 : (Jvm.Cond.code ({ cls := "ShareHouse$Reader", name := "block", desc := "()V" } : Jvm.MethodName) prog_13_method_28_code (2 : Nat) (Option.none : Option Jvm.ClassFile.FieldType)) ∈ lw_all := lw_g (lw_at lw_m5 102 rfl) rfl
theorem q1274 : (Jvm.Cond.fieldLink "ShareHouse$Reader" (266 : Nat) "ShareHouse$Op" "BLOCK" "LShareHouse$Op;") ∈ lw_all := lw_g (lw_at lw_m5 103 rfl) rfl
theorem q1276 : (Jvm.Cond.fieldLink "ShareHouse$Reader" (269 : Nat) "ShareHouse$Op" "ENDBLOCK" "LShareHouse$Op;") ∈ lw_all := lw_g (lw_at lw_m5 105 rfl) rfl
theorem q1278 : (Jvm.Cond.fieldLink "ShareHouse$Reader" (281 : Nat) "ShareHouse$Op" "ELSE" "LShareHouse$Op;") ∈ lw_all := lw_g (lw_at lw_m5 107 rfl) rfl
theorem q1280 : (Jvm.Cond.fieldLink "ShareHouse$Reader" (284 : Nat) "ShareHouse$Op" "ENDIF" "LShareHouse$Op;") ∈ lw_all := lw_g (lw_at lw_m5 109 rfl) rfl
theorem q1282 : (Jvm.Cond.methodLink "ShareHouse$Reader" (239 : Nat) ({ cls := "ShareHouse$Reader", name := "loop", desc := "()V" } : Jvm.MethodName)) ∈ lw_all := lw_g (lw_at lw_m5 111 rfl) rfl
theorem q1283 : (Jvm.Cond.privateMethod ({ cls := "ShareHouse$Reader", name := "loop", desc := "()V" } : Jvm.MethodName)) ∈ lw_tbl := lw_at lw_m5 112 rfl
theorem q1284 : (Jvm.Cond.instanceMethod ({ cls := "ShareHouse$Reader", name := "loop", desc := "()V" } : Jvm.MethodName)) ∈ lw_all := lw_g (lw_at lw_m5 113 rfl) rfl
theorem q1285 : (Jvm.Cond.code ({ cls := "ShareHouse$Reader", name := "loop", desc := "()V" } : Jvm.MethodName) prog_13_method_30_code (6 : Nat) (Option.none : Option Jvm.ClassFile.FieldType)) ∈ lw_all := lw_g (lw_at lw_m5 114 rfl) rfl
theorem q1286 : (Jvm.Cond.fieldLink "ShareHouse$Reader" (287 : Nat) "ShareHouse$Op" "FOR" "LShareHouse$Op;") ∈ lw_all := lw_g (lw_at lw_m5 115 rfl) rfl
theorem q1288 : (Jvm.Cond.fieldLink "ShareHouse$Reader" (290 : Nat) "ShareHouse$Op" "BOUND" "LShareHouse$Op;") ∈ lw_all := lw_g (lw_at lw_m5 117 rfl) rfl
theorem q1290 : (Jvm.Cond.fieldLink "ShareHouse$Reader" (293 : Nat) "ShareHouse$Op" "LOOP" "LShareHouse$Op;") ∈ lw_all := lw_g (lw_at lw_m5 119 rfl) rfl
theorem q1292 : (Jvm.Cond.fieldLink "ShareHouse$Reader" (296 : Nat) "ShareHouse$Op" "ENDFOR" "LShareHouse$Op;") ∈ lw_all := lw_g (lw_at lw_m5 121 rfl) rfl
theorem q1294 : (Jvm.Cond.methodLink "ShareHouse$Reader" (242 : Nat) ({ cls := "ShareHouse$Reader", name := "assignment", desc := "()V" } : Jvm.MethodName)) ∈ lw_all := lw_g (lw_at lw_m5 123 rfl) rfl
theorem q1295 : (Jvm.Cond.privateMethod ({ cls := "ShareHouse$Reader", name := "assignment", desc := "()V" } : Jvm.MethodName)) ∈ lw_tbl := lw_at lw_m5 124 rfl
theorem q1296 : (Jvm.Cond.instanceMethod ({ cls := "ShareHouse$Reader", name := "assignment", desc := "()V" } : Jvm.MethodName)) ∈ lw_all := lw_g (lw_at lw_m5 125 rfl) rfl
theorem q1297 : (Jvm.Cond.code ({ cls := "ShareHouse$Reader", name := "assignment", desc := "()V" } : Jvm.MethodName) prog_13_method_27_code (5 : Nat) (Option.none : Option Jvm.ClassFile.FieldType)) ∈ lw_all := lw_g (lw_at lw_m5 126 rfl) rfl
theorem q1298 : (Jvm.Cond.fieldLink "ShareHouse$Reader" (251 : Nat) "ShareHouse$Op" "PLACE" "LShareHouse$Op;") ∈ lw_all := lw_g (lw_at lw_m5 127 rfl) rfl
theorem q1300 : (Jvm.Cond.fieldLink "ShareHouse$Reader" (257 : Nat) "ShareHouse$Op" "ENDPLACE" "LShareHouse$Op;") ∈ lw_all := lw_g (lw_at lw_m5 129 rfl) rfl
theorem q1302 : (Jvm.Cond.fieldLink "ShareHouse$Reader" (260 : Nat) "ShareHouse$Op" "TARGET" "LShareHouse$Op;") ∈ lw_all := lw_g (lw_at lw_m5 131 rfl) rfl
theorem q1304 : (Jvm.Cond.fieldLink "ShareHouse$Reader" (263 : Nat) "ShareHouse$Op" "ASSIGN" "LShareHouse$Op;") ∈ lw_all := lw_g (lw_at lw_m5 133 rfl) rfl
theorem in_X8 : ∀ w ∈ wsX80, w ∈ lw_all := lw_in wsX80 [438, 440, 442, 444, 446, 448, 450, 452, 454, 456, 458, 460, 462, 464, 466, 468] (by decide +kernel) (by decide +kernel)
theorem q221 : (Jvm.Cond.initialized "ShareHouse$Checker") ∈ lw_all := lw_g (lw_at lw_m1 10 rfl) rfl
theorem q254 : (Jvm.Cond.fieldLinkNest "ShareHouse$Checker" (107 : Nat) "ShareHouse$Code" "ops" "[LShareHouse$Op;" "ShareHouse") ∈ lw_tbl := lw_at lw_m1 43 rfl
theorem q257 : (Jvm.Cond.fieldLinkNest "ShareHouse$Checker" (133 : Nat) "ShareHouse$Code" "of" "[I" "ShareHouse") ∈ lw_tbl := lw_at lw_m1 46 rfl
theorem q260 : (Jvm.Cond.fieldLinkNest "ShareHouse$Checker" (136 : Nat) "ShareHouse$Code" "places" "[I" "ShareHouse") ∈ lw_tbl := lw_at lw_m1 49 rfl
theorem q263 : (Jvm.Cond.fieldLinkNest "ShareHouse$Checker" (143 : Nat) "ShareHouse$Code" "more" "[I" "ShareHouse") ∈ lw_tbl := lw_at lw_m1 52 rfl
theorem q268 : (Jvm.Cond.fieldLinkNest "ShareHouse$Checker" (96 : Nat) "ShareHouse$Code" "size" "I" "ShareHouse") ∈ lw_tbl := lw_at lw_m1 57 rfl
theorem q472 : (Jvm.Cond.instantiable "ShareHouse$Checker" (21 : Nat)) ∈ lw_all := lw_g (lw_at lw_m2 21 rfl) rfl
theorem q474 : (Jvm.Cond.instanceMethod ({ cls := "ShareHouse$Checker", name := "<init>", desc := "(ILShareHouse$Code;LShareHouse$Fault;)V" } : Jvm.MethodName)) ∈ lw_all := lw_g (lw_at lw_m2 23 rfl) rfl
theorem q475 : (Jvm.Cond.code ({ cls := "ShareHouse$Checker", name := "<init>", desc := "(ILShareHouse$Code;LShareHouse$Fault;)V" } : Jvm.MethodName) prog_4_method_1_code (4 : Nat) (Option.none : Option Jvm.ClassFile.FieldType)) ∈ lw_all := lw_g (lw_at lw_m2 24 rfl) rfl
theorem q476 : (Jvm.Cond.methodLink "ShareHouse$Checker" (3 : Nat) ({ cls := "java/lang/Object", name := "<init>", desc := "()V" } : Jvm.MethodName)) ∈ lw_all := lw_g (lw_at lw_m2 25 rfl) rfl
theorem q477 : (Jvm.Cond.classLink "ShareHouse$Checker" (9 : Nat) "ShareHouse$Scope") ∈ lw_all := lw_g (lw_at lw_m2 26 rfl) rfl
theorem q479 : (Jvm.Cond.methodLinkNest "ShareHouse$Checker" (11 : Nat) ({ cls := "ShareHouse$Scope", name := "<init>", desc := "()V" } : Jvm.MethodName) "ShareHouse") ∈ lw_tbl := lw_at lw_m2 28 rfl
theorem q485 : (Jvm.Cond.fieldLinkNest "ShareHouse$Checker" (186 : Nat) "ShareHouse$Scope" "kinds" "[I" "ShareHouse") ∈ lw_tbl := lw_at lw_m2 34 rfl
theorem q487 : (Jvm.Cond.fieldLinkNest "ShareHouse$Checker" (192 : Nat) "ShareHouse$Scope" "sorts" "[I" "ShareHouse") ∈ lw_tbl := lw_at lw_m2 36 rfl
theorem q489 : (Jvm.Cond.fieldLinkNest "ShareHouse$Checker" (189 : Nat) "ShareHouse$Scope" "sizes" "[I" "ShareHouse") ∈ lw_tbl := lw_at lw_m2 38 rfl
theorem q491 : (Jvm.Cond.fieldLinkNest "ShareHouse$Checker" (193 : Nat) "ShareHouse$Scope" "slots" "[I" "ShareHouse") ∈ lw_tbl := lw_at lw_m2 40 rfl
theorem q493 : (Jvm.Cond.fieldLinkNest "ShareHouse$Checker" (72 : Nat) "ShareHouse$Scope" "size" "I" "ShareHouse") ∈ lw_tbl := lw_at lw_m2 42 rfl
theorem q507 : (Jvm.Cond.fieldLink "ShareHouse$Checker" (48 : Nat) "ShareHouse$Checker" "code" "LShareHouse$Code;") ∈ lw_all := lw_g (lw_at lw_m2 56 rfl) rfl
theorem q508 : (Jvm.Cond.fieldLink "ShareHouse$Checker" (52 : Nat) "ShareHouse$Checker" "fault" "LShareHouse$Fault;") ∈ lw_all := lw_g (lw_at lw_m2 57 rfl) rfl
theorem q509 : (Jvm.Cond.fieldLink "ShareHouse$Checker" (12 : Nat) "ShareHouse$Checker" "scope" "LShareHouse$Scope;") ∈ lw_all := lw_g (lw_at lw_m2 58 rfl) rfl
theorem q510 : (Jvm.Cond.fieldLink "ShareHouse$Checker" (18 : Nat) "ShareHouse$Checker" "sorts" "[I") ∈ lw_all := lw_g (lw_at lw_m2 59 rfl) rfl
theorem q511 : (Jvm.Cond.fieldLink "ShareHouse$Checker" (22 : Nat) "ShareHouse$Checker" "places" "[I") ∈ lw_all := lw_g (lw_at lw_m2 60 rfl) rfl
theorem q512 : (Jvm.Cond.fieldLink "ShareHouse$Checker" (25 : Nat) "ShareHouse$Checker" "open" "[Z") ∈ lw_all := lw_g (lw_at lw_m2 61 rfl) rfl
theorem q513 : (Jvm.Cond.fieldLink "ShareHouse$Checker" (56 : Nat) "ShareHouse$Checker" "top" "I") ∈ lw_all := lw_g (lw_at lw_m2 62 rfl) rfl
theorem q514 : (Jvm.Cond.fieldLink "ShareHouse$Checker" (29 : Nat) "ShareHouse$Checker" "marks" "[I") ∈ lw_all := lw_g (lw_at lw_m2 63 rfl) rfl
theorem q515 : (Jvm.Cond.fieldLink "ShareHouse$Checker" (75 : Nat) "ShareHouse$Checker" "deep" "I") ∈ lw_all := lw_g (lw_at lw_m2 64 rfl) rfl
theorem q516 : (Jvm.Cond.fieldLink "ShareHouse$Checker" (78 : Nat) "ShareHouse$Checker" "words" "I") ∈ lw_all := lw_g (lw_at lw_m2 65 rfl) rfl
theorem q517 : (Jvm.Cond.fieldLink "ShareHouse$Checker" (81 : Nat) "ShareHouse$Checker" "inputWords" "I") ∈ lw_all := lw_g (lw_at lw_m2 66 rfl) rfl
theorem q519 : (Jvm.Cond.fieldLink "ShareHouse$Checker" (84 : Nat) "ShareHouse$Checker" "inputBits" "I") ∈ lw_all := lw_g (lw_at lw_m2 68 rfl) rfl
theorem q520 : (Jvm.Cond.fieldLink "ShareHouse$Checker" (87 : Nat) "ShareHouse$Checker" "loops" "I") ∈ lw_all := lw_g (lw_at lw_m2 69 rfl) rfl
theorem q521 : (Jvm.Cond.fieldLink "ShareHouse$Checker" (65 : Nat) "ShareHouse$Checker" "def" "I") ∈ lw_all := lw_g (lw_at lw_m2 70 rfl) rfl
theorem q522 : (Jvm.Cond.fieldLink "ShareHouse$Checker" (32 : Nat) "ShareHouse$Checker" "sortOfDef" "[I") ∈ lw_all := lw_g (lw_at lw_m2 71 rfl) rfl
theorem q523 : (Jvm.Cond.fieldLink "ShareHouse$Checker" (35 : Nat) "ShareHouse$Checker" "firstParam" "[I") ∈ lw_all := lw_g (lw_at lw_m2 72 rfl) rfl
theorem q524 : (Jvm.Cond.fieldLink "ShareHouse$Checker" (38 : Nat) "ShareHouse$Checker" "manyParams" "[I") ∈ lw_all := lw_g (lw_at lw_m2 73 rfl) rfl
theorem q525 : (Jvm.Cond.fieldLink "ShareHouse$Checker" (41 : Nat) "ShareHouse$Checker" "paramSorts" "[I") ∈ lw_all := lw_g (lw_at lw_m2 74 rfl) rfl
theorem q526 : (Jvm.Cond.fieldLink "ShareHouse$Checker" (90 : Nat) "ShareHouse$Checker" "defs" "I") ∈ lw_all := lw_g (lw_at lw_m2 75 rfl) rfl
theorem q527 : (Jvm.Cond.fieldLink "ShareHouse$Checker" (93 : Nat) "ShareHouse$Checker" "params" "I") ∈ lw_all := lw_g (lw_at lw_m2 76 rfl) rfl
theorem q528 : (Jvm.Cond.fieldLink "ShareHouse$Checker" (44 : Nat) "ShareHouse$Checker" "width" "I") ∈ lw_all := lw_g (lw_at lw_m2 77 rfl) rfl
theorem q529 : (Jvm.Cond.laysFinal "ShareHouse$Checker" "ShareHouse$Checker" "code" "LShareHouse$Code;") ∈ lw_all := lw_g (lw_at lw_m2 78 rfl) rfl
theorem q530 : (Jvm.Cond.soleField "ShareHouse$Checker" "code") ∈ lw_all := lw_g (lw_at lw_m2 79 rfl) rfl
theorem q531 : (Jvm.Cond.laysFinal "ShareHouse$Checker" "ShareHouse$Checker" "fault" "LShareHouse$Fault;") ∈ lw_all := lw_g (lw_at lw_m2 80 rfl) rfl
theorem q532 : (Jvm.Cond.soleField "ShareHouse$Checker" "fault") ∈ lw_all := lw_g (lw_at lw_m2 81 rfl) rfl
theorem q533 : (Jvm.Cond.laysFinal "ShareHouse$Checker" "ShareHouse$Checker" "scope" "LShareHouse$Scope;") ∈ lw_all := lw_g (lw_at lw_m2 82 rfl) rfl
theorem q534 : (Jvm.Cond.soleField "ShareHouse$Checker" "scope") ∈ lw_all := lw_g (lw_at lw_m2 83 rfl) rfl
theorem q535 : (Jvm.Cond.laysFinal "ShareHouse$Checker" "ShareHouse$Checker" "sorts" "[I") ∈ lw_all := lw_g (lw_at lw_m2 84 rfl) rfl
theorem q536 : (Jvm.Cond.soleField "ShareHouse$Checker" "sorts") ∈ lw_all := lw_g (lw_at lw_m2 85 rfl) rfl
theorem q537 : (Jvm.Cond.laysFinal "ShareHouse$Checker" "ShareHouse$Checker" "places" "[I") ∈ lw_all := lw_g (lw_at lw_m2 86 rfl) rfl
theorem q538 : (Jvm.Cond.soleField "ShareHouse$Checker" "places") ∈ lw_all := lw_g (lw_at lw_m2 87 rfl) rfl
theorem q539 : (Jvm.Cond.laysFinal "ShareHouse$Checker" "ShareHouse$Checker" "open" "[Z") ∈ lw_all := lw_g (lw_at lw_m2 88 rfl) rfl
theorem q540 : (Jvm.Cond.soleField "ShareHouse$Checker" "open") ∈ lw_all := lw_g (lw_at lw_m2 89 rfl) rfl
theorem q541 : (Jvm.Cond.lays "ShareHouse$Checker" "ShareHouse$Checker" "top" "I") ∈ lw_all := lw_g (lw_at lw_m2 90 rfl) rfl
theorem q542 : (Jvm.Cond.soleField "ShareHouse$Checker" "top") ∈ lw_all := lw_g (lw_at lw_m2 91 rfl) rfl
theorem q543 : (Jvm.Cond.laysFinal "ShareHouse$Checker" "ShareHouse$Checker" "marks" "[I") ∈ lw_all := lw_g (lw_at lw_m2 92 rfl) rfl
theorem q544 : (Jvm.Cond.soleField "ShareHouse$Checker" "marks") ∈ lw_all := lw_g (lw_at lw_m2 93 rfl) rfl
theorem q545 : (Jvm.Cond.lays "ShareHouse$Checker" "ShareHouse$Checker" "deep" "I") ∈ lw_all := lw_g (lw_at lw_m2 94 rfl) rfl
theorem q546 : (Jvm.Cond.soleField "ShareHouse$Checker" "deep") ∈ lw_all := lw_g (lw_at lw_m2 95 rfl) rfl
theorem q547 : (Jvm.Cond.lays "ShareHouse$Checker" "ShareHouse$Checker" "words" "I") ∈ lw_all := lw_g (lw_at lw_m2 96 rfl) rfl
theorem q548 : (Jvm.Cond.soleField "ShareHouse$Checker" "words") ∈ lw_all := lw_g (lw_at lw_m2 97 rfl) rfl
theorem q549 : (Jvm.Cond.lays "ShareHouse$Checker" "ShareHouse$Checker" "inputWords" "I") ∈ lw_all := lw_g (lw_at lw_m2 98 rfl) rfl
theorem q550 : (Jvm.Cond.soleField "ShareHouse$Checker" "inputWords") ∈ lw_all := lw_g (lw_at lw_m2 99 rfl) rfl
theorem q551 : (Jvm.Cond.lays "ShareHouse$Checker" "ShareHouse$Checker" "inputBits" "I") ∈ lw_all := lw_g (lw_at lw_m2 100 rfl) rfl
theorem q552 : (Jvm.Cond.soleField "ShareHouse$Checker" "inputBits") ∈ lw_all := lw_g (lw_at lw_m2 101 rfl) rfl
theorem q553 : (Jvm.Cond.lays "ShareHouse$Checker" "ShareHouse$Checker" "loops" "I") ∈ lw_all := lw_g (lw_at lw_m2 102 rfl) rfl
theorem q554 : (Jvm.Cond.soleField "ShareHouse$Checker" "loops") ∈ lw_all := lw_g (lw_at lw_m2 103 rfl) rfl
theorem q555 : (Jvm.Cond.lays "ShareHouse$Checker" "ShareHouse$Checker" "def" "I") ∈ lw_all := lw_g (lw_at lw_m2 104 rfl) rfl
theorem q556 : (Jvm.Cond.soleField "ShareHouse$Checker" "def") ∈ lw_all := lw_g (lw_at lw_m2 105 rfl) rfl
theorem q557 : (Jvm.Cond.laysFinal "ShareHouse$Checker" "ShareHouse$Checker" "sortOfDef" "[I") ∈ lw_all := lw_g (lw_at lw_m2 106 rfl) rfl
theorem q558 : (Jvm.Cond.soleField "ShareHouse$Checker" "sortOfDef") ∈ lw_all := lw_g (lw_at lw_m2 107 rfl) rfl
theorem q559 : (Jvm.Cond.laysFinal "ShareHouse$Checker" "ShareHouse$Checker" "firstParam" "[I") ∈ lw_all := lw_g (lw_at lw_m2 108 rfl) rfl
theorem q560 : (Jvm.Cond.soleField "ShareHouse$Checker" "firstParam") ∈ lw_all := lw_g (lw_at lw_m2 109 rfl) rfl
theorem q561 : (Jvm.Cond.laysFinal "ShareHouse$Checker" "ShareHouse$Checker" "manyParams" "[I") ∈ lw_all := lw_g (lw_at lw_m2 110 rfl) rfl
theorem q562 : (Jvm.Cond.soleField "ShareHouse$Checker" "manyParams") ∈ lw_all := lw_g (lw_at lw_m2 111 rfl) rfl
theorem q563 : (Jvm.Cond.laysFinal "ShareHouse$Checker" "ShareHouse$Checker" "paramSorts" "[I") ∈ lw_all := lw_g (lw_at lw_m2 112 rfl) rfl
theorem q564 : (Jvm.Cond.soleField "ShareHouse$Checker" "paramSorts") ∈ lw_all := lw_g (lw_at lw_m2 113 rfl) rfl
theorem q565 : (Jvm.Cond.lays "ShareHouse$Checker" "ShareHouse$Checker" "defs" "I") ∈ lw_all := lw_g (lw_at lw_m2 114 rfl) rfl
theorem q566 : (Jvm.Cond.soleField "ShareHouse$Checker" "defs") ∈ lw_all := lw_g (lw_at lw_m2 115 rfl) rfl
theorem q567 : (Jvm.Cond.lays "ShareHouse$Checker" "ShareHouse$Checker" "params" "I") ∈ lw_all := lw_g (lw_at lw_m2 116 rfl) rfl
theorem q568 : (Jvm.Cond.soleField "ShareHouse$Checker" "params") ∈ lw_all := lw_g (lw_at lw_m2 117 rfl) rfl
theorem q569 : (Jvm.Cond.laysFinal "ShareHouse$Checker" "ShareHouse$Checker" "width" "I") ∈ lw_all := lw_g (lw_at lw_m2 118 rfl) rfl
theorem q570 : (Jvm.Cond.soleField "ShareHouse$Checker" "width") ∈ lw_all := lw_g (lw_at lw_m2 119 rfl) rfl
theorem q571 : (Jvm.Cond.superclass "ShareHouse$Checker" "java/lang/Object") ∈ lw_all := lw_g (lw_at lw_m2 120 rfl) rfl
theorem q1308 : (Jvm.Cond.instanceMethod ({ cls := "ShareHouse$Checker", name := "check", desc := "()V" } : Jvm.MethodName)) ∈ lw_all := lw_g (lw_at lw_m5 137 rfl) rfl
theorem q1309 : (Jvm.Cond.selects "ShareHouse$Checker" ({ cls := "ShareHouse$Checker", name := "check", desc := "()V" } : Jvm.MethodName) ({ cls := "ShareHouse$Checker", name := "check", desc := "()V" } : Jvm.MethodName)) ∈ lw_all := lw_g (lw_at lw_m5 138 rfl) rfl
theorem q1310 : (Jvm.Cond.code ({ cls := "ShareHouse$Checker", name := "check", desc := "()V" } : Jvm.MethodName) prog_4_method_7_code (2 : Nat) (Option.none : Option Jvm.ClassFile.FieldType)) ∈ lw_all := lw_g (lw_at lw_m5 139 rfl) rfl
theorem q1311 : (Jvm.Cond.methodLink "ShareHouse$Checker" (99 : Nat) ({ cls := "ShareHouse$Fault", name := "is", desc := "()Z" } : Jvm.MethodName)) ∈ lw_all := lw_g (lw_at lw_m5 140 rfl) rfl
theorem q1312 : (Jvm.Cond.methodLink "ShareHouse$Checker" (103 : Nat) ({ cls := "ShareHouse$Checker", name := "step", desc := "(I)V" } : Jvm.MethodName)) ∈ lw_all := lw_g (lw_at lw_m5 141 rfl) rfl
theorem q1313 : (Jvm.Cond.privateMethod ({ cls := "ShareHouse$Checker", name := "step", desc := "(I)V" } : Jvm.MethodName)) ∈ lw_tbl := lw_at lw_m5 142 rfl
theorem q1314 : (Jvm.Cond.instanceMethod ({ cls := "ShareHouse$Checker", name := "step", desc := "(I)V" } : Jvm.MethodName)) ∈ lw_all := lw_g (lw_at lw_m5 143 rfl) rfl
theorem q1315 : (Jvm.Cond.code ({ cls := "ShareHouse$Checker", name := "step", desc := "(I)V" } : Jvm.MethodName) prog_4_method_8_code (3 : Nat) (Option.none : Option Jvm.ClassFile.FieldType)) ∈ lw_all := lw_g (lw_at lw_m5 144 rfl) rfl
theorem q1316 : (Jvm.Cond.methodLink "ShareHouse$Checker" (111 : Nat) ({ cls := "ShareHouse$Op", name := "ordinal", desc := "()I" } : Jvm.MethodName)) ∈ lw_all := lw_g (lw_at lw_m5 145 rfl) rfl
theorem q1322 : (Jvm.Cond.fieldLink "ShareHouse$Checker" (117 : Nat) "ShareHouse$Op" "OR" "LShareHouse$Op;") ∈ lw_all := lw_g (lw_at lw_m5 151 rfl) rfl
theorem q1323 : (Jvm.Cond.methodLink "ShareHouse$Checker" (121 : Nat) ({ cls := "ShareHouse$Checker", name := "operator", desc := "(I)V" } : Jvm.MethodName)) ∈ lw_all := lw_g (lw_at lw_m5 152 rfl) rfl
theorem q1324 : (Jvm.Cond.privateMethod ({ cls := "ShareHouse$Checker", name := "operator", desc := "(I)V" } : Jvm.MethodName)) ∈ lw_tbl := lw_at lw_m5 153 rfl
theorem q1325 : (Jvm.Cond.instanceMethod ({ cls := "ShareHouse$Checker", name := "operator", desc := "(I)V" } : Jvm.MethodName)) ∈ lw_all := lw_g (lw_at lw_m5 154 rfl) rfl
theorem q1326 : (Jvm.Cond.code ({ cls := "ShareHouse$Checker", name := "operator", desc := "(I)V" } : Jvm.MethodName) prog_4_method_21_code (5 : Nat) (Option.none : Option Jvm.ClassFile.FieldType)) ∈ lw_all := lw_g (lw_at lw_m5 155 rfl) rfl
theorem q1327 : (Jvm.Cond.methodLink "ShareHouse$Checker" (159 : Nat) ({ cls := "ShareHouse$Checker", name := "need", desc := "(ZI)V" } : Jvm.MethodName)) ∈ lw_all := lw_g (lw_at lw_m5 156 rfl) rfl
theorem q1328 : (Jvm.Cond.privateMethod ({ cls := "ShareHouse$Checker", name := "need", desc := "(ZI)V" } : Jvm.MethodName)) ∈ lw_tbl := lw_at lw_m5 157 rfl
theorem q1329 : (Jvm.Cond.instanceMethod ({ cls := "ShareHouse$Checker", name := "need", desc := "(ZI)V" } : Jvm.MethodName)) ∈ lw_all := lw_g (lw_at lw_m5 158 rfl) rfl
theorem q1330 : (Jvm.Cond.code ({ cls := "ShareHouse$Checker", name := "need", desc := "(ZI)V" } : Jvm.MethodName) prog_4_method_4_code (3 : Nat) (Option.none : Option Jvm.ClassFile.FieldType)) ∈ lw_all := lw_g (lw_at lw_m5 159 rfl) rfl
theorem q1331 : (Jvm.Cond.methodLink "ShareHouse$Checker" (59 : Nat) ({ cls := "ShareHouse$Fault", name := "set", desc := "(II)V" } : Jvm.MethodName)) ∈ lw_all := lw_g (lw_at lw_m5 160 rfl) rfl
theorem q1332 : (Jvm.Cond.methodLink "ShareHouse$Checker" (203 : Nat) ({ cls := "ShareHouse$Checker", name := "become", desc := "(IZ)V" } : Jvm.MethodName)) ∈ lw_all := lw_g (lw_at lw_m5 161 rfl) rfl
theorem q1333 : (Jvm.Cond.privateMethod ({ cls := "ShareHouse$Checker", name := "become", desc := "(IZ)V" } : Jvm.MethodName)) ∈ lw_tbl := lw_at lw_m5 162 rfl
theorem q1334 : (Jvm.Cond.instanceMethod ({ cls := "ShareHouse$Checker", name := "become", desc := "(IZ)V" } : Jvm.MethodName)) ∈ lw_all := lw_g (lw_at lw_m5 163 rfl) rfl
theorem q1335 : (Jvm.Cond.code ({ cls := "ShareHouse$Checker", name := "become", desc := "(IZ)V" } : Jvm.MethodName) prog_4_method_3_code (3 : Nat) (Option.none : Option Jvm.ClassFile.FieldType)) ∈ lw_all := lw_g (lw_at lw_m5 164 rfl) rfl
theorem q1336 : (Jvm.Cond.methodLink "ShareHouse$Checker" (210 : Nat) ({ cls := "ShareHouse$Checker", name := "two", desc := "(I)V" } : Jvm.MethodName)) ∈ lw_all := lw_g (lw_at lw_m5 165 rfl) rfl
theorem q1337 : (Jvm.Cond.privateMethod ({ cls := "ShareHouse$Checker", name := "two", desc := "(I)V" } : Jvm.MethodName)) ∈ lw_tbl := lw_at lw_m5 166 rfl
theorem q1338 : (Jvm.Cond.instanceMethod ({ cls := "ShareHouse$Checker", name := "two", desc := "(I)V" } : Jvm.MethodName)) ∈ lw_all := lw_g (lw_at lw_m5 167 rfl) rfl
theorem q1339 : (Jvm.Cond.code ({ cls := "ShareHouse$Checker", name := "two", desc := "(I)V" } : Jvm.MethodName) prog_4_method_22_code (10 : Nat) (Option.none : Option Jvm.ClassFile.FieldType)) ∈ lw_all := lw_g (lw_at lw_m5 168 rfl) rfl
theorem q1340 : (Jvm.Cond.fieldLink "ShareHouse$Checker" (213 : Nat) "ShareHouse$Op" "LEFT" "LShareHouse$Op;") ∈ lw_all := lw_g (lw_at lw_m5 169 rfl) rfl
theorem q1341 : (Jvm.Cond.fieldLink "ShareHouse$Checker" (216 : Nat) "ShareHouse$Op" "RIGHT" "LShareHouse$Op;") ∈ lw_all := lw_g (lw_at lw_m5 170 rfl) rfl
theorem q1342 : (Jvm.Cond.fieldLink "ShareHouse$Checker" (219 : Nat) "ShareHouse$Op" "BAR" "LShareHouse$Op;") ∈ lw_all := lw_g (lw_at lw_m5 171 rfl) rfl
theorem q1343 : (Jvm.Cond.fieldLink "ShareHouse$Checker" (222 : Nat) "ShareHouse$Op" "XOR" "LShareHouse$Op;") ∈ lw_all := lw_g (lw_at lw_m5 172 rfl) rfl
theorem q1344 : (Jvm.Cond.fieldLink "ShareHouse$Checker" (225 : Nat) "ShareHouse$Op" "ET" "LShareHouse$Op;") ∈ lw_all := lw_g (lw_at lw_m5 173 rfl) rfl
theorem q1345 : (Jvm.Cond.fieldLink "ShareHouse$Checker" (228 : Nat) "ShareHouse$Op" "SAME" "LShareHouse$Op;") ∈ lw_all := lw_g (lw_at lw_m5 174 rfl) rfl
theorem q1346 : (Jvm.Cond.fieldLink "ShareHouse$Checker" (231 : Nat) "ShareHouse$Op" "OTHER" "LShareHouse$Op;") ∈ lw_all := lw_g (lw_at lw_m5 175 rfl) rfl
theorem q1347 : (Jvm.Cond.fieldLink "ShareHouse$Checker" (234 : Nat) "ShareHouse$Op" "AND" "LShareHouse$Op;") ∈ lw_all := lw_g (lw_at lw_m5 176 rfl) rfl
theorem q1348 : (Jvm.Cond.fieldLink "ShareHouse$Checker" (237 : Nat) "ShareHouse$Op" "LESS" "LShareHouse$Op;") ∈ lw_all := lw_g (lw_at lw_m5 177 rfl) rfl
theorem q1349 : (Jvm.Cond.fieldLink "ShareHouse$Checker" (240 : Nat) "ShareHouse$Op" "MOST" "LShareHouse$Op;") ∈ lw_all := lw_g (lw_at lw_m5 178 rfl) rfl
theorem q1350 : (Jvm.Cond.fieldLink "ShareHouse$Checker" (243 : Nat) "ShareHouse$Op" "MORE" "LShareHouse$Op;") ∈ lw_all := lw_g (lw_at lw_m5 179 rfl) rfl
theorem q1351 : (Jvm.Cond.fieldLink "ShareHouse$Checker" (246 : Nat) "ShareHouse$Op" "LEAST" "LShareHouse$Op;") ∈ lw_all := lw_g (lw_at lw_m5 180 rfl) rfl
theorem q1352 : (Jvm.Cond.fieldLink "ShareHouse$Checker" (124 : Nat) "ShareHouse$Op" "NUMBER" "LShareHouse$Op;") ∈ lw_all := lw_g (lw_at lw_m5 181 rfl) rfl
theorem q1353 : (Jvm.Cond.methodLink "ShareHouse$Checker" (127 : Nat) ({ cls := "ShareHouse$Checker", name := "factor", desc := "(I)V" } : Jvm.MethodName)) ∈ lw_all := lw_g (lw_at lw_m5 182 rfl) rfl
theorem q1354 : (Jvm.Cond.privateMethod ({ cls := "ShareHouse$Checker", name := "factor", desc := "(I)V" } : Jvm.MethodName)) ∈ lw_tbl := lw_at lw_m5 183 rfl
theorem q1355 : (Jvm.Cond.instanceMethod ({ cls := "ShareHouse$Checker", name := "factor", desc := "(I)V" } : Jvm.MethodName)) ∈ lw_all := lw_g (lw_at lw_m5 184 rfl) rfl
theorem q1356 : (Jvm.Cond.code ({ cls := "ShareHouse$Checker", name := "factor", desc := "(I)V" } : Jvm.MethodName) prog_4_method_18_code (7 : Nat) (Option.none : Option Jvm.ClassFile.FieldType)) ∈ lw_all := lw_g (lw_at lw_m5 185 rfl) rfl
theorem q1357 : (Jvm.Cond.methodLink "ShareHouse$Checker" (196 : Nat) ({ cls := "ShareHouse$Checker", name := "push", desc := "(IZI)V" } : Jvm.MethodName)) ∈ lw_all := lw_g (lw_at lw_m5 186 rfl) rfl
theorem q1358 : (Jvm.Cond.privateMethod ({ cls := "ShareHouse$Checker", name := "push", desc := "(IZI)V" } : Jvm.MethodName)) ∈ lw_tbl := lw_at lw_m5 187 rfl
theorem q1359 : (Jvm.Cond.instanceMethod ({ cls := "ShareHouse$Checker", name := "push", desc := "(IZI)V" } : Jvm.MethodName)) ∈ lw_all := lw_g (lw_at lw_m5 188 rfl) rfl
theorem q1360 : (Jvm.Cond.code ({ cls := "ShareHouse$Checker", name := "push", desc := "(IZI)V" } : Jvm.MethodName) prog_4_method_2_code (4 : Nat) (Option.none : Option Jvm.ClassFile.FieldType)) ∈ lw_all := lw_g (lw_at lw_m5 189 rfl) rfl
theorem q1361 : (Jvm.Cond.methodLink "ShareHouse$Checker" (200 : Nat) ({ cls := "ShareHouse$Checker", name := "read", desc := "(I)V" } : Jvm.MethodName)) ∈ lw_all := lw_g (lw_at lw_m5 190 rfl) rfl
theorem q1362 : (Jvm.Cond.privateMethod ({ cls := "ShareHouse$Checker", name := "read", desc := "(I)V" } : Jvm.MethodName)) ∈ lw_tbl := lw_at lw_m5 191 rfl
theorem q1363 : (Jvm.Cond.instanceMethod ({ cls := "ShareHouse$Checker", name := "read", desc := "(I)V" } : Jvm.MethodName)) ∈ lw_all := lw_g (lw_at lw_m5 192 rfl) rfl
theorem q1364 : (Jvm.Cond.code ({ cls := "ShareHouse$Checker", name := "read", desc := "(I)V" } : Jvm.MethodName) prog_4_method_19_code (3 : Nat) (Option.none : Option Jvm.ClassFile.FieldType)) ∈ lw_all := lw_g (lw_at lw_m5 193 rfl) rfl
theorem q1365 : (Jvm.Cond.methodLink "ShareHouse$Checker" (180 : Nat) ({ cls := "ShareHouse$Checker", name := "visible", desc := "(II)I" } : Jvm.MethodName)) ∈ lw_all := lw_g (lw_at lw_m5 194 rfl) rfl
theorem q1366 : (Jvm.Cond.privateMethod ({ cls := "ShareHouse$Checker", name := "visible", desc := "(II)I" } : Jvm.MethodName)) ∈ lw_tbl := lw_at lw_m5 195 rfl
theorem q1367 : (Jvm.Cond.instanceMethod ({ cls := "ShareHouse$Checker", name := "visible", desc := "(II)I" } : Jvm.MethodName)) ∈ lw_all := lw_g (lw_at lw_m5 196 rfl) rfl
theorem q1368 : (Jvm.Cond.code ({ cls := "ShareHouse$Checker", name := "visible", desc := "(II)I" } : Jvm.MethodName) prog_4_method_6_code (4 : Nat) (Option.some Jvm.ClassFile.FieldType.int)) ∈ lw_all := lw_g (lw_at lw_m5 197 rfl) rfl
theorem q1369 : (Jvm.Cond.methodLink "ShareHouse$Checker" (68 : Nat) ({ cls := "ShareHouse$Scope", name := "find", desc := "(II)I" } : Jvm.MethodName)) ∈ lw_all := lw_g (lw_at lw_m5 198 rfl) rfl
theorem q1373 : (Jvm.Cond.methodLink "ShareHouse$Checker" (163 : Nat) ({ cls := "ShareHouse$Checker", name := "index", desc := "(I)V" } : Jvm.MethodName)) ∈ lw_all := lw_g (lw_at lw_m5 202 rfl) rfl
theorem q1374 : (Jvm.Cond.privateMethod ({ cls := "ShareHouse$Checker", name := "index", desc := "(I)V" } : Jvm.MethodName)) ∈ lw_tbl := lw_at lw_m5 203 rfl
theorem q1375 : (Jvm.Cond.instanceMethod ({ cls := "ShareHouse$Checker", name := "index", desc := "(I)V" } : Jvm.MethodName)) ∈ lw_all := lw_g (lw_at lw_m5 204 rfl) rfl
theorem q1376 : (Jvm.Cond.code ({ cls := "ShareHouse$Checker", name := "index", desc := "(I)V" } : Jvm.MethodName) prog_4_method_16_code (3 : Nat) (Option.none : Option Jvm.ClassFile.FieldType)) ∈ lw_all := lw_g (lw_at lw_m5 205 rfl) rfl
theorem q1377 : (Jvm.Cond.methodLink "ShareHouse$Checker" (207 : Nat) ({ cls := "ShareHouse$Checker", name := "endCall", desc := "(I)V" } : Jvm.MethodName)) ∈ lw_all := lw_g (lw_at lw_m5 206 rfl) rfl
theorem q1378 : (Jvm.Cond.privateMethod ({ cls := "ShareHouse$Checker", name := "endCall", desc := "(I)V" } : Jvm.MethodName)) ∈ lw_tbl := lw_at lw_m5 207 rfl
theorem q1379 : (Jvm.Cond.instanceMethod ({ cls := "ShareHouse$Checker", name := "endCall", desc := "(I)V" } : Jvm.MethodName)) ∈ lw_all := lw_g (lw_at lw_m5 208 rfl) rfl
theorem q1380 : (Jvm.Cond.code ({ cls := "ShareHouse$Checker", name := "endCall", desc := "(I)V" } : Jvm.MethodName) prog_4_method_20_code (3 : Nat) (Option.none : Option Jvm.ClassFile.FieldType)) ∈ lw_all := lw_g (lw_at lw_m5 209 rfl) rfl
theorem q1381 : (Jvm.Cond.methodLink "ShareHouse$Checker" (130 : Nat) ({ cls := "ShareHouse$Checker", name := "statement", desc := "(I)V" } : Jvm.MethodName)) ∈ lw_all := lw_g (lw_at lw_m5 210 rfl) rfl
theorem q1382 : (Jvm.Cond.privateMethod ({ cls := "ShareHouse$Checker", name := "statement", desc := "(I)V" } : Jvm.MethodName)) ∈ lw_tbl := lw_at lw_m5 211 rfl
theorem q1383 : (Jvm.Cond.instanceMethod ({ cls := "ShareHouse$Checker", name := "statement", desc := "(I)V" } : Jvm.MethodName)) ∈ lw_all := lw_g (lw_at lw_m5 212 rfl) rfl
theorem q1384 : (Jvm.Cond.code ({ cls := "ShareHouse$Checker", name := "statement", desc := "(I)V" } : Jvm.MethodName) prog_4_method_9_code (4 : Nat) (Option.none : Option Jvm.ClassFile.FieldType)) ∈ lw_all := lw_g (lw_at lw_m5 213 rfl) rfl
theorem q1385 : (Jvm.Cond.methodLink "ShareHouse$Checker" (137 : Nat) ({ cls := "ShareHouse$Checker", name := "input", desc := "(I)V" } : Jvm.MethodName)) ∈ lw_all := lw_g (lw_at lw_m5 214 rfl) rfl
theorem q1386 : (Jvm.Cond.privateMethod ({ cls := "ShareHouse$Checker", name := "input", desc := "(I)V" } : Jvm.MethodName)) ∈ lw_tbl := lw_at lw_m5 215 rfl
theorem q1387 : (Jvm.Cond.instanceMethod ({ cls := "ShareHouse$Checker", name := "input", desc := "(I)V" } : Jvm.MethodName)) ∈ lw_all := lw_g (lw_at lw_m5 216 rfl) rfl
theorem q1388 : (Jvm.Cond.code ({ cls := "ShareHouse$Checker", name := "input", desc := "(I)V" } : Jvm.MethodName) prog_4_method_12_code (4 : Nat) (Option.none : Option Jvm.ClassFile.FieldType)) ∈ lw_all := lw_g (lw_at lw_m5 217 rfl) rfl
theorem q1389 : (Jvm.Cond.methodLink "ShareHouse$Checker" (140 : Nat) ({ cls := "ShareHouse$Checker", name := "comesIn", desc := "(II)V" } : Jvm.MethodName)) ∈ lw_all := lw_g (lw_at lw_m5 218 rfl) rfl
theorem q1390 : (Jvm.Cond.privateMethod ({ cls := "ShareHouse$Checker", name := "comesIn", desc := "(II)V" } : Jvm.MethodName)) ∈ lw_tbl := lw_at lw_m5 219 rfl
theorem q1391 : (Jvm.Cond.instanceMethod ({ cls := "ShareHouse$Checker", name := "comesIn", desc := "(II)V" } : Jvm.MethodName)) ∈ lw_all := lw_g (lw_at lw_m5 220 rfl) rfl
theorem q1392 : (Jvm.Cond.code ({ cls := "ShareHouse$Checker", name := "comesIn", desc := "(II)V" } : Jvm.MethodName) prog_4_method_5_code (3 : Nat) (Option.none : Option Jvm.ClassFile.FieldType)) ∈ lw_all := lw_g (lw_at lw_m5 221 rfl) rfl
theorem q1393 : (Jvm.Cond.methodLink "ShareHouse$Checker" (146 : Nat) ({ cls := "ShareHouse$Scope", name := "add", desc := "(IIIII)V" } : Jvm.MethodName)) ∈ lw_all := lw_g (lw_at lw_m5 222 rfl) rfl
theorem q1397 : (Jvm.Cond.methodLink "ShareHouse$Checker" (175 : Nat) ({ cls := "java/lang/Math", name := "max", desc := "(II)I" } : Jvm.MethodName)) ∈ lw_all := lw_g (lw_at lw_m5 226 rfl) rfl
theorem q1398 : (Jvm.Cond.methodLink "ShareHouse$Checker" (150 : Nat) ({ cls := "ShareHouse$Checker", name := "endDef", desc := "(I)V" } : Jvm.MethodName)) ∈ lw_all := lw_g (lw_at lw_m5 227 rfl) rfl
theorem q1399 : (Jvm.Cond.privateMethod ({ cls := "ShareHouse$Checker", name := "endDef", desc := "(I)V" } : Jvm.MethodName)) ∈ lw_tbl := lw_at lw_m5 228 rfl
theorem q1400 : (Jvm.Cond.instanceMethod ({ cls := "ShareHouse$Checker", name := "endDef", desc := "(I)V" } : Jvm.MethodName)) ∈ lw_all := lw_g (lw_at lw_m5 229 rfl) rfl
theorem q1401 : (Jvm.Cond.code ({ cls := "ShareHouse$Checker", name := "endDef", desc := "(I)V" } : Jvm.MethodName) prog_4_method_13_code (2 : Nat) (Option.none : Option Jvm.ClassFile.FieldType)) ∈ lw_all := lw_g (lw_at lw_m5 230 rfl) rfl
theorem q1402 : (Jvm.Cond.methodLink "ShareHouse$Checker" (153 : Nat) ({ cls := "ShareHouse$Checker", name := "endVar", desc := "(I)V" } : Jvm.MethodName)) ∈ lw_all := lw_g (lw_at lw_m5 231 rfl) rfl
theorem q1403 : (Jvm.Cond.privateMethod ({ cls := "ShareHouse$Checker", name := "endVar", desc := "(I)V" } : Jvm.MethodName)) ∈ lw_tbl := lw_at lw_m5 232 rfl
theorem q1404 : (Jvm.Cond.instanceMethod ({ cls := "ShareHouse$Checker", name := "endVar", desc := "(I)V" } : Jvm.MethodName)) ∈ lw_all := lw_g (lw_at lw_m5 233 rfl) rfl
theorem q1405 : (Jvm.Cond.code ({ cls := "ShareHouse$Checker", name := "endVar", desc := "(I)V" } : Jvm.MethodName) prog_4_method_14_code (4 : Nat) (Option.none : Option Jvm.ClassFile.FieldType)) ∈ lw_all := lw_g (lw_at lw_m5 234 rfl) rfl
theorem q1406 : (Jvm.Cond.methodLink "ShareHouse$Checker" (156 : Nat) ({ cls := "ShareHouse$Checker", name := "target", desc := "(I)V" } : Jvm.MethodName)) ∈ lw_all := lw_g (lw_at lw_m5 235 rfl) rfl
theorem q1407 : (Jvm.Cond.privateMethod ({ cls := "ShareHouse$Checker", name := "target", desc := "(I)V" } : Jvm.MethodName)) ∈ lw_tbl := lw_at lw_m5 236 rfl
theorem q1408 : (Jvm.Cond.instanceMethod ({ cls := "ShareHouse$Checker", name := "target", desc := "(I)V" } : Jvm.MethodName)) ∈ lw_all := lw_g (lw_at lw_m5 237 rfl) rfl
theorem q1409 : (Jvm.Cond.code ({ cls := "ShareHouse$Checker", name := "target", desc := "(I)V" } : Jvm.MethodName) prog_4_method_15_code (4 : Nat) (Option.none : Option Jvm.ClassFile.FieldType)) ∈ lw_all := lw_g (lw_at lw_m5 238 rfl) rfl
theorem q1410 : (Jvm.Cond.fieldLink "ShareHouse$Checker" (183 : Nat) "ShareHouse$Op" "PLACE" "LShareHouse$Op;") ∈ lw_all := lw_g (lw_at lw_m5 239 rfl) rfl
theorem q1411 : (Jvm.Cond.methodLink "ShareHouse$Checker" (166 : Nat) ({ cls := "ShareHouse$Checker", name := "assign", desc := "(I)V" } : Jvm.MethodName)) ∈ lw_all := lw_g (lw_at lw_m6 0 rfl) rfl
theorem q1412 : (Jvm.Cond.privateMethod ({ cls := "ShareHouse$Checker", name := "assign", desc := "(I)V" } : Jvm.MethodName)) ∈ lw_tbl := lw_at lw_m6 1 rfl
theorem q1413 : (Jvm.Cond.instanceMethod ({ cls := "ShareHouse$Checker", name := "assign", desc := "(I)V" } : Jvm.MethodName)) ∈ lw_all := lw_g (lw_at lw_m6 2 rfl) rfl
theorem q1414 : (Jvm.Cond.code ({ cls := "ShareHouse$Checker", name := "assign", desc := "(I)V" } : Jvm.MethodName) prog_4_method_17_code (4 : Nat) (Option.none : Option Jvm.ClassFile.FieldType)) ∈ lw_all := lw_g (lw_at lw_m6 3 rfl) rfl
theorem q1415 : (Jvm.Cond.methodLink "ShareHouse$Checker" (169 : Nat) ({ cls := "ShareHouse$Checker", name := "mark", desc := "()V" } : Jvm.MethodName)) ∈ lw_all := lw_g (lw_at lw_m6 4 rfl) rfl
theorem q1416 : (Jvm.Cond.privateMethod ({ cls := "ShareHouse$Checker", name := "mark", desc := "()V" } : Jvm.MethodName)) ∈ lw_tbl := lw_at lw_m6 5 rfl
theorem q1417 : (Jvm.Cond.instanceMethod ({ cls := "ShareHouse$Checker", name := "mark", desc := "()V" } : Jvm.MethodName)) ∈ lw_all := lw_g (lw_at lw_m6 6 rfl) rfl
theorem q1418 : (Jvm.Cond.code ({ cls := "ShareHouse$Checker", name := "mark", desc := "()V" } : Jvm.MethodName) prog_4_method_10_code (1 : Nat) (Option.none : Option Jvm.ClassFile.FieldType)) ∈ lw_all := lw_g (lw_at lw_m6 7 rfl) rfl
theorem q1419 : (Jvm.Cond.methodLink "ShareHouse$Checker" (172 : Nat) ({ cls := "ShareHouse$Checker", name := "release", desc := "()V" } : Jvm.MethodName)) ∈ lw_all := lw_g (lw_at lw_m6 8 rfl) rfl
theorem q1420 : (Jvm.Cond.privateMethod ({ cls := "ShareHouse$Checker", name := "release", desc := "()V" } : Jvm.MethodName)) ∈ lw_tbl := lw_at lw_m6 9 rfl
theorem q1421 : (Jvm.Cond.instanceMethod ({ cls := "ShareHouse$Checker", name := "release", desc := "()V" } : Jvm.MethodName)) ∈ lw_all := lw_g (lw_at lw_m6 10 rfl) rfl
theorem q1422 : (Jvm.Cond.code ({ cls := "ShareHouse$Checker", name := "release", desc := "()V" } : Jvm.MethodName) prog_4_method_11_code (1 : Nat) (Option.none : Option Jvm.ClassFile.FieldType)) ∈ lw_all := lw_g (lw_at lw_m6 11 rfl) rfl
theorem in_X9 : ∀ w ∈ wsX90, w ∈ lw_all := lw_in wsX90 [529, 531, 533, 535, 537, 539, 541, 543, 545, 547, 549, 551, 553, 555, 557, 559, 561, 563, 565, 567, 569] (by decide +kernel) (by decide +kernel)
theorem q222 : (Jvm.Cond.initialized "ShareHouse$Scope") ∈ lw_all := lw_g (lw_at lw_m1 11 rfl) rfl
theorem q478 : (Jvm.Cond.instantiable "ShareHouse$Scope" (6 : Nat)) ∈ lw_all := lw_g (lw_at lw_m2 27 rfl) rfl
theorem q480 : (Jvm.Cond.instanceMethod ({ cls := "ShareHouse$Scope", name := "<init>", desc := "()V" } : Jvm.MethodName)) ∈ lw_all := lw_g (lw_at lw_m2 29 rfl) rfl
theorem q481 : (Jvm.Cond.code ({ cls := "ShareHouse$Scope", name := "<init>", desc := "()V" } : Jvm.MethodName) prog_14_method_1_code (1 : Nat) (Option.none : Option Jvm.ClassFile.FieldType)) ∈ lw_all := lw_g (lw_at lw_m2 30 rfl) rfl
theorem q482 : (Jvm.Cond.methodLink "ShareHouse$Scope" (3 : Nat) ({ cls := "java/lang/Object", name := "<init>", desc := "()V" } : Jvm.MethodName)) ∈ lw_all := lw_g (lw_at lw_m2 31 rfl) rfl
theorem q483 : (Jvm.Cond.fieldLink "ShareHouse$Scope" (9 : Nat) "ShareHouse$Scope" "names" "[I") ∈ lw_all := lw_g (lw_at lw_m2 32 rfl) rfl
theorem q484 : (Jvm.Cond.fieldLink "ShareHouse$Scope" (15 : Nat) "ShareHouse$Scope" "kinds" "[I") ∈ lw_all := lw_g (lw_at lw_m2 33 rfl) rfl
theorem q486 : (Jvm.Cond.fieldLink "ShareHouse$Scope" (18 : Nat) "ShareHouse$Scope" "sorts" "[I") ∈ lw_all := lw_g (lw_at lw_m2 35 rfl) rfl
theorem q488 : (Jvm.Cond.fieldLink "ShareHouse$Scope" (21 : Nat) "ShareHouse$Scope" "sizes" "[I") ∈ lw_all := lw_g (lw_at lw_m2 37 rfl) rfl
theorem q490 : (Jvm.Cond.fieldLink "ShareHouse$Scope" (24 : Nat) "ShareHouse$Scope" "slots" "[I") ∈ lw_all := lw_g (lw_at lw_m2 39 rfl) rfl
theorem q492 : (Jvm.Cond.fieldLink "ShareHouse$Scope" (27 : Nat) "ShareHouse$Scope" "size" "I") ∈ lw_all := lw_g (lw_at lw_m2 41 rfl) rfl
theorem q494 : (Jvm.Cond.laysFinal "ShareHouse$Scope" "ShareHouse$Scope" "names" "[I") ∈ lw_all := lw_g (lw_at lw_m2 43 rfl) rfl
theorem q495 : (Jvm.Cond.soleField "ShareHouse$Scope" "names") ∈ lw_all := lw_g (lw_at lw_m2 44 rfl) rfl
theorem q496 : (Jvm.Cond.laysFinal "ShareHouse$Scope" "ShareHouse$Scope" "kinds" "[I") ∈ lw_all := lw_g (lw_at lw_m2 45 rfl) rfl
theorem q497 : (Jvm.Cond.soleField "ShareHouse$Scope" "kinds") ∈ lw_all := lw_g (lw_at lw_m2 46 rfl) rfl
theorem q498 : (Jvm.Cond.laysFinal "ShareHouse$Scope" "ShareHouse$Scope" "sorts" "[I") ∈ lw_all := lw_g (lw_at lw_m2 47 rfl) rfl
theorem q499 : (Jvm.Cond.soleField "ShareHouse$Scope" "sorts") ∈ lw_all := lw_g (lw_at lw_m2 48 rfl) rfl
theorem q500 : (Jvm.Cond.laysFinal "ShareHouse$Scope" "ShareHouse$Scope" "sizes" "[I") ∈ lw_all := lw_g (lw_at lw_m2 49 rfl) rfl
theorem q501 : (Jvm.Cond.soleField "ShareHouse$Scope" "sizes") ∈ lw_all := lw_g (lw_at lw_m2 50 rfl) rfl
theorem q502 : (Jvm.Cond.laysFinal "ShareHouse$Scope" "ShareHouse$Scope" "slots" "[I") ∈ lw_all := lw_g (lw_at lw_m2 51 rfl) rfl
theorem q503 : (Jvm.Cond.soleField "ShareHouse$Scope" "slots") ∈ lw_all := lw_g (lw_at lw_m2 52 rfl) rfl
theorem q504 : (Jvm.Cond.lays "ShareHouse$Scope" "ShareHouse$Scope" "size" "I") ∈ lw_all := lw_g (lw_at lw_m2 53 rfl) rfl
theorem q505 : (Jvm.Cond.soleField "ShareHouse$Scope" "size") ∈ lw_all := lw_g (lw_at lw_m2 54 rfl) rfl
theorem q506 : (Jvm.Cond.superclass "ShareHouse$Scope" "java/lang/Object") ∈ lw_all := lw_g (lw_at lw_m2 55 rfl) rfl
theorem q1370 : (Jvm.Cond.instanceMethod ({ cls := "ShareHouse$Scope", name := "find", desc := "(II)I" } : Jvm.MethodName)) ∈ lw_all := lw_g (lw_at lw_m5 199 rfl) rfl
theorem q1371 : (Jvm.Cond.selects "ShareHouse$Scope" ({ cls := "ShareHouse$Scope", name := "find", desc := "(II)I" } : Jvm.MethodName) ({ cls := "ShareHouse$Scope", name := "find", desc := "(II)I" } : Jvm.MethodName)) ∈ lw_all := lw_g (lw_at lw_m5 200 rfl) rfl
theorem q1372 : (Jvm.Cond.code ({ cls := "ShareHouse$Scope", name := "find", desc := "(II)I" } : Jvm.MethodName) prog_14_method_3_code (4 : Nat) (Option.some Jvm.ClassFile.FieldType.int)) ∈ lw_all := lw_g (lw_at lw_m5 201 rfl) rfl
theorem q1394 : (Jvm.Cond.instanceMethod ({ cls := "ShareHouse$Scope", name := "add", desc := "(IIIII)V" } : Jvm.MethodName)) ∈ lw_all := lw_g (lw_at lw_m5 223 rfl) rfl
theorem q1395 : (Jvm.Cond.selects "ShareHouse$Scope" ({ cls := "ShareHouse$Scope", name := "add", desc := "(IIIII)V" } : Jvm.MethodName) ({ cls := "ShareHouse$Scope", name := "add", desc := "(IIIII)V" } : Jvm.MethodName)) ∈ lw_all := lw_g (lw_at lw_m5 224 rfl) rfl
theorem q1396 : (Jvm.Cond.code ({ cls := "ShareHouse$Scope", name := "add", desc := "(IIIII)V" } : Jvm.MethodName) prog_14_method_2_code (6 : Nat) (Option.none : Option Jvm.ClassFile.FieldType)) ∈ lw_all := lw_g (lw_at lw_m5 225 rfl) rfl
theorem in_X10 : ∀ w ∈ wsX100, w ∈ lw_all := lw_in wsX100 [494, 496, 498, 500, 502, 504] (by decide +kernel) (by decide +kernel)
theorem q223 : (Jvm.Cond.initialized "ShareHouse$Builder") ∈ lw_all := lw_g (lw_at lw_m1 12 rfl) rfl
theorem q255 : (Jvm.Cond.fieldLinkNest "ShareHouse$Builder" (172 : Nat) "ShareHouse$Code" "ops" "[LShareHouse$Op;" "ShareHouse") ∈ lw_tbl := lw_at lw_m1 44 rfl
theorem q258 : (Jvm.Cond.fieldLinkNest "ShareHouse$Builder" (245 : Nat) "ShareHouse$Code" "of" "[I" "ShareHouse") ∈ lw_tbl := lw_at lw_m1 47 rfl
theorem q261 : (Jvm.Cond.fieldLinkNest "ShareHouse$Builder" (206 : Nat) "ShareHouse$Code" "places" "[I" "ShareHouse") ∈ lw_tbl := lw_at lw_m1 50 rfl
theorem q264 : (Jvm.Cond.fieldLinkNest "ShareHouse$Builder" (200 : Nat) "ShareHouse$Code" "more" "[I" "ShareHouse") ∈ lw_tbl := lw_at lw_m1 53 rfl
theorem q267 : (Jvm.Cond.fieldLinkNest "ShareHouse$Builder" (139 : Nat) "ShareHouse$Code" "size" "I" "ShareHouse") ∈ lw_tbl := lw_at lw_m1 56 rfl
theorem q353 : (Jvm.Cond.fieldLinkNest "ShareHouse$Builder" (153 : Nat) "ShareHouse$Circuit" "full" "Z" "ShareHouse") ∈ lw_tbl := lw_at lw_m1 142 rfl
theorem q573 : (Jvm.Cond.instantiable "ShareHouse$Builder" (36 : Nat)) ∈ lw_all := lw_g (lw_at lw_m2 122 rfl) rfl
theorem q575 : (Jvm.Cond.instanceMethod ({ cls := "ShareHouse$Builder", name := "<init>", desc := "(ILShareHouse$Code;LShareHouse$Fault;LShareHouse$Circuit;)V" } : Jvm.MethodName)) ∈ lw_all := lw_g (lw_at lw_m2 124 rfl) rfl
theorem q576 : (Jvm.Cond.code ({ cls := "ShareHouse$Builder", name := "<init>", desc := "(ILShareHouse$Code;LShareHouse$Fault;LShareHouse$Circuit;)V" } : Jvm.MethodName) prog_3_method_1_code (6 : Nat) (Option.none : Option Jvm.ClassFile.FieldType)) ∈ lw_all := lw_g (lw_at lw_m2 125 rfl) rfl
theorem q577 : (Jvm.Cond.methodLink "ShareHouse$Builder" (3 : Nat) ({ cls := "java/lang/Object", name := "<init>", desc := "()V" } : Jvm.MethodName)) ∈ lw_all := lw_g (lw_at lw_m2 126 rfl) rfl
theorem q578 : (Jvm.Cond.classLink "ShareHouse$Builder" (33 : Nat) "[I") ∈ lw_all := lw_g (lw_at lw_m2 127 rfl) rfl
theorem q580 : (Jvm.Cond.classLink "ShareHouse$Builder" (76 : Nat) "ShareHouse$Words") ∈ lw_all := lw_g (lw_at lw_m2 129 rfl) rfl
theorem q582 : (Jvm.Cond.methodLink "ShareHouse$Builder" (78 : Nat) ({ cls := "ShareHouse$Words", name := "<init>", desc := "(LShareHouse$Circuit;I)V" } : Jvm.MethodName)) ∈ lw_all := lw_g (lw_at lw_m2 131 rfl) rfl
theorem q608 : (Jvm.Cond.fieldLink "ShareHouse$Builder" (60 : Nat) "ShareHouse$Builder" "width" "I") ∈ lw_all := lw_g (lw_at lw_m2 157 rfl) rfl
theorem q610 : (Jvm.Cond.fieldLink "ShareHouse$Builder" (64 : Nat) "ShareHouse$Builder" "code" "LShareHouse$Code;") ∈ lw_all := lw_g (lw_at lw_m2 159 rfl) rfl
theorem q611 : (Jvm.Cond.fieldLink "ShareHouse$Builder" (68 : Nat) "ShareHouse$Builder" "fault" "LShareHouse$Fault;") ∈ lw_all := lw_g (lw_at lw_m2 160 rfl) rfl
theorem q612 : (Jvm.Cond.fieldLink "ShareHouse$Builder" (72 : Nat) "ShareHouse$Builder" "circuit" "LShareHouse$Circuit;") ∈ lw_all := lw_g (lw_at lw_m2 161 rfl) rfl
theorem q613 : (Jvm.Cond.fieldLink "ShareHouse$Builder" (81 : Nat) "ShareHouse$Builder" "words" "LShareHouse$Words;") ∈ lw_all := lw_g (lw_at lw_m2 162 rfl) rfl
theorem q614 : (Jvm.Cond.fieldLink "ShareHouse$Builder" (85 : Nat) "ShareHouse$Builder" "v" "[I") ∈ lw_all := lw_g (lw_at lw_m2 163 rfl) rfl
theorem q615 : (Jvm.Cond.fieldLink "ShareHouse$Builder" (109 : Nat) "ShareHouse$Builder" "top" "I") ∈ lw_all := lw_g (lw_at lw_m2 164 rfl) rfl
theorem q616 : (Jvm.Cond.fieldLink "ShareHouse$Builder" (136 : Nat) "ShareHouse$Builder" "at" "I") ∈ lw_all := lw_g (lw_at lw_m2 165 rfl) rfl
theorem q617 : (Jvm.Cond.fieldLink "ShareHouse$Builder" (112 : Nat) "ShareHouse$Builder" "steps" "I") ∈ lw_all := lw_g (lw_at lw_m2 166 rfl) rfl
theorem q619 : (Jvm.Cond.fieldLink "ShareHouse$Builder" (115 : Nat) "ShareHouse$Builder" "statement" "I") ∈ lw_all := lw_g (lw_at lw_m2 168 rfl) rfl
theorem q620 : (Jvm.Cond.fieldLink "ShareHouse$Builder" (9 : Nat) "ShareHouse$Builder" "inputBits" "[I") ∈ lw_all := lw_g (lw_at lw_m2 169 rfl) rfl
theorem q623 : (Jvm.Cond.fieldLink "ShareHouse$Builder" (15 : Nat) "ShareHouse$Builder" "inputSizes" "[I") ∈ lw_all := lw_g (lw_at lw_m2 172 rfl) rfl
theorem q626 : (Jvm.Cond.fieldLink "ShareHouse$Builder" (18 : Nat) "ShareHouse$Builder" "inputParties" "[I") ∈ lw_all := lw_g (lw_at lw_m2 175 rfl) rfl
theorem q629 : (Jvm.Cond.fieldLink "ShareHouse$Builder" (118 : Nat) "ShareHouse$Builder" "inputWords" "I") ∈ lw_all := lw_g (lw_at lw_m2 178 rfl) rfl
theorem q632 : (Jvm.Cond.fieldLink "ShareHouse$Builder" (121 : Nat) "ShareHouse$Builder" "inputs" "I") ∈ lw_all := lw_g (lw_at lw_m2 181 rfl) rfl
theorem q633 : (Jvm.Cond.fieldLink "ShareHouse$Builder" (88 : Nat) "ShareHouse$Builder" "vars" "[I") ∈ lw_all := lw_g (lw_at lw_m2 182 rfl) rfl
theorem q634 : (Jvm.Cond.fieldLink "ShareHouse$Builder" (21 : Nat) "ShareHouse$Builder" "sizes" "[I") ∈ lw_all := lw_g (lw_at lw_m2 183 rfl) rfl
theorem q635 : (Jvm.Cond.fieldLink "ShareHouse$Builder" (24 : Nat) "ShareHouse$Builder" "conditions" "[I") ∈ lw_all := lw_g (lw_at lw_m2 184 rfl) rfl
theorem q636 : (Jvm.Cond.fieldLink "ShareHouse$Builder" (27 : Nat) "ShareHouse$Builder" "visible" "[I") ∈ lw_all := lw_g (lw_at lw_m2 185 rfl) rfl
theorem q637 : (Jvm.Cond.fieldLink "ShareHouse$Builder" (30 : Nat) "ShareHouse$Builder" "heads" "[I") ∈ lw_all := lw_g (lw_at lw_m2 186 rfl) rfl
theorem q638 : (Jvm.Cond.fieldLink "ShareHouse$Builder" (34 : Nat) "ShareHouse$Builder" "ahead" "[[I") ∈ lw_all := lw_g (lw_at lw_m2 187 rfl) rfl
theorem q639 : (Jvm.Cond.fieldLink "ShareHouse$Builder" (38 : Nat) "ShareHouse$Builder" "behind" "[[I") ∈ lw_all := lw_g (lw_at lw_m2 188 rfl) rfl
theorem q640 : (Jvm.Cond.fieldLink "ShareHouse$Builder" (124 : Nat) "ShareHouse$Builder" "ifs" "I") ∈ lw_all := lw_g (lw_at lw_m2 189 rfl) rfl
theorem q641 : (Jvm.Cond.fieldLink "ShareHouse$Builder" (41 : Nat) "ShareHouse$Builder" "turns" "[J") ∈ lw_all := lw_g (lw_at lw_m2 190 rfl) rfl
theorem q642 : (Jvm.Cond.fieldLink "ShareHouse$Builder" (45 : Nat) "ShareHouse$Builder" "lasts" "[J") ∈ lw_all := lw_g (lw_at lw_m2 191 rfl) rfl
theorem q643 : (Jvm.Cond.fieldLink "ShareHouse$Builder" (48 : Nat) "ShareHouse$Builder" "starts" "[I") ∈ lw_all := lw_g (lw_at lw_m2 192 rfl) rfl
theorem q644 : (Jvm.Cond.fieldLink "ShareHouse$Builder" (51 : Nat) "ShareHouse$Builder" "backs" "[I") ∈ lw_all := lw_g (lw_at lw_m2 193 rfl) rfl
theorem q645 : (Jvm.Cond.fieldLink "ShareHouse$Builder" (54 : Nat) "ShareHouse$Builder" "bases" "[I") ∈ lw_all := lw_g (lw_at lw_m2 194 rfl) rfl
theorem q646 : (Jvm.Cond.fieldLink "ShareHouse$Builder" (127 : Nat) "ShareHouse$Builder" "defs" "I") ∈ lw_all := lw_g (lw_at lw_m2 195 rfl) rfl
theorem q647 : (Jvm.Cond.fieldLink "ShareHouse$Builder" (130 : Nat) "ShareHouse$Builder" "calls" "I") ∈ lw_all := lw_g (lw_at lw_m2 196 rfl) rfl
theorem q648 : (Jvm.Cond.fieldLink "ShareHouse$Builder" (91 : Nat) "ShareHouse$Builder" "outputs" "[I") ∈ lw_all := lw_g (lw_at lw_m2 197 rfl) rfl
theorem q651 : (Jvm.Cond.fieldLink "ShareHouse$Builder" (57 : Nat) "ShareHouse$Builder" "outputSizes" "[I") ∈ lw_all := lw_g (lw_at lw_m2 200 rfl) rfl
theorem q654 : (Jvm.Cond.fieldLink "ShareHouse$Builder" (133 : Nat) "ShareHouse$Builder" "outputWords" "I") ∈ lw_all := lw_g (lw_at lw_m2 203 rfl) rfl
theorem q657 : (Jvm.Cond.fieldLink "ShareHouse$Builder" (94 : Nat) "ShareHouse$Builder" "number" "[I") ∈ lw_all := lw_g (lw_at lw_m2 206 rfl) rfl
theorem q658 : (Jvm.Cond.fieldLink "ShareHouse$Builder" (97 : Nat) "ShareHouse$Builder" "zeros" "[I") ∈ lw_all := lw_g (lw_at lw_m2 207 rfl) rfl
theorem q659 : (Jvm.Cond.fieldLink "ShareHouse$Builder" (100 : Nat) "ShareHouse$Builder" "result" "[I") ∈ lw_all := lw_g (lw_at lw_m2 208 rfl) rfl
theorem q660 : (Jvm.Cond.laysFinal "ShareHouse$Builder" "ShareHouse$Builder" "width" "I") ∈ lw_all := lw_g (lw_at lw_m2 209 rfl) rfl
theorem q661 : (Jvm.Cond.soleField "ShareHouse$Builder" "width") ∈ lw_all := lw_g (lw_at lw_m2 210 rfl) rfl
theorem q662 : (Jvm.Cond.laysFinal "ShareHouse$Builder" "ShareHouse$Builder" "code" "LShareHouse$Code;") ∈ lw_all := lw_g (lw_at lw_m2 211 rfl) rfl
theorem q663 : (Jvm.Cond.soleField "ShareHouse$Builder" "code") ∈ lw_all := lw_g (lw_at lw_m2 212 rfl) rfl
theorem q664 : (Jvm.Cond.laysFinal "ShareHouse$Builder" "ShareHouse$Builder" "fault" "LShareHouse$Fault;") ∈ lw_all := lw_g (lw_at lw_m2 213 rfl) rfl
theorem q665 : (Jvm.Cond.soleField "ShareHouse$Builder" "fault") ∈ lw_all := lw_g (lw_at lw_m2 214 rfl) rfl
theorem q666 : (Jvm.Cond.laysFinal "ShareHouse$Builder" "ShareHouse$Builder" "circuit" "LShareHouse$Circuit;") ∈ lw_all := lw_g (lw_at lw_m2 215 rfl) rfl
theorem q667 : (Jvm.Cond.soleField "ShareHouse$Builder" "circuit") ∈ lw_all := lw_g (lw_at lw_m2 216 rfl) rfl
theorem q668 : (Jvm.Cond.laysFinal "ShareHouse$Builder" "ShareHouse$Builder" "words" "LShareHouse$Words;") ∈ lw_all := lw_g (lw_at lw_m2 217 rfl) rfl
theorem q669 : (Jvm.Cond.soleField "ShareHouse$Builder" "words") ∈ lw_all := lw_g (lw_at lw_m2 218 rfl) rfl
theorem q670 : (Jvm.Cond.laysFinal "ShareHouse$Builder" "ShareHouse$Builder" "v" "[I") ∈ lw_all := lw_g (lw_at lw_m2 219 rfl) rfl
theorem q671 : (Jvm.Cond.soleField "ShareHouse$Builder" "v") ∈ lw_all := lw_g (lw_at lw_m2 220 rfl) rfl
theorem q672 : (Jvm.Cond.lays "ShareHouse$Builder" "ShareHouse$Builder" "top" "I") ∈ lw_all := lw_g (lw_at lw_m2 221 rfl) rfl
theorem q673 : (Jvm.Cond.soleField "ShareHouse$Builder" "top") ∈ lw_all := lw_g (lw_at lw_m2 222 rfl) rfl
theorem q674 : (Jvm.Cond.lays "ShareHouse$Builder" "ShareHouse$Builder" "at" "I") ∈ lw_all := lw_g (lw_at lw_m2 223 rfl) rfl
theorem q675 : (Jvm.Cond.soleField "ShareHouse$Builder" "at") ∈ lw_all := lw_g (lw_at lw_m2 224 rfl) rfl
theorem q676 : (Jvm.Cond.lays "ShareHouse$Builder" "ShareHouse$Builder" "steps" "I") ∈ lw_all := lw_g (lw_at lw_m2 225 rfl) rfl
theorem q677 : (Jvm.Cond.soleField "ShareHouse$Builder" "steps") ∈ lw_all := lw_g (lw_at lw_m2 226 rfl) rfl
theorem q678 : (Jvm.Cond.lays "ShareHouse$Builder" "ShareHouse$Builder" "statement" "I") ∈ lw_all := lw_g (lw_at lw_m2 227 rfl) rfl
theorem q679 : (Jvm.Cond.soleField "ShareHouse$Builder" "statement") ∈ lw_all := lw_g (lw_at lw_m2 228 rfl) rfl
theorem q680 : (Jvm.Cond.laysFinal "ShareHouse$Builder" "ShareHouse$Builder" "inputBits" "[I") ∈ lw_all := lw_g (lw_at lw_m2 229 rfl) rfl
theorem q681 : (Jvm.Cond.soleField "ShareHouse$Builder" "inputBits") ∈ lw_all := lw_g (lw_at lw_m2 230 rfl) rfl
theorem q682 : (Jvm.Cond.laysFinal "ShareHouse$Builder" "ShareHouse$Builder" "inputSizes" "[I") ∈ lw_all := lw_g (lw_at lw_m2 231 rfl) rfl
theorem q683 : (Jvm.Cond.soleField "ShareHouse$Builder" "inputSizes") ∈ lw_all := lw_g (lw_at lw_m2 232 rfl) rfl
theorem q684 : (Jvm.Cond.laysFinal "ShareHouse$Builder" "ShareHouse$Builder" "inputParties" "[I") ∈ lw_all := lw_g (lw_at lw_m2 233 rfl) rfl
theorem q685 : (Jvm.Cond.soleField "ShareHouse$Builder" "inputParties") ∈ lw_all := lw_g (lw_at lw_m2 234 rfl) rfl
theorem q686 : (Jvm.Cond.lays "ShareHouse$Builder" "ShareHouse$Builder" "inputWords" "I") ∈ lw_all := lw_g (lw_at lw_m2 235 rfl) rfl
theorem q687 : (Jvm.Cond.soleField "ShareHouse$Builder" "inputWords") ∈ lw_all := lw_g (lw_at lw_m2 236 rfl) rfl
theorem q688 : (Jvm.Cond.lays "ShareHouse$Builder" "ShareHouse$Builder" "inputs" "I") ∈ lw_all := lw_g (lw_at lw_m2 237 rfl) rfl
theorem q689 : (Jvm.Cond.soleField "ShareHouse$Builder" "inputs") ∈ lw_all := lw_g (lw_at lw_m2 238 rfl) rfl
theorem q690 : (Jvm.Cond.laysFinal "ShareHouse$Builder" "ShareHouse$Builder" "vars" "[I") ∈ lw_all := lw_g (lw_at lw_m2 239 rfl) rfl
theorem q691 : (Jvm.Cond.soleField "ShareHouse$Builder" "vars") ∈ lw_all := lw_g (lw_at lw_m3 0 rfl) rfl
theorem q692 : (Jvm.Cond.laysFinal "ShareHouse$Builder" "ShareHouse$Builder" "sizes" "[I") ∈ lw_all := lw_g (lw_at lw_m3 1 rfl) rfl
theorem q693 : (Jvm.Cond.soleField "ShareHouse$Builder" "sizes") ∈ lw_all := lw_g (lw_at lw_m3 2 rfl) rfl
theorem q694 : (Jvm.Cond.laysFinal "ShareHouse$Builder" "ShareHouse$Builder" "conditions" "[I") ∈ lw_all := lw_g (lw_at lw_m3 3 rfl) rfl
theorem q695 : (Jvm.Cond.soleField "ShareHouse$Builder" "conditions") ∈ lw_all := lw_g (lw_at lw_m3 4 rfl) rfl
theorem q696 : (Jvm.Cond.laysFinal "ShareHouse$Builder" "ShareHouse$Builder" "visible" "[I") ∈ lw_all := lw_g (lw_at lw_m3 5 rfl) rfl
theorem q697 : (Jvm.Cond.soleField "ShareHouse$Builder" "visible") ∈ lw_all := lw_g (lw_at lw_m3 6 rfl) rfl
theorem q698 : (Jvm.Cond.laysFinal "ShareHouse$Builder" "ShareHouse$Builder" "heads" "[I") ∈ lw_all := lw_g (lw_at lw_m3 7 rfl) rfl
theorem q699 : (Jvm.Cond.soleField "ShareHouse$Builder" "heads") ∈ lw_all := lw_g (lw_at lw_m3 8 rfl) rfl
theorem q700 : (Jvm.Cond.laysFinal "ShareHouse$Builder" "ShareHouse$Builder" "ahead" "[[I") ∈ lw_all := lw_g (lw_at lw_m3 9 rfl) rfl
theorem q701 : (Jvm.Cond.soleField "ShareHouse$Builder" "ahead") ∈ lw_all := lw_g (lw_at lw_m3 10 rfl) rfl
theorem q702 : (Jvm.Cond.laysFinal "ShareHouse$Builder" "ShareHouse$Builder" "behind" "[[I") ∈ lw_all := lw_g (lw_at lw_m3 11 rfl) rfl
theorem q703 : (Jvm.Cond.soleField "ShareHouse$Builder" "behind") ∈ lw_all := lw_g (lw_at lw_m3 12 rfl) rfl
theorem q704 : (Jvm.Cond.lays "ShareHouse$Builder" "ShareHouse$Builder" "ifs" "I") ∈ lw_all := lw_g (lw_at lw_m3 13 rfl) rfl
theorem q705 : (Jvm.Cond.soleField "ShareHouse$Builder" "ifs") ∈ lw_all := lw_g (lw_at lw_m3 14 rfl) rfl
theorem q706 : (Jvm.Cond.laysFinal "ShareHouse$Builder" "ShareHouse$Builder" "turns" "[J") ∈ lw_all := lw_g (lw_at lw_m3 15 rfl) rfl
theorem q707 : (Jvm.Cond.soleField "ShareHouse$Builder" "turns") ∈ lw_all := lw_g (lw_at lw_m3 16 rfl) rfl
theorem q708 : (Jvm.Cond.laysFinal "ShareHouse$Builder" "ShareHouse$Builder" "lasts" "[J") ∈ lw_all := lw_g (lw_at lw_m3 17 rfl) rfl
theorem q709 : (Jvm.Cond.soleField "ShareHouse$Builder" "lasts") ∈ lw_all := lw_g (lw_at lw_m3 18 rfl) rfl
theorem q710 : (Jvm.Cond.laysFinal "ShareHouse$Builder" "ShareHouse$Builder" "starts" "[I") ∈ lw_all := lw_g (lw_at lw_m3 19 rfl) rfl
theorem q711 : (Jvm.Cond.soleField "ShareHouse$Builder" "starts") ∈ lw_all := lw_g (lw_at lw_m3 20 rfl) rfl
theorem q712 : (Jvm.Cond.laysFinal "ShareHouse$Builder" "ShareHouse$Builder" "backs" "[I") ∈ lw_all := lw_g (lw_at lw_m3 21 rfl) rfl
theorem q713 : (Jvm.Cond.soleField "ShareHouse$Builder" "backs") ∈ lw_all := lw_g (lw_at lw_m3 22 rfl) rfl
theorem q714 : (Jvm.Cond.laysFinal "ShareHouse$Builder" "ShareHouse$Builder" "bases" "[I") ∈ lw_all := lw_g (lw_at lw_m3 23 rfl) rfl
theorem q715 : (Jvm.Cond.soleField "ShareHouse$Builder" "bases") ∈ lw_all := lw_g (lw_at lw_m3 24 rfl) rfl
theorem q716 : (Jvm.Cond.lays "ShareHouse$Builder" "ShareHouse$Builder" "defs" "I") ∈ lw_all := lw_g (lw_at lw_m3 25 rfl) rfl
theorem q717 : (Jvm.Cond.soleField "ShareHouse$Builder" "defs") ∈ lw_all := lw_g (lw_at lw_m3 26 rfl) rfl
theorem q718 : (Jvm.Cond.lays "ShareHouse$Builder" "ShareHouse$Builder" "calls" "I") ∈ lw_all := lw_g (lw_at lw_m3 27 rfl) rfl
theorem q719 : (Jvm.Cond.soleField "ShareHouse$Builder" "calls") ∈ lw_all := lw_g (lw_at lw_m3 28 rfl) rfl
theorem q720 : (Jvm.Cond.laysFinal "ShareHouse$Builder" "ShareHouse$Builder" "outputs" "[I") ∈ lw_all := lw_g (lw_at lw_m3 29 rfl) rfl
theorem q721 : (Jvm.Cond.soleField "ShareHouse$Builder" "outputs") ∈ lw_all := lw_g (lw_at lw_m3 30 rfl) rfl
theorem q722 : (Jvm.Cond.laysFinal "ShareHouse$Builder" "ShareHouse$Builder" "outputSizes" "[I") ∈ lw_all := lw_g (lw_at lw_m3 31 rfl) rfl
theorem q723 : (Jvm.Cond.soleField "ShareHouse$Builder" "outputSizes") ∈ lw_all := lw_g (lw_at lw_m3 32 rfl) rfl
theorem q724 : (Jvm.Cond.lays "ShareHouse$Builder" "ShareHouse$Builder" "outputWords" "I") ∈ lw_all := lw_g (lw_at lw_m3 33 rfl) rfl
theorem q725 : (Jvm.Cond.soleField "ShareHouse$Builder" "outputWords") ∈ lw_all := lw_g (lw_at lw_m3 34 rfl) rfl
theorem q726 : (Jvm.Cond.laysFinal "ShareHouse$Builder" "ShareHouse$Builder" "number" "[I") ∈ lw_all := lw_g (lw_at lw_m3 35 rfl) rfl
theorem q727 : (Jvm.Cond.soleField "ShareHouse$Builder" "number") ∈ lw_all := lw_g (lw_at lw_m3 36 rfl) rfl
theorem q728 : (Jvm.Cond.laysFinal "ShareHouse$Builder" "ShareHouse$Builder" "zeros" "[I") ∈ lw_all := lw_g (lw_at lw_m3 37 rfl) rfl
theorem q729 : (Jvm.Cond.soleField "ShareHouse$Builder" "zeros") ∈ lw_all := lw_g (lw_at lw_m3 38 rfl) rfl
theorem q730 : (Jvm.Cond.laysFinal "ShareHouse$Builder" "ShareHouse$Builder" "result" "[I") ∈ lw_all := lw_g (lw_at lw_m3 39 rfl) rfl
theorem q731 : (Jvm.Cond.soleField "ShareHouse$Builder" "result") ∈ lw_all := lw_g (lw_at lw_m3 40 rfl) rfl
theorem q732 : (Jvm.Cond.superclass "ShareHouse$Builder" "java/lang/Object") ∈ lw_all := lw_g (lw_at lw_m3 41 rfl) rfl
theorem q1424 : (Jvm.Cond.instanceMethod ({ cls := "ShareHouse$Builder", name := "build", desc := "(I)V" } : Jvm.MethodName)) ∈ lw_all := lw_g (lw_at lw_m6 13 rfl) rfl
theorem q1425 : (Jvm.Cond.selects "ShareHouse$Builder" ({ cls := "ShareHouse$Builder", name := "build", desc := "(I)V" } : Jvm.MethodName) ({ cls := "ShareHouse$Builder", name := "build", desc := "(I)V" } : Jvm.MethodName)) ∈ lw_all := lw_g (lw_at lw_m6 14 rfl) rfl
theorem q1426 : (Jvm.Cond.code ({ cls := "ShareHouse$Builder", name := "build", desc := "(I)V" } : Jvm.MethodName) prog_3_method_2_code (3 : Nat) (Option.none : Option Jvm.ClassFile.FieldType)) ∈ lw_all := lw_g (lw_at lw_m6 15 rfl) rfl
theorem q1427 : (Jvm.Cond.methodLink "ShareHouse$Builder" (105 : Nat) ({ cls := "ShareHouse$Circuit", name := "clear", desc := "(I)V" } : Jvm.MethodName)) ∈ lw_all := lw_g (lw_at lw_m6 16 rfl) rfl
theorem q1431 : (Jvm.Cond.methodLink "ShareHouse$Builder" (144 : Nat) ({ cls := "ShareHouse$Fault", name := "is", desc := "()Z" } : Jvm.MethodName)) ∈ lw_all := lw_g (lw_at lw_m6 20 rfl) rfl
theorem q1432 : (Jvm.Cond.methodLink "ShareHouse$Builder" (150 : Nat) ({ cls := "ShareHouse$Builder", name := "step", desc := "(I)V" } : Jvm.MethodName)) ∈ lw_all := lw_g (lw_at lw_m6 21 rfl) rfl
theorem q1433 : (Jvm.Cond.privateMethod ({ cls := "ShareHouse$Builder", name := "step", desc := "(I)V" } : Jvm.MethodName)) ∈ lw_tbl := lw_at lw_m6 22 rfl
theorem q1434 : (Jvm.Cond.instanceMethod ({ cls := "ShareHouse$Builder", name := "step", desc := "(I)V" } : Jvm.MethodName)) ∈ lw_all := lw_g (lw_at lw_m6 23 rfl) rfl
theorem q1435 : (Jvm.Cond.code ({ cls := "ShareHouse$Builder", name := "step", desc := "(I)V" } : Jvm.MethodName) prog_3_method_11_code (3 : Nat) (Option.none : Option Jvm.ClassFile.FieldType)) ∈ lw_all := lw_g (lw_at lw_m6 24 rfl) rfl
theorem q1436 : (Jvm.Cond.methodLink "ShareHouse$Builder" (176 : Nat) ({ cls := "ShareHouse$Op", name := "ordinal", desc := "()I" } : Jvm.MethodName)) ∈ lw_all := lw_g (lw_at lw_m6 25 rfl) rfl
theorem q1437 : (Jvm.Cond.fieldLink "ShareHouse$Builder" (182 : Nat) "ShareHouse$Op" "OR" "LShareHouse$Op;") ∈ lw_all := lw_g (lw_at lw_m6 26 rfl) rfl
theorem q1438 : (Jvm.Cond.methodLink "ShareHouse$Builder" (186 : Nat) ({ cls := "ShareHouse$Builder", name := "operator", desc := "(I)V" } : Jvm.MethodName)) ∈ lw_all := lw_g (lw_at lw_m6 27 rfl) rfl
theorem q1439 : (Jvm.Cond.privateMethod ({ cls := "ShareHouse$Builder", name := "operator", desc := "(I)V" } : Jvm.MethodName)) ∈ lw_tbl := lw_at lw_m6 28 rfl
theorem q1440 : (Jvm.Cond.instanceMethod ({ cls := "ShareHouse$Builder", name := "operator", desc := "(I)V" } : Jvm.MethodName)) ∈ lw_all := lw_g (lw_at lw_m6 29 rfl) rfl
theorem q1441 : (Jvm.Cond.code ({ cls := "ShareHouse$Builder", name := "operator", desc := "(I)V" } : Jvm.MethodName) prog_3_method_29_code (6 : Nat) (Option.none : Option Jvm.ClassFile.FieldType)) ∈ lw_all := lw_g (lw_at lw_m6 30 rfl) rfl
theorem q1442 : (Jvm.Cond.methodLink "ShareHouse$Builder" (218 : Nat) ({ cls := "ShareHouse$Builder", name := "place", desc := "(I)I" } : Jvm.MethodName)) ∈ lw_all := lw_g (lw_at lw_m6 31 rfl) rfl
theorem q1443 : (Jvm.Cond.privateMethod ({ cls := "ShareHouse$Builder", name := "place", desc := "(I)I" } : Jvm.MethodName)) ∈ lw_tbl := lw_at lw_m6 32 rfl
theorem q1444 : (Jvm.Cond.instanceMethod ({ cls := "ShareHouse$Builder", name := "place", desc := "(I)I" } : Jvm.MethodName)) ∈ lw_all := lw_g (lw_at lw_m6 33 rfl) rfl
theorem q1445 : (Jvm.Cond.code ({ cls := "ShareHouse$Builder", name := "place", desc := "(I)I" } : Jvm.MethodName) prog_3_method_4_code (2 : Nat) (Option.some Jvm.ClassFile.FieldType.int)) ∈ lw_all := lw_g (lw_at lw_m6 34 rfl) rfl
theorem q1446 : (Jvm.Cond.methodLink "ShareHouse$Builder" (306 : Nat) ({ cls := "ShareHouse$Words", name := "sum", desc := "([II[IIZII[II)V" } : Jvm.MethodName)) ∈ lw_all := lw_g (lw_at lw_m6 35 rfl) rfl
theorem q1467 : (Jvm.Cond.methodLink "ShareHouse$Builder" (303 : Nat) ({ cls := "ShareHouse$Builder", name := "settle", desc := "(II)V" } : Jvm.MethodName)) ∈ lw_all := lw_g (lw_at lw_m6 56 rfl) rfl
theorem q1468 : (Jvm.Cond.privateMethod ({ cls := "ShareHouse$Builder", name := "settle", desc := "(II)V" } : Jvm.MethodName)) ∈ lw_tbl := lw_at lw_m6 57 rfl
theorem q1469 : (Jvm.Cond.instanceMethod ({ cls := "ShareHouse$Builder", name := "settle", desc := "(II)V" } : Jvm.MethodName)) ∈ lw_all := lw_g (lw_at lw_m6 58 rfl) rfl
theorem q1470 : (Jvm.Cond.code ({ cls := "ShareHouse$Builder", name := "settle", desc := "(II)V" } : Jvm.MethodName) prog_3_method_10_code (3 : Nat) (Option.none : Option Jvm.ClassFile.FieldType)) ∈ lw_all := lw_g (lw_at lw_m6 59 rfl) rfl
theorem q1471 : (Jvm.Cond.methodLink "ShareHouse$Builder" (168 : Nat) ({ cls := "ShareHouse$Builder", name := "push", desc := "([III)V" } : Jvm.MethodName)) ∈ lw_all := lw_g (lw_at lw_m6 60 rfl) rfl
theorem q1472 : (Jvm.Cond.privateMethod ({ cls := "ShareHouse$Builder", name := "push", desc := "([III)V" } : Jvm.MethodName)) ∈ lw_tbl := lw_at lw_m6 61 rfl
theorem q1473 : (Jvm.Cond.instanceMethod ({ cls := "ShareHouse$Builder", name := "push", desc := "([III)V" } : Jvm.MethodName)) ∈ lw_all := lw_g (lw_at lw_m6 62 rfl) rfl
theorem q1474 : (Jvm.Cond.code ({ cls := "ShareHouse$Builder", name := "push", desc := "([III)V" } : Jvm.MethodName) prog_3_method_5_code (4 : Nat) (Option.none : Option Jvm.ClassFile.FieldType)) ∈ lw_all := lw_g (lw_at lw_m6 63 rfl) rfl
theorem q1475 : (Jvm.Cond.methodLink "ShareHouse$Builder" (162 : Nat) ({ cls := "java/lang/System", name := "arraycopy", desc := "(Ljava/lang/Object;ILjava/lang/Object;II)V" } : Jvm.MethodName)) ∈ lw_all := lw_g (lw_at lw_m6 64 rfl) rfl
theorem q1476 : (Jvm.Cond.methodLink "ShareHouse$Builder" (248 : Nat) ({ cls := "ShareHouse$Builder", name := "bits", desc := "(I)I" } : Jvm.MethodName)) ∈ lw_all := lw_g (lw_at lw_m6 65 rfl) rfl
theorem q1477 : (Jvm.Cond.privateMethod ({ cls := "ShareHouse$Builder", name := "bits", desc := "(I)I" } : Jvm.MethodName)) ∈ lw_tbl := lw_at lw_m6 66 rfl
theorem q1478 : (Jvm.Cond.instanceMethod ({ cls := "ShareHouse$Builder", name := "bits", desc := "(I)I" } : Jvm.MethodName)) ∈ lw_all := lw_g (lw_at lw_m6 67 rfl) rfl
theorem q1479 : (Jvm.Cond.code ({ cls := "ShareHouse$Builder", name := "bits", desc := "(I)I" } : Jvm.MethodName) prog_3_method_9_code (2 : Nat) (Option.some Jvm.ClassFile.FieldType.int)) ∈ lw_all := lw_g (lw_at lw_m6 68 rfl) rfl
theorem q1480 : (Jvm.Cond.methodLink "ShareHouse$Builder" (260 : Nat) ({ cls := "ShareHouse$Circuit", name := "mux", desc := "(III)I" } : Jvm.MethodName)) ∈ lw_all := lw_g (lw_at lw_m6 69 rfl) rfl
theorem q1486 : (Jvm.Cond.fieldLink "ShareHouse$Builder" (310 : Nat) "ShareHouse$Op" "MINUS" "LShareHouse$Op;") ∈ lw_all := lw_g (lw_at lw_m6 75 rfl) rfl
theorem q1487 : (Jvm.Cond.methodLink "ShareHouse$Builder" (313 : Nat) ({ cls := "ShareHouse$Words", name := "product", desc := "([II[II[II)V" } : Jvm.MethodName)) ∈ lw_all := lw_g (lw_at lw_m6 76 rfl) rfl
theorem q1492 : (Jvm.Cond.fieldLink "ShareHouse$Builder" (317 : Nat) "ShareHouse$Op" "REST" "LShareHouse$Op;") ∈ lw_all := lw_g (lw_at lw_m6 81 rfl) rfl
theorem q1493 : (Jvm.Cond.methodLink "ShareHouse$Builder" (320 : Nat) ({ cls := "ShareHouse$Words", name := "quotient", desc := "([II[IIZ[II)V" } : Jvm.MethodName)) ∈ lw_all := lw_g (lw_at lw_m6 82 rfl) rfl
theorem q1498 : (Jvm.Cond.methodLink "ShareHouse$Builder" (324 : Nat) ({ cls := "ShareHouse$Builder", name := "shift", desc := "(II)V" } : Jvm.MethodName)) ∈ lw_all := lw_g (lw_at lw_m6 87 rfl) rfl
theorem q1499 : (Jvm.Cond.privateMethod ({ cls := "ShareHouse$Builder", name := "shift", desc := "(II)V" } : Jvm.MethodName)) ∈ lw_tbl := lw_at lw_m6 88 rfl
theorem q1500 : (Jvm.Cond.instanceMethod ({ cls := "ShareHouse$Builder", name := "shift", desc := "(II)V" } : Jvm.MethodName)) ∈ lw_all := lw_g (lw_at lw_m6 89 rfl) rfl
theorem q1501 : (Jvm.Cond.code ({ cls := "ShareHouse$Builder", name := "shift", desc := "(II)V" } : Jvm.MethodName) prog_3_method_30_code (7 : Nat) (Option.none : Option Jvm.ClassFile.FieldType)) ∈ lw_all := lw_g (lw_at lw_m6 90 rfl) rfl
theorem q1502 : (Jvm.Cond.methodLink "ShareHouse$Builder" (222 : Nat) ({ cls := "ShareHouse$Builder", name := "valueOf", desc := "(I)J" } : Jvm.MethodName)) ∈ lw_all := lw_g (lw_at lw_m6 91 rfl) rfl
theorem q1503 : (Jvm.Cond.privateMethod ({ cls := "ShareHouse$Builder", name := "valueOf", desc := "(I)J" } : Jvm.MethodName)) ∈ lw_tbl := lw_at lw_m6 92 rfl
theorem q1504 : (Jvm.Cond.instanceMethod ({ cls := "ShareHouse$Builder", name := "valueOf", desc := "(I)J" } : Jvm.MethodName)) ∈ lw_all := lw_g (lw_at lw_m6 93 rfl) rfl
theorem q1505 : (Jvm.Cond.code ({ cls := "ShareHouse$Builder", name := "valueOf", desc := "(I)J" } : Jvm.MethodName) prog_3_method_8_code (5 : Nat) (Option.some Jvm.ClassFile.FieldType.long)) ∈ lw_all := lw_g (lw_at lw_m6 94 rfl) rfl
theorem q1506 : (Jvm.Cond.methodLink "ShareHouse$Builder" (226 : Nat) ({ cls := "ShareHouse$Builder", name := "needBelow", desc := "(JII)V" } : Jvm.MethodName)) ∈ lw_all := lw_g (lw_at lw_m6 95 rfl) rfl
theorem q1507 : (Jvm.Cond.privateMethod ({ cls := "ShareHouse$Builder", name := "needBelow", desc := "(JII)V" } : Jvm.MethodName)) ∈ lw_tbl := lw_at lw_m6 96 rfl
theorem q1508 : (Jvm.Cond.instanceMethod ({ cls := "ShareHouse$Builder", name := "needBelow", desc := "(JII)V" } : Jvm.MethodName)) ∈ lw_all := lw_g (lw_at lw_m6 97 rfl) rfl
theorem q1509 : (Jvm.Cond.code ({ cls := "ShareHouse$Builder", name := "needBelow", desc := "(JII)V" } : Jvm.MethodName) prog_3_method_13_code (5 : Nat) (Option.none : Option Jvm.ClassFile.FieldType)) ∈ lw_all := lw_g (lw_at lw_m6 98 rfl) rfl
theorem q1510 : (Jvm.Cond.methodLink "ShareHouse$Builder" (157 : Nat) ({ cls := "ShareHouse$Fault", name := "set", desc := "(II)V" } : Jvm.MethodName)) ∈ lw_all := lw_g (lw_at lw_m6 99 rfl) rfl
theorem q1511 : (Jvm.Cond.fieldLink "ShareHouse$Builder" (331 : Nat) "ShareHouse$Op" "LEFT" "LShareHouse$Op;") ∈ lw_all := lw_g (lw_at lw_m6 100 rfl) rfl
theorem q1512 : (Jvm.Cond.methodLink "ShareHouse$Builder" (327 : Nat) ({ cls := "ShareHouse$Builder", name := "bitwise", desc := "(III)V" } : Jvm.MethodName)) ∈ lw_all := lw_g (lw_at lw_m6 101 rfl) rfl
theorem q1513 : (Jvm.Cond.privateMethod ({ cls := "ShareHouse$Builder", name := "bitwise", desc := "(III)V" } : Jvm.MethodName)) ∈ lw_tbl := lw_at lw_m6 102 rfl
theorem q1514 : (Jvm.Cond.instanceMethod ({ cls := "ShareHouse$Builder", name := "bitwise", desc := "(III)V" } : Jvm.MethodName)) ∈ lw_all := lw_g (lw_at lw_m6 103 rfl) rfl
theorem q1515 : (Jvm.Cond.code ({ cls := "ShareHouse$Builder", name := "bitwise", desc := "(III)V" } : Jvm.MethodName) prog_3_method_31_code (6 : Nat) (Option.none : Option Jvm.ClassFile.FieldType)) ∈ lw_all := lw_g (lw_at lw_m6 104 rfl) rfl
theorem q1516 : (Jvm.Cond.methodLink "ShareHouse$Builder" (334 : Nat) ({ cls := "ShareHouse$Circuit", name := "or", desc := "(II)I" } : Jvm.MethodName)) ∈ lw_all := lw_g (lw_at lw_m6 105 rfl) rfl
theorem q1520 : (Jvm.Cond.methodLink "ShareHouse$Builder" (297 : Nat) ({ cls := "ShareHouse$Circuit", name := "and", desc := "(II)I" } : Jvm.MethodName)) ∈ lw_all := lw_g (lw_at lw_m6 109 rfl) rfl
theorem q1521 : (Jvm.Cond.methodLink "ShareHouse$Builder" (300 : Nat) ({ cls := "ShareHouse$Circuit", name := "xor", desc := "(II)I" } : Jvm.MethodName)) ∈ lw_all := lw_g (lw_at lw_m6 110 rfl) rfl
theorem q1522 : (Jvm.Cond.methodLink "ShareHouse$Builder" (337 : Nat) ({ cls := "ShareHouse$Builder", name := "compared", desc := "(LShareHouse$Op;III)I" } : Jvm.MethodName)) ∈ lw_all := lw_g (lw_at lw_m6 111 rfl) rfl
theorem q1523 : (Jvm.Cond.privateMethod ({ cls := "ShareHouse$Builder", name := "compared", desc := "(LShareHouse$Op;III)I" } : Jvm.MethodName)) ∈ lw_tbl := lw_at lw_m6 112 rfl
theorem q1524 : (Jvm.Cond.instanceMethod ({ cls := "ShareHouse$Builder", name := "compared", desc := "(LShareHouse$Op;III)I" } : Jvm.MethodName)) ∈ lw_all := lw_g (lw_at lw_m6 113 rfl) rfl
theorem q1525 : (Jvm.Cond.code ({ cls := "ShareHouse$Builder", name := "compared", desc := "(LShareHouse$Op;III)I" } : Jvm.MethodName) prog_3_method_32_code (5 : Nat) (Option.some Jvm.ClassFile.FieldType.int)) ∈ lw_all := lw_g (lw_at lw_m6 114 rfl) rfl
theorem q1526 : (Jvm.Cond.methodLink "ShareHouse$Builder" (268 : Nat) ({ cls := "ShareHouse$Words", name := "equal", desc := "([II[III)I" } : Jvm.MethodName)) ∈ lw_all := lw_g (lw_at lw_m6 115 rfl) rfl
theorem q1530 : (Jvm.Cond.methodLink "ShareHouse$Builder" (341 : Nat) ({ cls := "ShareHouse$Words", name := "less", desc := "([II[II)I" } : Jvm.MethodName)) ∈ lw_all := lw_g (lw_at lw_m6 119 rfl) rfl
theorem q1534 : (Jvm.Cond.fieldLink "ShareHouse$Builder" (189 : Nat) "ShareHouse$Op" "NUMBER" "LShareHouse$Op;") ∈ lw_all := lw_g (lw_at lw_m6 123 rfl) rfl
theorem q1535 : (Jvm.Cond.methodLink "ShareHouse$Builder" (192 : Nat) ({ cls := "ShareHouse$Builder", name := "factor", desc := "(I)V" } : Jvm.MethodName)) ∈ lw_all := lw_g (lw_at lw_m6 124 rfl) rfl
theorem q1536 : (Jvm.Cond.privateMethod ({ cls := "ShareHouse$Builder", name := "factor", desc := "(I)V" } : Jvm.MethodName)) ∈ lw_tbl := lw_at lw_m6 125 rfl
theorem q1537 : (Jvm.Cond.instanceMethod ({ cls := "ShareHouse$Builder", name := "factor", desc := "(I)V" } : Jvm.MethodName)) ∈ lw_all := lw_g (lw_at lw_m6 126 rfl) rfl
theorem q1538 : (Jvm.Cond.code ({ cls := "ShareHouse$Builder", name := "factor", desc := "(I)V" } : Jvm.MethodName) prog_3_method_24_code (5 : Nat) (Option.none : Option Jvm.ClassFile.FieldType)) ∈ lw_all := lw_g (lw_at lw_m6 127 rfl) rfl
theorem q1539 : (Jvm.Cond.methodLink "ShareHouse$Builder" (209 : Nat) ({ cls := "ShareHouse$Builder", name := "count", desc := "()V" } : Jvm.MethodName)) ∈ lw_all := lw_g (lw_at lw_m6 128 rfl) rfl
theorem q1540 : (Jvm.Cond.privateMethod ({ cls := "ShareHouse$Builder", name := "count", desc := "()V" } : Jvm.MethodName)) ∈ lw_tbl := lw_at lw_m6 129 rfl
theorem q1541 : (Jvm.Cond.instanceMethod ({ cls := "ShareHouse$Builder", name := "count", desc := "()V" } : Jvm.MethodName)) ∈ lw_all := lw_g (lw_at lw_m6 130 rfl) rfl
theorem q1542 : (Jvm.Cond.code ({ cls := "ShareHouse$Builder", name := "count", desc := "()V" } : Jvm.MethodName) prog_3_method_3_code (1 : Nat) (Option.none : Option Jvm.ClassFile.FieldType)) ∈ lw_all := lw_g (lw_at lw_m6 131 rfl) rfl
theorem q1543 : (Jvm.Cond.constant "ShareHouse$Builder" (161 : Nat) (100000 : Int32)) ∈ lw_all := lw_g (lw_at lw_m6 132 rfl) rfl
theorem q1544 : (Jvm.Cond.constantLong "ShareHouse$Builder" (274 : Nat) (4294967295 : Int64)) ∈ lw_all := lw_g (lw_at lw_m6 133 rfl) rfl
theorem q1545 : (Jvm.Cond.methodLink "ShareHouse$Builder" (264 : Nat) ({ cls := "ShareHouse$Builder", name := "constant", desc := "([IJ)V" } : Jvm.MethodName)) ∈ lw_all := lw_g (lw_at lw_m6 134 rfl) rfl
theorem q1546 : (Jvm.Cond.privateMethod ({ cls := "ShareHouse$Builder", name := "constant", desc := "([IJ)V" } : Jvm.MethodName)) ∈ lw_tbl := lw_at lw_m6 135 rfl
theorem q1547 : (Jvm.Cond.instanceMethod ({ cls := "ShareHouse$Builder", name := "constant", desc := "([IJ)V" } : Jvm.MethodName)) ∈ lw_all := lw_g (lw_at lw_m6 136 rfl) rfl
theorem q1548 : (Jvm.Cond.code ({ cls := "ShareHouse$Builder", name := "constant", desc := "([IJ)V" } : Jvm.MethodName) prog_3_method_7_code (5 : Nat) (Option.none : Option Jvm.ClassFile.FieldType)) ∈ lw_all := lw_g (lw_at lw_m6 137 rfl) rfl
theorem q1549 : (Jvm.Cond.fieldLink "ShareHouse$Builder" (276 : Nat) "ShareHouse$Op" "TRUE" "LShareHouse$Op;") ∈ lw_all := lw_g (lw_at lw_m6 138 rfl) rfl
theorem q1550 : (Jvm.Cond.methodLink "ShareHouse$Builder" (279 : Nat) ({ cls := "ShareHouse$Builder", name := "pushBit", desc := "(I)V" } : Jvm.MethodName)) ∈ lw_all := lw_g (lw_at lw_m6 139 rfl) rfl
theorem q1551 : (Jvm.Cond.privateMethod ({ cls := "ShareHouse$Builder", name := "pushBit", desc := "(I)V" } : Jvm.MethodName)) ∈ lw_tbl := lw_at lw_m6 140 rfl
theorem q1552 : (Jvm.Cond.instanceMethod ({ cls := "ShareHouse$Builder", name := "pushBit", desc := "(I)V" } : Jvm.MethodName)) ∈ lw_all := lw_g (lw_at lw_m6 141 rfl) rfl
theorem q1553 : (Jvm.Cond.code ({ cls := "ShareHouse$Builder", name := "pushBit", desc := "(I)V" } : Jvm.MethodName) prog_3_method_6_code (2 : Nat) (Option.none : Option Jvm.ClassFile.FieldType)) ∈ lw_all := lw_g (lw_at lw_m6 142 rfl) rfl
theorem q1554 : (Jvm.Cond.methodLink "ShareHouse$Builder" (282 : Nat) ({ cls := "ShareHouse$Builder", name := "read", desc := "(I)V" } : Jvm.MethodName)) ∈ lw_all := lw_g (lw_at lw_m6 143 rfl) rfl
theorem q1555 : (Jvm.Cond.privateMethod ({ cls := "ShareHouse$Builder", name := "read", desc := "(I)V" } : Jvm.MethodName)) ∈ lw_tbl := lw_at lw_m6 144 rfl
theorem q1556 : (Jvm.Cond.instanceMethod ({ cls := "ShareHouse$Builder", name := "read", desc := "(I)V" } : Jvm.MethodName)) ∈ lw_all := lw_g (lw_at lw_m6 145 rfl) rfl
theorem q1557 : (Jvm.Cond.code ({ cls := "ShareHouse$Builder", name := "read", desc := "(I)V" } : Jvm.MethodName) prog_3_method_25_code (5 : Nat) (Option.none : Option Jvm.ClassFile.FieldType)) ∈ lw_all := lw_g (lw_at lw_m6 146 rfl) rfl
theorem q1558 : (Jvm.Cond.methodLink "ShareHouse$Builder" (290 : Nat) ({ cls := "ShareHouse$Builder", name := "inputWord", desc := "(II)V" } : Jvm.MethodName)) ∈ lw_all := lw_g (lw_at lw_m6 147 rfl) rfl
theorem q1559 : (Jvm.Cond.privateMethod ({ cls := "ShareHouse$Builder", name := "inputWord", desc := "(II)V" } : Jvm.MethodName)) ∈ lw_tbl := lw_at lw_m6 148 rfl
theorem q1560 : (Jvm.Cond.instanceMethod ({ cls := "ShareHouse$Builder", name := "inputWord", desc := "(II)V" } : Jvm.MethodName)) ∈ lw_all := lw_g (lw_at lw_m6 149 rfl) rfl
theorem q1561 : (Jvm.Cond.code ({ cls := "ShareHouse$Builder", name := "inputWord", desc := "(II)V" } : Jvm.MethodName) prog_3_method_26_code (4 : Nat) (Option.none : Option Jvm.ClassFile.FieldType)) ∈ lw_all := lw_g (lw_at lw_m6 150 rfl) rfl
theorem q1562 : (Jvm.Cond.methodLink "ShareHouse$Builder" (285 : Nat) ({ cls := "ShareHouse$Builder", name := "element", desc := "(I)V" } : Jvm.MethodName)) ∈ lw_all := lw_g (lw_at lw_m6 151 rfl) rfl
theorem q1563 : (Jvm.Cond.privateMethod ({ cls := "ShareHouse$Builder", name := "element", desc := "(I)V" } : Jvm.MethodName)) ∈ lw_tbl := lw_at lw_m6 152 rfl
theorem q1564 : (Jvm.Cond.instanceMethod ({ cls := "ShareHouse$Builder", name := "element", desc := "(I)V" } : Jvm.MethodName)) ∈ lw_all := lw_g (lw_at lw_m6 153 rfl) rfl
theorem q1565 : (Jvm.Cond.code ({ cls := "ShareHouse$Builder", name := "element", desc := "(I)V" } : Jvm.MethodName) prog_3_method_28_code (9 : Nat) (Option.none : Option Jvm.ClassFile.FieldType)) ∈ lw_all := lw_g (lw_at lw_m6 154 rfl) rfl
theorem q1566 : (Jvm.Cond.methodLink "ShareHouse$Builder" (293 : Nat) ({ cls := "ShareHouse$Builder", name := "fetch", desc := "(ZII)V" } : Jvm.MethodName)) ∈ lw_all := lw_g (lw_at lw_m6 155 rfl) rfl
theorem q1567 : (Jvm.Cond.privateMethod ({ cls := "ShareHouse$Builder", name := "fetch", desc := "(ZII)V" } : Jvm.MethodName)) ∈ lw_tbl := lw_at lw_m6 156 rfl
theorem q1568 : (Jvm.Cond.instanceMethod ({ cls := "ShareHouse$Builder", name := "fetch", desc := "(ZII)V" } : Jvm.MethodName)) ∈ lw_all := lw_g (lw_at lw_m6 157 rfl) rfl
theorem q1569 : (Jvm.Cond.code ({ cls := "ShareHouse$Builder", name := "fetch", desc := "(ZII)V" } : Jvm.MethodName) prog_3_method_27_code (4 : Nat) (Option.none : Option Jvm.ClassFile.FieldType)) ∈ lw_all := lw_g (lw_at lw_m6 158 rfl) rfl
theorem q1570 : (Jvm.Cond.methodLink "ShareHouse$Builder" (257 : Nat) ({ cls := "ShareHouse$Builder", name := "isElement", desc := "(II)I" } : Jvm.MethodName)) ∈ lw_all := lw_g (lw_at lw_m6 159 rfl) rfl
theorem q1571 : (Jvm.Cond.privateMethod ({ cls := "ShareHouse$Builder", name := "isElement", desc := "(II)I" } : Jvm.MethodName)) ∈ lw_tbl := lw_at lw_m6 160 rfl
theorem q1572 : (Jvm.Cond.instanceMethod ({ cls := "ShareHouse$Builder", name := "isElement", desc := "(II)I" } : Jvm.MethodName)) ∈ lw_all := lw_g (lw_at lw_m6 161 rfl) rfl
theorem q1573 : (Jvm.Cond.code ({ cls := "ShareHouse$Builder", name := "isElement", desc := "(II)I" } : Jvm.MethodName) prog_3_method_18_code (3 : Nat) (Option.some Jvm.ClassFile.FieldType.int)) ∈ lw_all := lw_g (lw_at lw_m6 162 rfl) rfl
theorem q1574 : (Jvm.Cond.methodLink "ShareHouse$Builder" (195 : Nat) ({ cls := "ShareHouse$Builder", name := "statement", desc := "(I)V" } : Jvm.MethodName)) ∈ lw_all := lw_g (lw_at lw_m6 163 rfl) rfl
theorem q1575 : (Jvm.Cond.privateMethod ({ cls := "ShareHouse$Builder", name := "statement", desc := "(I)V" } : Jvm.MethodName)) ∈ lw_tbl := lw_at lw_m6 164 rfl
theorem q1576 : (Jvm.Cond.instanceMethod ({ cls := "ShareHouse$Builder", name := "statement", desc := "(I)V" } : Jvm.MethodName)) ∈ lw_all := lw_g (lw_at lw_m6 165 rfl) rfl
theorem q1577 : (Jvm.Cond.code ({ cls := "ShareHouse$Builder", name := "statement", desc := "(I)V" } : Jvm.MethodName) prog_3_method_12_code (3 : Nat) (Option.none : Option Jvm.ClassFile.FieldType)) ∈ lw_all := lw_g (lw_at lw_m6 166 rfl) rfl
theorem q1578 : (Jvm.Cond.methodLink "ShareHouse$Builder" (197 : Nat) ({ cls := "ShareHouse$Builder", name := "input", desc := "(I)V" } : Jvm.MethodName)) ∈ lw_all := lw_g (lw_at lw_m6 167 rfl) rfl
theorem q1579 : (Jvm.Cond.privateMethod ({ cls := "ShareHouse$Builder", name := "input", desc := "(I)V" } : Jvm.MethodName)) ∈ lw_tbl := lw_at lw_m6 168 rfl
theorem q1580 : (Jvm.Cond.instanceMethod ({ cls := "ShareHouse$Builder", name := "input", desc := "(I)V" } : Jvm.MethodName)) ∈ lw_all := lw_g (lw_at lw_m6 169 rfl) rfl
theorem q1581 : (Jvm.Cond.code ({ cls := "ShareHouse$Builder", name := "input", desc := "(I)V" } : Jvm.MethodName) prog_3_method_14_code (5 : Nat) (Option.none : Option Jvm.ClassFile.FieldType)) ∈ lw_all := lw_g (lw_at lw_m6 170 rfl) rfl
theorem q1582 : (Jvm.Cond.methodLink "ShareHouse$Builder" (251 : Nat) ({ cls := "java/lang/Math", name := "max", desc := "(II)I" } : Jvm.MethodName)) ∈ lw_all := lw_g (lw_at lw_m6 171 rfl) rfl
theorem q1583 : (Jvm.Cond.methodLink "ShareHouse$Builder" (203 : Nat) ({ cls := "ShareHouse$Builder", name := "back", desc := "()V" } : Jvm.MethodName)) ∈ lw_all := lw_g (lw_at lw_m6 172 rfl) rfl
theorem q1584 : (Jvm.Cond.privateMethod ({ cls := "ShareHouse$Builder", name := "back", desc := "()V" } : Jvm.MethodName)) ∈ lw_tbl := lw_at lw_m6 173 rfl
theorem q1585 : (Jvm.Cond.instanceMethod ({ cls := "ShareHouse$Builder", name := "back", desc := "()V" } : Jvm.MethodName)) ∈ lw_all := lw_g (lw_at lw_m6 174 rfl) rfl
theorem q1586 : (Jvm.Cond.code ({ cls := "ShareHouse$Builder", name := "back", desc := "()V" } : Jvm.MethodName) prog_3_method_23_code (2 : Nat) (Option.none : Option Jvm.ClassFile.FieldType)) ∈ lw_all := lw_g (lw_at lw_m6 175 rfl) rfl
theorem q1587 : (Jvm.Cond.methodLink "ShareHouse$Builder" (212 : Nat) ({ cls := "ShareHouse$Builder", name := "output", desc := "(I)V" } : Jvm.MethodName)) ∈ lw_all := lw_g (lw_at lw_m6 176 rfl) rfl
theorem q1588 : (Jvm.Cond.privateMethod ({ cls := "ShareHouse$Builder", name := "output", desc := "(I)V" } : Jvm.MethodName)) ∈ lw_tbl := lw_at lw_m6 177 rfl
theorem q1589 : (Jvm.Cond.instanceMethod ({ cls := "ShareHouse$Builder", name := "output", desc := "(I)V" } : Jvm.MethodName)) ∈ lw_all := lw_g (lw_at lw_m6 178 rfl) rfl
theorem q1590 : (Jvm.Cond.code ({ cls := "ShareHouse$Builder", name := "output", desc := "(I)V" } : Jvm.MethodName) prog_3_method_15_code (3 : Nat) (Option.none : Option Jvm.ClassFile.FieldType)) ∈ lw_all := lw_g (lw_at lw_m6 179 rfl) rfl
theorem q1591 : (Jvm.Cond.methodLink "ShareHouse$Builder" (215 : Nat) ({ cls := "ShareHouse$Builder", name := "variable", desc := "(I)V" } : Jvm.MethodName)) ∈ lw_all := lw_g (lw_at lw_m6 180 rfl) rfl
theorem q1592 : (Jvm.Cond.privateMethod ({ cls := "ShareHouse$Builder", name := "variable", desc := "(I)V" } : Jvm.MethodName)) ∈ lw_tbl := lw_at lw_m6 181 rfl
theorem q1593 : (Jvm.Cond.instanceMethod ({ cls := "ShareHouse$Builder", name := "variable", desc := "(I)V" } : Jvm.MethodName)) ∈ lw_all := lw_g (lw_at lw_m6 182 rfl) rfl
theorem q1594 : (Jvm.Cond.code ({ cls := "ShareHouse$Builder", name := "variable", desc := "(I)V" } : Jvm.MethodName) prog_3_method_16_code (7 : Nat) (Option.none : Option Jvm.ClassFile.FieldType)) ∈ lw_all := lw_g (lw_at lw_m6 183 rfl) rfl
theorem q1595 : (Jvm.Cond.methodLink "ShareHouse$Builder" (230 : Nat) ({ cls := "ShareHouse$Builder", name := "assign", desc := "(I)V" } : Jvm.MethodName)) ∈ lw_all := lw_g (lw_at lw_m6 184 rfl) rfl
theorem q1596 : (Jvm.Cond.privateMethod ({ cls := "ShareHouse$Builder", name := "assign", desc := "(I)V" } : Jvm.MethodName)) ∈ lw_tbl := lw_at lw_m6 185 rfl
theorem q1597 : (Jvm.Cond.instanceMethod ({ cls := "ShareHouse$Builder", name := "assign", desc := "(I)V" } : Jvm.MethodName)) ∈ lw_all := lw_g (lw_at lw_m6 186 rfl) rfl
theorem q1598 : (Jvm.Cond.code ({ cls := "ShareHouse$Builder", name := "assign", desc := "(I)V" } : Jvm.MethodName) prog_3_method_17_code (10 : Nat) (Option.none : Option Jvm.ClassFile.FieldType)) ∈ lw_all := lw_g (lw_at lw_m6 187 rfl) rfl
theorem q1599 : (Jvm.Cond.methodLink "ShareHouse$Builder" (233 : Nat) ({ cls := "ShareHouse$Builder", name := "open", desc := "(I)V" } : Jvm.MethodName)) ∈ lw_all := lw_g (lw_at lw_m6 188 rfl) rfl
theorem q1600 : (Jvm.Cond.privateMethod ({ cls := "ShareHouse$Builder", name := "open", desc := "(I)V" } : Jvm.MethodName)) ∈ lw_tbl := lw_at lw_m6 189 rfl
theorem q1601 : (Jvm.Cond.instanceMethod ({ cls := "ShareHouse$Builder", name := "open", desc := "(I)V" } : Jvm.MethodName)) ∈ lw_all := lw_g (lw_at lw_m6 190 rfl) rfl
theorem q1602 : (Jvm.Cond.code ({ cls := "ShareHouse$Builder", name := "open", desc := "(I)V" } : Jvm.MethodName) prog_3_method_19_code (2 : Nat) (Option.none : Option Jvm.ClassFile.FieldType)) ∈ lw_all := lw_g (lw_at lw_m6 191 rfl) rfl
theorem q1603 : (Jvm.Cond.methodLink "ShareHouse$Builder" (236 : Nat) ({ cls := "ShareHouse$Builder", name := "turnOver", desc := "()V" } : Jvm.MethodName)) ∈ lw_all := lw_g (lw_at lw_m6 192 rfl) rfl
theorem q1604 : (Jvm.Cond.privateMethod ({ cls := "ShareHouse$Builder", name := "turnOver", desc := "()V" } : Jvm.MethodName)) ∈ lw_tbl := lw_at lw_m6 193 rfl
theorem q1605 : (Jvm.Cond.instanceMethod ({ cls := "ShareHouse$Builder", name := "turnOver", desc := "()V" } : Jvm.MethodName)) ∈ lw_all := lw_g (lw_at lw_m6 194 rfl) rfl
theorem q1606 : (Jvm.Cond.code ({ cls := "ShareHouse$Builder", name := "turnOver", desc := "()V" } : Jvm.MethodName) prog_3_method_20_code (2 : Nat) (Option.none : Option Jvm.ClassFile.FieldType)) ∈ lw_all := lw_g (lw_at lw_m6 195 rfl) rfl
theorem q1607 : (Jvm.Cond.methodLink "ShareHouse$Builder" (239 : Nat) ({ cls := "ShareHouse$Builder", name := "merge", desc := "()V" } : Jvm.MethodName)) ∈ lw_all := lw_g (lw_at lw_m6 196 rfl) rfl
theorem q1608 : (Jvm.Cond.privateMethod ({ cls := "ShareHouse$Builder", name := "merge", desc := "()V" } : Jvm.MethodName)) ∈ lw_tbl := lw_at lw_m6 197 rfl
theorem q1609 : (Jvm.Cond.instanceMethod ({ cls := "ShareHouse$Builder", name := "merge", desc := "()V" } : Jvm.MethodName)) ∈ lw_all := lw_g (lw_at lw_m6 198 rfl) rfl
theorem q1610 : (Jvm.Cond.code ({ cls := "ShareHouse$Builder", name := "merge", desc := "()V" } : Jvm.MethodName) prog_3_method_21_code (4 : Nat) (Option.none : Option Jvm.ClassFile.FieldType)) ∈ lw_all := lw_g (lw_at lw_m6 199 rfl) rfl
theorem q1611 : (Jvm.Cond.methodLink "ShareHouse$Builder" (242 : Nat) ({ cls := "ShareHouse$Builder", name := "loop", desc := "(I)V" } : Jvm.MethodName)) ∈ lw_all := lw_g (lw_at lw_m6 200 rfl) rfl
theorem q1612 : (Jvm.Cond.privateMethod ({ cls := "ShareHouse$Builder", name := "loop", desc := "(I)V" } : Jvm.MethodName)) ∈ lw_tbl := lw_at lw_m6 201 rfl
theorem q1613 : (Jvm.Cond.instanceMethod ({ cls := "ShareHouse$Builder", name := "loop", desc := "(I)V" } : Jvm.MethodName)) ∈ lw_all := lw_g (lw_at lw_m6 202 rfl) rfl
theorem q1614 : (Jvm.Cond.code ({ cls := "ShareHouse$Builder", name := "loop", desc := "(I)V" } : Jvm.MethodName) prog_3_method_22_code (7 : Nat) (Option.none : Option Jvm.ClassFile.FieldType)) ∈ lw_all := lw_g (lw_at lw_m6 203 rfl) rfl
theorem q1615 : (Jvm.Cond.constantLong "ShareHouse$Builder" (272 : Nat) (256 : Int64)) ∈ lw_all := lw_g (lw_at lw_m6 204 rfl) rfl
theorem in_X11 : ∀ w ∈ wsX110, w ∈ lw_all := lw_in wsX110 [660, 662, 664, 666, 668, 670, 672, 674, 676, 678, 680, 682, 684, 686, 688, 690, 692, 694, 696, 698, 700, 702, 704, 706, 708, 710, 712, 714, 716, 718, 720, 722, 724, 726, 728, 730] (by decide +kernel) (by decide +kernel)
theorem q224 : (Jvm.Cond.initialized "ShareHouse$Words") ∈ lw_all := lw_g (lw_at lw_m1 13 rfl) rfl
theorem q581 : (Jvm.Cond.instantiable "ShareHouse$Words" (7 : Nat)) ∈ lw_all := lw_g (lw_at lw_m2 130 rfl) rfl
theorem q583 : (Jvm.Cond.instanceMethod ({ cls := "ShareHouse$Words", name := "<init>", desc := "(LShareHouse$Circuit;I)V" } : Jvm.MethodName)) ∈ lw_all := lw_g (lw_at lw_m2 132 rfl) rfl
theorem q584 : (Jvm.Cond.code ({ cls := "ShareHouse$Words", name := "<init>", desc := "(LShareHouse$Circuit;I)V" } : Jvm.MethodName) prog_15_method_1_code (3 : Nat) (Option.none : Option Jvm.ClassFile.FieldType)) ∈ lw_all := lw_g (lw_at lw_m2 133 rfl) rfl
theorem q585 : (Jvm.Cond.methodLink "ShareHouse$Words" (1 : Nat) ({ cls := "java/lang/Object", name := "<init>", desc := "()V" } : Jvm.MethodName)) ∈ lw_all := lw_g (lw_at lw_m2 134 rfl) rfl
theorem q586 : (Jvm.Cond.fieldLink "ShareHouse$Words" (25 : Nat) "ShareHouse$Words" "circuit" "LShareHouse$Circuit;") ∈ lw_all := lw_g (lw_at lw_m2 135 rfl) rfl
theorem q587 : (Jvm.Cond.fieldLink "ShareHouse$Words" (29 : Nat) "ShareHouse$Words" "width" "I") ∈ lw_all := lw_g (lw_at lw_m2 136 rfl) rfl
theorem q588 : (Jvm.Cond.fieldLink "ShareHouse$Words" (7 : Nat) "ShareHouse$Words" "row" "[I") ∈ lw_all := lw_g (lw_at lw_m2 137 rfl) rfl
theorem q589 : (Jvm.Cond.fieldLink "ShareHouse$Words" (13 : Nat) "ShareHouse$Words" "other" "[I") ∈ lw_all := lw_g (lw_at lw_m2 138 rfl) rfl
theorem q590 : (Jvm.Cond.fieldLink "ShareHouse$Words" (16 : Nat) "ShareHouse$Words" "rest" "[I") ∈ lw_all := lw_g (lw_at lw_m2 139 rfl) rfl
theorem q591 : (Jvm.Cond.fieldLink "ShareHouse$Words" (19 : Nat) "ShareHouse$Words" "high" "[I") ∈ lw_all := lw_g (lw_at lw_m2 140 rfl) rfl
theorem q592 : (Jvm.Cond.fieldLink "ShareHouse$Words" (22 : Nat) "ShareHouse$Words" "turned" "[I") ∈ lw_all := lw_g (lw_at lw_m2 141 rfl) rfl
theorem q593 : (Jvm.Cond.laysFinal "ShareHouse$Words" "ShareHouse$Words" "circuit" "LShareHouse$Circuit;") ∈ lw_all := lw_g (lw_at lw_m2 142 rfl) rfl
theorem q594 : (Jvm.Cond.soleField "ShareHouse$Words" "circuit") ∈ lw_all := lw_g (lw_at lw_m2 143 rfl) rfl
theorem q595 : (Jvm.Cond.laysFinal "ShareHouse$Words" "ShareHouse$Words" "width" "I") ∈ lw_all := lw_g (lw_at lw_m2 144 rfl) rfl
theorem q596 : (Jvm.Cond.soleField "ShareHouse$Words" "width") ∈ lw_all := lw_g (lw_at lw_m2 145 rfl) rfl
theorem q597 : (Jvm.Cond.laysFinal "ShareHouse$Words" "ShareHouse$Words" "row" "[I") ∈ lw_all := lw_g (lw_at lw_m2 146 rfl) rfl
theorem q598 : (Jvm.Cond.soleField "ShareHouse$Words" "row") ∈ lw_all := lw_g (lw_at lw_m2 147 rfl) rfl
theorem q599 : (Jvm.Cond.laysFinal "ShareHouse$Words" "ShareHouse$Words" "other" "[I") ∈ lw_all := lw_g (lw_at lw_m2 148 rfl) rfl
theorem q600 : (Jvm.Cond.soleField "ShareHouse$Words" "other") ∈ lw_all := lw_g (lw_at lw_m2 149 rfl) rfl
theorem q601 : (Jvm.Cond.laysFinal "ShareHouse$Words" "ShareHouse$Words" "rest" "[I") ∈ lw_all := lw_g (lw_at lw_m2 150 rfl) rfl
theorem q602 : (Jvm.Cond.soleField "ShareHouse$Words" "rest") ∈ lw_all := lw_g (lw_at lw_m2 151 rfl) rfl
theorem q603 : (Jvm.Cond.laysFinal "ShareHouse$Words" "ShareHouse$Words" "high" "[I") ∈ lw_all := lw_g (lw_at lw_m2 152 rfl) rfl
theorem q604 : (Jvm.Cond.soleField "ShareHouse$Words" "high") ∈ lw_all := lw_g (lw_at lw_m2 153 rfl) rfl
theorem q605 : (Jvm.Cond.laysFinal "ShareHouse$Words" "ShareHouse$Words" "turned" "[I") ∈ lw_all := lw_g (lw_at lw_m2 154 rfl) rfl
theorem q606 : (Jvm.Cond.soleField "ShareHouse$Words" "turned") ∈ lw_all := lw_g (lw_at lw_m2 155 rfl) rfl
theorem q607 : (Jvm.Cond.superclass "ShareHouse$Words" "java/lang/Object") ∈ lw_all := lw_g (lw_at lw_m2 156 rfl) rfl
theorem q1447 : (Jvm.Cond.instanceMethod ({ cls := "ShareHouse$Words", name := "sum", desc := "([II[IIZII[II)V" } : Jvm.MethodName)) ∈ lw_all := lw_g (lw_at lw_m6 36 rfl) rfl
theorem q1448 : (Jvm.Cond.selects "ShareHouse$Words" ({ cls := "ShareHouse$Words", name := "sum", desc := "([II[IIZII[II)V" } : Jvm.MethodName) ({ cls := "ShareHouse$Words", name := "sum", desc := "([II[IIZII[II)V" } : Jvm.MethodName)) ∈ lw_all := lw_g (lw_at lw_m6 37 rfl) rfl
theorem q1449 : (Jvm.Cond.code ({ cls := "ShareHouse$Words", name := "sum", desc := "([II[IIZII[II)V" } : Jvm.MethodName) prog_15_method_2_code (15 : Nat) (Option.none : Option Jvm.ClassFile.FieldType)) ∈ lw_all := lw_g (lw_at lw_m6 38 rfl) rfl
theorem q1450 : (Jvm.Cond.methodLink "ShareHouse$Words" (33 : Nat) ({ cls := "ShareHouse$Circuit", name := "xor", desc := "(II)I" } : Jvm.MethodName)) ∈ lw_all := lw_g (lw_at lw_m6 39 rfl) rfl
theorem q1463 : (Jvm.Cond.methodLink "ShareHouse$Words" (39 : Nat) ({ cls := "ShareHouse$Circuit", name := "and", desc := "(II)I" } : Jvm.MethodName)) ∈ lw_all := lw_g (lw_at lw_m6 52 rfl) rfl
theorem q1488 : (Jvm.Cond.instanceMethod ({ cls := "ShareHouse$Words", name := "product", desc := "([II[II[II)V" } : Jvm.MethodName)) ∈ lw_all := lw_g (lw_at lw_m6 77 rfl) rfl
theorem q1489 : (Jvm.Cond.selects "ShareHouse$Words" ({ cls := "ShareHouse$Words", name := "product", desc := "([II[II[II)V" } : Jvm.MethodName) ({ cls := "ShareHouse$Words", name := "product", desc := "([II[II[II)V" } : Jvm.MethodName)) ∈ lw_all := lw_g (lw_at lw_m6 78 rfl) rfl
theorem q1490 : (Jvm.Cond.code ({ cls := "ShareHouse$Words", name := "product", desc := "([II[II[II)V" } : Jvm.MethodName) prog_15_method_5_code (9 : Nat) (Option.none : Option Jvm.ClassFile.FieldType)) ∈ lw_all := lw_g (lw_at lw_m6 79 rfl) rfl
theorem q1491 : (Jvm.Cond.methodLink "ShareHouse$Words" (42 : Nat) ({ cls := "ShareHouse$Words", name := "sum", desc := "([II[IIZII[II)V" } : Jvm.MethodName)) ∈ lw_all := lw_g (lw_at lw_m6 80 rfl) rfl
theorem q1494 : (Jvm.Cond.instanceMethod ({ cls := "ShareHouse$Words", name := "quotient", desc := "([II[IIZ[II)V" } : Jvm.MethodName)) ∈ lw_all := lw_g (lw_at lw_m6 83 rfl) rfl
theorem q1495 : (Jvm.Cond.selects "ShareHouse$Words" ({ cls := "ShareHouse$Words", name := "quotient", desc := "([II[IIZ[II)V" } : Jvm.MethodName) ({ cls := "ShareHouse$Words", name := "quotient", desc := "([II[IIZ[II)V" } : Jvm.MethodName)) ∈ lw_all := lw_g (lw_at lw_m6 84 rfl) rfl
theorem q1496 : (Jvm.Cond.code ({ cls := "ShareHouse$Words", name := "quotient", desc := "([II[IIZ[II)V" } : Jvm.MethodName) prog_15_method_6_code (13 : Nat) (Option.none : Option Jvm.ClassFile.FieldType)) ∈ lw_all := lw_g (lw_at lw_m6 85 rfl) rfl
theorem q1497 : (Jvm.Cond.methodLink "ShareHouse$Words" (46 : Nat) ({ cls := "ShareHouse$Circuit", name := "mux", desc := "(III)I" } : Jvm.MethodName)) ∈ lw_all := lw_g (lw_at lw_m6 86 rfl) rfl
theorem q1527 : (Jvm.Cond.instanceMethod ({ cls := "ShareHouse$Words", name := "equal", desc := "([II[III)I" } : Jvm.MethodName)) ∈ lw_all := lw_g (lw_at lw_m6 116 rfl) rfl
theorem q1528 : (Jvm.Cond.selects "ShareHouse$Words" ({ cls := "ShareHouse$Words", name := "equal", desc := "([II[III)I" } : Jvm.MethodName) ({ cls := "ShareHouse$Words", name := "equal", desc := "([II[III)I" } : Jvm.MethodName)) ∈ lw_all := lw_g (lw_at lw_m6 117 rfl) rfl
theorem q1529 : (Jvm.Cond.code ({ cls := "ShareHouse$Words", name := "equal", desc := "([II[III)I" } : Jvm.MethodName) prog_15_method_3_code (9 : Nat) (Option.some Jvm.ClassFile.FieldType.int)) ∈ lw_all := lw_g (lw_at lw_m6 118 rfl) rfl
theorem q1531 : (Jvm.Cond.instanceMethod ({ cls := "ShareHouse$Words", name := "less", desc := "([II[II)I" } : Jvm.MethodName)) ∈ lw_all := lw_g (lw_at lw_m6 120 rfl) rfl
theorem q1532 : (Jvm.Cond.selects "ShareHouse$Words" ({ cls := "ShareHouse$Words", name := "less", desc := "([II[II)I" } : Jvm.MethodName) ({ cls := "ShareHouse$Words", name := "less", desc := "([II[II)I" } : Jvm.MethodName)) ∈ lw_all := lw_g (lw_at lw_m6 121 rfl) rfl
theorem q1533 : (Jvm.Cond.code ({ cls := "ShareHouse$Words", name := "less", desc := "([II[II)I" } : Jvm.MethodName) prog_15_method_4_code (10 : Nat) (Option.some Jvm.ClassFile.FieldType.int)) ∈ lw_all := lw_g (lw_at lw_m6 122 rfl) rfl
theorem in_X12 : ∀ w ∈ wsX120, w ∈ lw_all := lw_in wsX120 [593, 595, 597, 599, 601, 603, 605] (by decide +kernel) (by decide +kernel)
theorem q225 : (Jvm.Cond.initialized "ShareHouse$Plan") ∈ lw_all := lw_g (lw_at lw_m1 14 rfl) rfl
theorem q333 : (Jvm.Cond.fieldLinkNest "ShareHouse$Plan" (91 : Nat) "ShareHouse$Circuit" "levels" "[S" "ShareHouse") ∈ lw_tbl := lw_at lw_m1 122 rfl
theorem q336 : (Jvm.Cond.fieldLinkNest "ShareHouse$Plan" (95 : Nat) "ShareHouse$Circuit" "ands" "[Z" "ShareHouse") ∈ lw_tbl := lw_at lw_m1 125 rfl
theorem q340 : (Jvm.Cond.fieldLinkNest "ShareHouse$Plan" (89 : Nat) "ShareHouse$Circuit" "gates" "I" "ShareHouse") ∈ lw_tbl := lw_at lw_m1 129 rfl
theorem q349 : (Jvm.Cond.fieldLinkNest "ShareHouse$Plan" (84 : Nat) "ShareHouse$Circuit" "deepest" "I" "ShareHouse") ∈ lw_tbl := lw_at lw_m1 138 rfl
theorem q609 : (Jvm.Cond.fieldLinkNest "ShareHouse$Plan" (81 : Nat) "ShareHouse$Builder" "width" "I" "ShareHouse") ∈ lw_tbl := lw_at lw_m2 158 rfl
theorem q621 : (Jvm.Cond.fieldLinkNest "ShareHouse$Plan" (66 : Nat) "ShareHouse$Builder" "inputBits" "[I" "ShareHouse") ∈ lw_tbl := lw_at lw_m2 170 rfl
theorem q624 : (Jvm.Cond.fieldLinkNest "ShareHouse$Plan" (60 : Nat) "ShareHouse$Builder" "inputSizes" "[I" "ShareHouse") ∈ lw_tbl := lw_at lw_m2 173 rfl
theorem q627 : (Jvm.Cond.fieldLinkNest "ShareHouse$Plan" (63 : Nat) "ShareHouse$Builder" "inputParties" "[I" "ShareHouse") ∈ lw_tbl := lw_at lw_m2 176 rfl
theorem q630 : (Jvm.Cond.fieldLinkNest "ShareHouse$Plan" (55 : Nat) "ShareHouse$Builder" "inputWords" "I" "ShareHouse") ∈ lw_tbl := lw_at lw_m2 179 rfl
theorem q649 : (Jvm.Cond.fieldLinkNest "ShareHouse$Plan" (78 : Nat) "ShareHouse$Builder" "outputs" "[I" "ShareHouse") ∈ lw_tbl := lw_at lw_m2 198 rfl
theorem q652 : (Jvm.Cond.fieldLinkNest "ShareHouse$Plan" (75 : Nat) "ShareHouse$Builder" "outputSizes" "[I" "ShareHouse") ∈ lw_tbl := lw_at lw_m2 201 rfl
theorem q655 : (Jvm.Cond.fieldLinkNest "ShareHouse$Plan" (72 : Nat) "ShareHouse$Builder" "outputWords" "I" "ShareHouse") ∈ lw_tbl := lw_at lw_m2 204 rfl
theorem q734 : (Jvm.Cond.instantiable "ShareHouse$Plan" (13 : Nat)) ∈ lw_all := lw_g (lw_at lw_m3 43 rfl) rfl
theorem q736 : (Jvm.Cond.instanceMethod ({ cls := "ShareHouse$Plan", name := "<init>", desc := "(IILShareHouse$Circuit;LShareHouse$Builder;)V" } : Jvm.MethodName)) ∈ lw_all := lw_g (lw_at lw_m3 45 rfl) rfl
theorem q737 : (Jvm.Cond.code ({ cls := "ShareHouse$Plan", name := "<init>", desc := "(IILShareHouse$Circuit;LShareHouse$Builder;)V" } : Jvm.MethodName) prog_12_method_1_code (5 : Nat) (Option.none : Option Jvm.ClassFile.FieldType)) ∈ lw_all := lw_g (lw_at lw_m3 46 rfl) rfl
theorem q738 : (Jvm.Cond.methodLink "ShareHouse$Plan" (3 : Nat) ({ cls := "java/lang/Object", name := "<init>", desc := "()V" } : Jvm.MethodName)) ∈ lw_all := lw_g (lw_at lw_m3 47 rfl) rfl
theorem q739 : (Jvm.Cond.constant "ShareHouse$Plan" (9 : Nat) (40000 : Int32)) ∈ lw_all := lw_g (lw_at lw_m3 48 rfl) rfl
theorem q740 : (Jvm.Cond.fieldLink "ShareHouse$Plan" (35 : Nat) "ShareHouse$Plan" "circuit" "LShareHouse$Circuit;") ∈ lw_all := lw_g (lw_at lw_m3 49 rfl) rfl
theorem q742 : (Jvm.Cond.fieldLink "ShareHouse$Plan" (39 : Nat) "ShareHouse$Plan" "builder" "LShareHouse$Builder;") ∈ lw_all := lw_g (lw_at lw_m3 51 rfl) rfl
theorem q743 : (Jvm.Cond.fieldLink "ShareHouse$Plan" (31 : Nat) "ShareHouse$Plan" "parties" "I") ∈ lw_all := lw_g (lw_at lw_m3 52 rfl) rfl
theorem q745 : (Jvm.Cond.fieldLink "ShareHouse$Plan" (10 : Nat) "ShareHouse$Plan" "gates" "[I") ∈ lw_all := lw_g (lw_at lw_m3 54 rfl) rfl
theorem q747 : (Jvm.Cond.fieldLink "ShareHouse$Plan" (16 : Nat) "ShareHouse$Plan" "ands" "[I") ∈ lw_all := lw_g (lw_at lw_m3 56 rfl) rfl
theorem q749 : (Jvm.Cond.fieldLink "ShareHouse$Plan" (19 : Nat) "ShareHouse$Plan" "gateStarts" "[I") ∈ lw_all := lw_g (lw_at lw_m3 58 rfl) rfl
theorem q751 : (Jvm.Cond.fieldLink "ShareHouse$Plan" (22 : Nat) "ShareHouse$Plan" "andStarts" "[I") ∈ lw_all := lw_g (lw_at lw_m3 60 rfl) rfl
theorem q753 : (Jvm.Cond.fieldLink "ShareHouse$Plan" (25 : Nat) "ShareHouse$Plan" "gateAt" "[I") ∈ lw_all := lw_g (lw_at lw_m3 62 rfl) rfl
theorem q754 : (Jvm.Cond.fieldLink "ShareHouse$Plan" (28 : Nat) "ShareHouse$Plan" "andAt" "[I") ∈ lw_all := lw_g (lw_at lw_m3 63 rfl) rfl
theorem q755 : (Jvm.Cond.fieldLink "ShareHouse$Plan" (43 : Nat) "ShareHouse$Plan" "wires" "[I") ∈ lw_all := lw_g (lw_at lw_m3 64 rfl) rfl
theorem q756 : (Jvm.Cond.fieldLink "ShareHouse$Plan" (46 : Nat) "ShareHouse$Plan" "wireStarts" "[I") ∈ lw_all := lw_g (lw_at lw_m3 65 rfl) rfl
theorem q757 : (Jvm.Cond.fieldLink "ShareHouse$Plan" (49 : Nat) "ShareHouse$Plan" "outs" "[I") ∈ lw_all := lw_g (lw_at lw_m3 66 rfl) rfl
theorem q759 : (Jvm.Cond.fieldLink "ShareHouse$Plan" (69 : Nat) "ShareHouse$Plan" "outBits" "I") ∈ lw_all := lw_g (lw_at lw_m3 68 rfl) rfl
theorem q760 : (Jvm.Cond.laysFinal "ShareHouse$Plan" "ShareHouse$Plan" "circuit" "LShareHouse$Circuit;") ∈ lw_all := lw_g (lw_at lw_m3 69 rfl) rfl
theorem q761 : (Jvm.Cond.soleField "ShareHouse$Plan" "circuit") ∈ lw_all := lw_g (lw_at lw_m3 70 rfl) rfl
theorem q762 : (Jvm.Cond.laysFinal "ShareHouse$Plan" "ShareHouse$Plan" "builder" "LShareHouse$Builder;") ∈ lw_all := lw_g (lw_at lw_m3 71 rfl) rfl
theorem q763 : (Jvm.Cond.soleField "ShareHouse$Plan" "builder") ∈ lw_all := lw_g (lw_at lw_m3 72 rfl) rfl
theorem q764 : (Jvm.Cond.laysFinal "ShareHouse$Plan" "ShareHouse$Plan" "parties" "I") ∈ lw_all := lw_g (lw_at lw_m3 73 rfl) rfl
theorem q765 : (Jvm.Cond.soleField "ShareHouse$Plan" "parties") ∈ lw_all := lw_g (lw_at lw_m3 74 rfl) rfl
theorem q766 : (Jvm.Cond.laysFinal "ShareHouse$Plan" "ShareHouse$Plan" "gates" "[I") ∈ lw_all := lw_g (lw_at lw_m3 75 rfl) rfl
theorem q767 : (Jvm.Cond.soleField "ShareHouse$Plan" "gates") ∈ lw_all := lw_g (lw_at lw_m3 76 rfl) rfl
theorem q768 : (Jvm.Cond.laysFinal "ShareHouse$Plan" "ShareHouse$Plan" "ands" "[I") ∈ lw_all := lw_g (lw_at lw_m3 77 rfl) rfl
theorem q769 : (Jvm.Cond.soleField "ShareHouse$Plan" "ands") ∈ lw_all := lw_g (lw_at lw_m3 78 rfl) rfl
theorem q770 : (Jvm.Cond.laysFinal "ShareHouse$Plan" "ShareHouse$Plan" "gateStarts" "[I") ∈ lw_all := lw_g (lw_at lw_m3 79 rfl) rfl
theorem q771 : (Jvm.Cond.soleField "ShareHouse$Plan" "gateStarts") ∈ lw_all := lw_g (lw_at lw_m3 80 rfl) rfl
theorem q772 : (Jvm.Cond.laysFinal "ShareHouse$Plan" "ShareHouse$Plan" "andStarts" "[I") ∈ lw_all := lw_g (lw_at lw_m3 81 rfl) rfl
theorem q773 : (Jvm.Cond.soleField "ShareHouse$Plan" "andStarts") ∈ lw_all := lw_g (lw_at lw_m3 82 rfl) rfl
theorem q774 : (Jvm.Cond.laysFinal "ShareHouse$Plan" "ShareHouse$Plan" "gateAt" "[I") ∈ lw_all := lw_g (lw_at lw_m3 83 rfl) rfl
theorem q775 : (Jvm.Cond.soleField "ShareHouse$Plan" "gateAt") ∈ lw_all := lw_g (lw_at lw_m3 84 rfl) rfl
theorem q776 : (Jvm.Cond.laysFinal "ShareHouse$Plan" "ShareHouse$Plan" "andAt" "[I") ∈ lw_all := lw_g (lw_at lw_m3 85 rfl) rfl
theorem q777 : (Jvm.Cond.soleField "ShareHouse$Plan" "andAt") ∈ lw_all := lw_g (lw_at lw_m3 86 rfl) rfl
theorem q778 : (Jvm.Cond.laysFinal "ShareHouse$Plan" "ShareHouse$Plan" "wires" "[I") ∈ lw_all := lw_g (lw_at lw_m3 87 rfl) rfl
theorem q779 : (Jvm.Cond.soleField "ShareHouse$Plan" "wires") ∈ lw_all := lw_g (lw_at lw_m3 88 rfl) rfl
theorem q780 : (Jvm.Cond.laysFinal "ShareHouse$Plan" "ShareHouse$Plan" "wireStarts" "[I") ∈ lw_all := lw_g (lw_at lw_m3 89 rfl) rfl
theorem q781 : (Jvm.Cond.soleField "ShareHouse$Plan" "wireStarts") ∈ lw_all := lw_g (lw_at lw_m3 90 rfl) rfl
theorem q782 : (Jvm.Cond.laysFinal "ShareHouse$Plan" "ShareHouse$Plan" "outs" "[I") ∈ lw_all := lw_g (lw_at lw_m3 91 rfl) rfl
theorem q783 : (Jvm.Cond.soleField "ShareHouse$Plan" "outs") ∈ lw_all := lw_g (lw_at lw_m3 92 rfl) rfl
theorem q784 : (Jvm.Cond.lays "ShareHouse$Plan" "ShareHouse$Plan" "outBits" "I") ∈ lw_all := lw_g (lw_at lw_m3 93 rfl) rfl
theorem q785 : (Jvm.Cond.soleField "ShareHouse$Plan" "outBits") ∈ lw_all := lw_g (lw_at lw_m3 94 rfl) rfl
theorem q786 : (Jvm.Cond.superclass "ShareHouse$Plan" "java/lang/Object") ∈ lw_all := lw_g (lw_at lw_m3 95 rfl) rfl
theorem q1617 : (Jvm.Cond.instanceMethod ({ cls := "ShareHouse$Plan", name := "make", desc := "()V" } : Jvm.MethodName)) ∈ lw_all := lw_g (lw_at lw_m6 206 rfl) rfl
theorem q1618 : (Jvm.Cond.selects "ShareHouse$Plan" ({ cls := "ShareHouse$Plan", name := "make", desc := "()V" } : Jvm.MethodName) ({ cls := "ShareHouse$Plan", name := "make", desc := "()V" } : Jvm.MethodName)) ∈ lw_all := lw_g (lw_at lw_m6 207 rfl) rfl
theorem q1619 : (Jvm.Cond.code ({ cls := "ShareHouse$Plan", name := "make", desc := "()V" } : Jvm.MethodName) prog_12_method_2_code (5 : Nat) (Option.none : Option Jvm.ClassFile.FieldType)) ∈ lw_all := lw_g (lw_at lw_m6 208 rfl) rfl
theorem q1620 : (Jvm.Cond.methodLink "ShareHouse$Plan" (52 : Nat) ({ cls := "ShareHouse$Plan", name := "sort", desc := "()V" } : Jvm.MethodName)) ∈ lw_all := lw_g (lw_at lw_m6 209 rfl) rfl
theorem q1621 : (Jvm.Cond.privateMethod ({ cls := "ShareHouse$Plan", name := "sort", desc := "()V" } : Jvm.MethodName)) ∈ lw_tbl := lw_at lw_m6 210 rfl
theorem q1622 : (Jvm.Cond.instanceMethod ({ cls := "ShareHouse$Plan", name := "sort", desc := "()V" } : Jvm.MethodName)) ∈ lw_all := lw_g (lw_at lw_m6 211 rfl) rfl
theorem q1623 : (Jvm.Cond.code ({ cls := "ShareHouse$Plan", name := "sort", desc := "()V" } : Jvm.MethodName) prog_12_method_3_code (3 : Nat) (Option.none : Option Jvm.ClassFile.FieldType)) ∈ lw_all := lw_g (lw_at lw_m6 212 rfl) rfl
theorem q1717 : (Jvm.Cond.instanceMethod ({ cls := "ShareHouse$Plan", name := "length", desc := "(II)I" } : Jvm.MethodName)) ∈ lw_all := lw_g (lw_at lw_m7 66 rfl) rfl
theorem q1718 : (Jvm.Cond.selects "ShareHouse$Plan" ({ cls := "ShareHouse$Plan", name := "length", desc := "(II)I" } : Jvm.MethodName) ({ cls := "ShareHouse$Plan", name := "length", desc := "(II)I" } : Jvm.MethodName)) ∈ lw_all := lw_g (lw_at lw_m7 67 rfl) rfl
theorem q1719 : (Jvm.Cond.code ({ cls := "ShareHouse$Plan", name := "length", desc := "(II)I" } : Jvm.MethodName) prog_12_method_6_code (3 : Nat) (Option.some Jvm.ClassFile.FieldType.int)) ∈ lw_all := lw_g (lw_at lw_m7 68 rfl) rfl
theorem q1720 : (Jvm.Cond.methodLink "ShareHouse$Plan" (98 : Nat) ({ cls := "ShareHouse$Plan", name := "owned", desc := "(I)I" } : Jvm.MethodName)) ∈ lw_all := lw_g (lw_at lw_m7 69 rfl) rfl
theorem q1721 : (Jvm.Cond.instanceMethod ({ cls := "ShareHouse$Plan", name := "owned", desc := "(I)I" } : Jvm.MethodName)) ∈ lw_all := lw_g (lw_at lw_m7 70 rfl) rfl
theorem q1722 : (Jvm.Cond.selects "ShareHouse$Plan" ({ cls := "ShareHouse$Plan", name := "owned", desc := "(I)I" } : Jvm.MethodName) ({ cls := "ShareHouse$Plan", name := "owned", desc := "(I)I" } : Jvm.MethodName)) ∈ lw_all := lw_g (lw_at lw_m7 71 rfl) rfl
theorem q1723 : (Jvm.Cond.code ({ cls := "ShareHouse$Plan", name := "owned", desc := "(I)I" } : Jvm.MethodName) prog_12_method_4_code (2 : Nat) (Option.some Jvm.ClassFile.FieldType.int)) ∈ lw_all := lw_g (lw_at lw_m7 72 rfl) rfl
theorem q1729 : (Jvm.Cond.instanceMethod ({ cls := "ShareHouse$Plan", name := "wireOf", desc := "(II)I" } : Jvm.MethodName)) ∈ lw_all := lw_g (lw_at lw_m7 78 rfl) rfl
theorem q1730 : (Jvm.Cond.selects "ShareHouse$Plan" ({ cls := "ShareHouse$Plan", name := "wireOf", desc := "(II)I" } : Jvm.MethodName) ({ cls := "ShareHouse$Plan", name := "wireOf", desc := "(II)I" } : Jvm.MethodName)) ∈ lw_all := lw_g (lw_at lw_m7 79 rfl) rfl
theorem q1731 : (Jvm.Cond.code ({ cls := "ShareHouse$Plan", name := "wireOf", desc := "(II)I" } : Jvm.MethodName) prog_12_method_5_code (3 : Nat) (Option.some Jvm.ClassFile.FieldType.int)) ∈ lw_all := lw_g (lw_at lw_m7 80 rfl) rfl
theorem in_X13 : ∀ w ∈ wsX130, w ∈ lw_all := lw_in wsX130 [760, 762, 764, 766, 768, 770, 772, 774, 776, 778, 780, 782, 784] (by decide +kernel) (by decide +kernel)
theorem q226 : (Jvm.Cond.initialized "ShareHouse$Party") ∈ lw_all := lw_g (lw_at lw_m1 15 rfl) rfl
theorem q327 : (Jvm.Cond.fieldLinkNest "ShareHouse$Party" (89 : Nat) "ShareHouse$Circuit" "left" "[I" "ShareHouse") ∈ lw_tbl := lw_at lw_m1 116 rfl
theorem q330 : (Jvm.Cond.fieldLinkNest "ShareHouse$Party" (92 : Nat) "ShareHouse$Circuit" "right" "[I" "ShareHouse") ∈ lw_tbl := lw_at lw_m1 119 rfl
theorem q338 : (Jvm.Cond.fieldLinkNest "ShareHouse$Party" (125 : Nat) "ShareHouse$Circuit" "ands" "[Z" "ShareHouse") ∈ lw_tbl := lw_at lw_m1 127 rfl
theorem q344 : (Jvm.Cond.fieldLinkNest "ShareHouse$Party" (143 : Nat) "ShareHouse$Circuit" "many" "I" "ShareHouse") ∈ lw_tbl := lw_at lw_m1 133 rfl
theorem q347 : (Jvm.Cond.fieldLinkNest "ShareHouse$Party" (112 : Nat) "ShareHouse$Circuit" "inputs" "I" "ShareHouse") ∈ lw_tbl := lw_at lw_m1 136 rfl
theorem q350 : (Jvm.Cond.fieldLinkNest "ShareHouse$Party" (64 : Nat) "ShareHouse$Circuit" "deepest" "I" "ShareHouse") ∈ lw_tbl := lw_at lw_m1 139 rfl
theorem q741 : (Jvm.Cond.fieldLinkNest "ShareHouse$Party" (58 : Nat) "ShareHouse$Plan" "circuit" "LShareHouse$Circuit;" "ShareHouse") ∈ lw_tbl := lw_at lw_m3 50 rfl
theorem q744 : (Jvm.Cond.fieldLinkNest "ShareHouse$Party" (101 : Nat) "ShareHouse$Plan" "parties" "I" "ShareHouse") ∈ lw_tbl := lw_at lw_m3 53 rfl
theorem q746 : (Jvm.Cond.fieldLinkNest "ShareHouse$Party" (122 : Nat) "ShareHouse$Plan" "gates" "[I" "ShareHouse") ∈ lw_tbl := lw_at lw_m3 55 rfl
theorem q748 : (Jvm.Cond.fieldLinkNest "ShareHouse$Party" (83 : Nat) "ShareHouse$Plan" "ands" "[I" "ShareHouse") ∈ lw_tbl := lw_at lw_m3 57 rfl
theorem q750 : (Jvm.Cond.fieldLinkNest "ShareHouse$Party" (119 : Nat) "ShareHouse$Plan" "gateStarts" "[I" "ShareHouse") ∈ lw_tbl := lw_at lw_m3 59 rfl
theorem q752 : (Jvm.Cond.fieldLinkNest "ShareHouse$Party" (86 : Nat) "ShareHouse$Plan" "andStarts" "[I" "ShareHouse") ∈ lw_tbl := lw_at lw_m3 61 rfl
theorem q758 : (Jvm.Cond.fieldLinkNest "ShareHouse$Party" (77 : Nat) "ShareHouse$Plan" "outs" "[I" "ShareHouse") ∈ lw_tbl := lw_at lw_m3 67 rfl
theorem q789 : (Jvm.Cond.instantiable "ShareHouse$Party" (12 : Nat)) ∈ lw_all := lw_g (lw_at lw_m3 98 rfl) rfl
theorem q791 : (Jvm.Cond.instanceMethod ({ cls := "ShareHouse$Party", name := "<init>", desc := "(LShareHouse$Plan;I)V" } : Jvm.MethodName)) ∈ lw_all := lw_g (lw_at lw_m3 100 rfl) rfl
theorem q792 : (Jvm.Cond.code ({ cls := "ShareHouse$Party", name := "<init>", desc := "(LShareHouse$Plan;I)V" } : Jvm.MethodName) prog_11_method_1_code (3 : Nat) (Option.none : Option Jvm.ClassFile.FieldType)) ∈ lw_all := lw_g (lw_at lw_m3 101 rfl) rfl
theorem q793 : (Jvm.Cond.methodLink "ShareHouse$Party" (3 : Nat) ({ cls := "java/lang/Object", name := "<init>", desc := "()V" } : Jvm.MethodName)) ∈ lw_all := lw_g (lw_at lw_m3 102 rfl) rfl
theorem q794 : (Jvm.Cond.classLink "ShareHouse$Party" (9 : Nat) "ShareHouse$Bits") ∈ lw_all := lw_g (lw_at lw_m3 103 rfl) rfl
theorem q795 : (Jvm.Cond.constant "ShareHouse$Party" (11 : Nat) (48192 : Int32)) ∈ lw_all := lw_g (lw_at lw_m3 104 rfl) rfl
theorem q796 : (Jvm.Cond.methodLink "ShareHouse$Party" (12 : Nat) ({ cls := "ShareHouse$Bits", name := "<init>", desc := "(I)V" } : Jvm.MethodName)) ∈ lw_all := lw_g (lw_at lw_m3 105 rfl) rfl
theorem q797 : (Jvm.Cond.constant "ShareHouse$Party" (24 : Nat) (40000 : Int32)) ∈ lw_all := lw_g (lw_at lw_m3 106 rfl) rfl
theorem q798 : (Jvm.Cond.fieldLink "ShareHouse$Party" (38 : Nat) "ShareHouse$Party" "plan" "LShareHouse$Plan;") ∈ lw_all := lw_g (lw_at lw_m3 107 rfl) rfl
theorem q799 : (Jvm.Cond.fieldLink "ShareHouse$Party" (42 : Nat) "ShareHouse$Party" "number" "I") ∈ lw_all := lw_g (lw_at lw_m3 108 rfl) rfl
theorem q801 : (Jvm.Cond.fieldLink "ShareHouse$Party" (15 : Nat) "ShareHouse$Party" "shares" "LShareHouse$Bits;") ∈ lw_all := lw_g (lw_at lw_m3 110 rfl) rfl
theorem q803 : (Jvm.Cond.fieldLink "ShareHouse$Party" (21 : Nat) "ShareHouse$Party" "cut" "LShareHouse$Bits;") ∈ lw_all := lw_g (lw_at lw_m3 112 rfl) rfl
theorem q805 : (Jvm.Cond.fieldLink "ShareHouse$Party" (25 : Nat) "ShareHouse$Party" "a" "LShareHouse$Bits;") ∈ lw_all := lw_g (lw_at lw_m3 114 rfl) rfl
theorem q807 : (Jvm.Cond.fieldLink "ShareHouse$Party" (28 : Nat) "ShareHouse$Party" "b" "LShareHouse$Bits;") ∈ lw_all := lw_g (lw_at lw_m3 116 rfl) rfl
theorem q809 : (Jvm.Cond.fieldLink "ShareHouse$Party" (31 : Nat) "ShareHouse$Party" "c" "LShareHouse$Bits;") ∈ lw_all := lw_g (lw_at lw_m3 118 rfl) rfl
theorem q811 : (Jvm.Cond.fieldLink "ShareHouse$Party" (46 : Nat) "ShareHouse$Party" "at" "I") ∈ lw_all := lw_g (lw_at lw_m3 120 rfl) rfl
theorem q813 : (Jvm.Cond.fieldLink "ShareHouse$Party" (49 : Nat) "ShareHouse$Party" "came" "I") ∈ lw_all := lw_g (lw_at lw_m3 122 rfl) rfl
theorem q815 : (Jvm.Cond.fieldLink "ShareHouse$Party" (52 : Nat) "ShareHouse$Party" "now" "I") ∈ lw_all := lw_g (lw_at lw_m3 124 rfl) rfl
theorem q816 : (Jvm.Cond.fieldLink "ShareHouse$Party" (55 : Nat) "ShareHouse$Party" "next" "I") ∈ lw_all := lw_g (lw_at lw_m3 125 rfl) rfl
theorem q817 : (Jvm.Cond.fieldLink "ShareHouse$Party" (34 : Nat) "ShareHouse$Party" "log" "[I") ∈ lw_all := lw_g (lw_at lw_m3 126 rfl) rfl
theorem q818 : (Jvm.Cond.laysFinal "ShareHouse$Party" "ShareHouse$Party" "plan" "LShareHouse$Plan;") ∈ lw_all := lw_g (lw_at lw_m3 127 rfl) rfl
theorem q819 : (Jvm.Cond.soleField "ShareHouse$Party" "plan") ∈ lw_all := lw_g (lw_at lw_m3 128 rfl) rfl
theorem q820 : (Jvm.Cond.laysFinal "ShareHouse$Party" "ShareHouse$Party" "number" "I") ∈ lw_all := lw_g (lw_at lw_m3 129 rfl) rfl
theorem q821 : (Jvm.Cond.soleField "ShareHouse$Party" "number") ∈ lw_all := lw_g (lw_at lw_m3 130 rfl) rfl
theorem q822 : (Jvm.Cond.laysFinal "ShareHouse$Party" "ShareHouse$Party" "shares" "LShareHouse$Bits;") ∈ lw_all := lw_g (lw_at lw_m3 131 rfl) rfl
theorem q823 : (Jvm.Cond.soleField "ShareHouse$Party" "shares") ∈ lw_all := lw_g (lw_at lw_m3 132 rfl) rfl
theorem q824 : (Jvm.Cond.laysFinal "ShareHouse$Party" "ShareHouse$Party" "cut" "LShareHouse$Bits;") ∈ lw_all := lw_g (lw_at lw_m3 133 rfl) rfl
theorem q825 : (Jvm.Cond.soleField "ShareHouse$Party" "cut") ∈ lw_all := lw_g (lw_at lw_m3 134 rfl) rfl
theorem q826 : (Jvm.Cond.laysFinal "ShareHouse$Party" "ShareHouse$Party" "a" "LShareHouse$Bits;") ∈ lw_all := lw_g (lw_at lw_m3 135 rfl) rfl
theorem q827 : (Jvm.Cond.soleField "ShareHouse$Party" "a") ∈ lw_all := lw_g (lw_at lw_m3 136 rfl) rfl
theorem q828 : (Jvm.Cond.laysFinal "ShareHouse$Party" "ShareHouse$Party" "b" "LShareHouse$Bits;") ∈ lw_all := lw_g (lw_at lw_m3 137 rfl) rfl
theorem q829 : (Jvm.Cond.soleField "ShareHouse$Party" "b") ∈ lw_all := lw_g (lw_at lw_m3 138 rfl) rfl
theorem q830 : (Jvm.Cond.laysFinal "ShareHouse$Party" "ShareHouse$Party" "c" "LShareHouse$Bits;") ∈ lw_all := lw_g (lw_at lw_m3 139 rfl) rfl
theorem q831 : (Jvm.Cond.soleField "ShareHouse$Party" "c") ∈ lw_all := lw_g (lw_at lw_m3 140 rfl) rfl
theorem q832 : (Jvm.Cond.lays "ShareHouse$Party" "ShareHouse$Party" "at" "I") ∈ lw_all := lw_g (lw_at lw_m3 141 rfl) rfl
theorem q833 : (Jvm.Cond.soleField "ShareHouse$Party" "at") ∈ lw_all := lw_g (lw_at lw_m3 142 rfl) rfl
theorem q834 : (Jvm.Cond.lays "ShareHouse$Party" "ShareHouse$Party" "came" "I") ∈ lw_all := lw_g (lw_at lw_m3 143 rfl) rfl
theorem q835 : (Jvm.Cond.soleField "ShareHouse$Party" "came") ∈ lw_all := lw_g (lw_at lw_m3 144 rfl) rfl
theorem q836 : (Jvm.Cond.lays "ShareHouse$Party" "ShareHouse$Party" "now" "I") ∈ lw_all := lw_g (lw_at lw_m3 145 rfl) rfl
theorem q837 : (Jvm.Cond.soleField "ShareHouse$Party" "now") ∈ lw_all := lw_g (lw_at lw_m3 146 rfl) rfl
theorem q838 : (Jvm.Cond.lays "ShareHouse$Party" "ShareHouse$Party" "next" "I") ∈ lw_all := lw_g (lw_at lw_m3 147 rfl) rfl
theorem q839 : (Jvm.Cond.soleField "ShareHouse$Party" "next") ∈ lw_all := lw_g (lw_at lw_m3 148 rfl) rfl
theorem q840 : (Jvm.Cond.lays "ShareHouse$Party" "ShareHouse$Party" "log" "[I") ∈ lw_all := lw_g (lw_at lw_m3 149 rfl) rfl
theorem q841 : (Jvm.Cond.soleField "ShareHouse$Party" "log") ∈ lw_all := lw_g (lw_at lw_m3 150 rfl) rfl
theorem q842 : (Jvm.Cond.superclass "ShareHouse$Party" "java/lang/Object") ∈ lw_all := lw_g (lw_at lw_m3 151 rfl) rfl
theorem q1637 : (Jvm.Cond.privateMethod ({ cls := "ShareHouse$Party", name := "isDone", desc := "()Z" } : Jvm.MethodName)) ∈ lw_tbl := lw_at lw_m6 226 rfl
theorem q1638 : (Jvm.Cond.instanceMethod ({ cls := "ShareHouse$Party", name := "isDone", desc := "()Z" } : Jvm.MethodName)) ∈ lw_all := lw_g (lw_at lw_m6 227 rfl) rfl
theorem q1639 : (Jvm.Cond.code ({ cls := "ShareHouse$Party", name := "isDone", desc := "()Z" } : Jvm.MethodName) prog_11_method_3_code (1 : Nat) (Option.some Jvm.ClassFile.FieldType.boolean)) ∈ lw_all := lw_g (lw_at lw_m6 228 rfl) rfl
theorem q1705 : (Jvm.Cond.instanceMethod ({ cls := "ShareHouse$Party", name := "begin", desc := "()V" } : Jvm.MethodName)) ∈ lw_all := lw_g (lw_at lw_m7 54 rfl) rfl
theorem q1706 : (Jvm.Cond.selects "ShareHouse$Party" ({ cls := "ShareHouse$Party", name := "begin", desc := "()V" } : Jvm.MethodName) ({ cls := "ShareHouse$Party", name := "begin", desc := "()V" } : Jvm.MethodName)) ∈ lw_all := lw_g (lw_at lw_m7 55 rfl) rfl
theorem q1707 : (Jvm.Cond.code ({ cls := "ShareHouse$Party", name := "begin", desc := "()V" } : Jvm.MethodName) prog_11_method_2_code (1 : Nat) (Option.none : Option Jvm.ClassFile.FieldType)) ∈ lw_all := lw_g (lw_at lw_m7 56 rfl) rfl
theorem q1725 : (Jvm.Cond.instanceMethod ({ cls := "ShareHouse$Party", name := "bit", desc := "(LShareHouse$Party;II)I" } : Jvm.MethodName)) ∈ lw_all := lw_g (lw_at lw_m7 74 rfl) rfl
theorem q1726 : (Jvm.Cond.selects "ShareHouse$Party" ({ cls := "ShareHouse$Party", name := "bit", desc := "(LShareHouse$Party;II)I" } : Jvm.MethodName) ({ cls := "ShareHouse$Party", name := "bit", desc := "(LShareHouse$Party;II)I" } : Jvm.MethodName)) ∈ lw_all := lw_g (lw_at lw_m7 75 rfl) rfl
theorem q1727 : (Jvm.Cond.code ({ cls := "ShareHouse$Party", name := "bit", desc := "(LShareHouse$Party;II)I" } : Jvm.MethodName) prog_11_method_5_code (5 : Nat) (Option.some Jvm.ClassFile.FieldType.int)) ∈ lw_all := lw_g (lw_at lw_m7 76 rfl) rfl
theorem q1728 : (Jvm.Cond.methodLink "ShareHouse$Party" (73 : Nat) ({ cls := "ShareHouse$Plan", name := "wireOf", desc := "(II)I" } : Jvm.MethodName)) ∈ lw_all := lw_g (lw_at lw_m7 77 rfl) rfl
theorem q1732 : (Jvm.Cond.methodLink "ShareHouse$Party" (69 : Nat) ({ cls := "ShareHouse$Bits", name := "get", desc := "(I)I" } : Jvm.MethodName)) ∈ lw_all := lw_g (lw_at lw_m7 81 rfl) rfl
theorem q1733 : (Jvm.Cond.methodLink "ShareHouse$Party" (80 : Nat) ({ cls := "ShareHouse$Party", name := "shareOf", desc := "(I)I" } : Jvm.MethodName)) ∈ lw_all := lw_g (lw_at lw_m7 82 rfl) rfl
theorem q1734 : (Jvm.Cond.privateMethod ({ cls := "ShareHouse$Party", name := "shareOf", desc := "(I)I" } : Jvm.MethodName)) ∈ lw_tbl := lw_at lw_m7 83 rfl
theorem q1735 : (Jvm.Cond.instanceMethod ({ cls := "ShareHouse$Party", name := "shareOf", desc := "(I)I" } : Jvm.MethodName)) ∈ lw_all := lw_g (lw_at lw_m7 84 rfl) rfl
theorem q1736 : (Jvm.Cond.code ({ cls := "ShareHouse$Party", name := "shareOf", desc := "(I)I" } : Jvm.MethodName) prog_11_method_4_code (3 : Nat) (Option.some Jvm.ClassFile.FieldType.int)) ∈ lw_all := lw_g (lw_at lw_m7 85 rfl) rfl
theorem q1742 : (Jvm.Cond.instanceMethod ({ cls := "ShareHouse$Party", name := "take", desc := "(II)V" } : Jvm.MethodName)) ∈ lw_all := lw_g (lw_at lw_m7 91 rfl) rfl
theorem q1743 : (Jvm.Cond.selects "ShareHouse$Party" ({ cls := "ShareHouse$Party", name := "take", desc := "(II)V" } : Jvm.MethodName) ({ cls := "ShareHouse$Party", name := "take", desc := "(II)V" } : Jvm.MethodName)) ∈ lw_all := lw_g (lw_at lw_m7 92 rfl) rfl
theorem q1744 : (Jvm.Cond.code ({ cls := "ShareHouse$Party", name := "take", desc := "(II)V" } : Jvm.MethodName) prog_11_method_6_code (3 : Nat) (Option.none : Option Jvm.ClassFile.FieldType)) ∈ lw_all := lw_g (lw_at lw_m7 93 rfl) rfl
theorem q1745 : (Jvm.Cond.methodLink "ShareHouse$Party" (95 : Nat) ({ cls := "java/util/Arrays", name := "copyOf", desc := "([II)[I" } : Jvm.MethodName)) ∈ lw_all := lw_g (lw_at lw_m7 94 rfl) rfl
theorem q1758 : (Jvm.Cond.instanceMethod ({ cls := "ShareHouse$Party", name := "goes", desc := "([LShareHouse$Party;)Z" } : Jvm.MethodName)) ∈ lw_all := lw_g (lw_at lw_m7 107 rfl) rfl
theorem q1759 : (Jvm.Cond.selects "ShareHouse$Party" ({ cls := "ShareHouse$Party", name := "goes", desc := "([LShareHouse$Party;)Z" } : Jvm.MethodName) ({ cls := "ShareHouse$Party", name := "goes", desc := "([LShareHouse$Party;)Z" } : Jvm.MethodName)) ∈ lw_all := lw_g (lw_at lw_m7 108 rfl) rfl
theorem q1760 : (Jvm.Cond.code ({ cls := "ShareHouse$Party", name := "goes", desc := "([LShareHouse$Party;)Z" } : Jvm.MethodName) prog_11_method_7_code (3 : Nat) (Option.some Jvm.ClassFile.FieldType.boolean)) ∈ lw_all := lw_g (lw_at lw_m7 109 rfl) rfl
theorem q1761 : (Jvm.Cond.methodLink "ShareHouse$Party" (104 : Nat) ({ cls := "ShareHouse$Party", name := "isDone", desc := "()Z" } : Jvm.MethodName)) ∈ lw_all := lw_g (lw_at lw_m7 110 rfl) rfl
theorem q1762 : (Jvm.Cond.methodLink "ShareHouse$Party" (108 : Nat) ({ cls := "ShareHouse$Party", name := "learn", desc := "([LShareHouse$Party;)V" } : Jvm.MethodName)) ∈ lw_all := lw_g (lw_at lw_m7 111 rfl) rfl
theorem q1763 : (Jvm.Cond.privateMethod ({ cls := "ShareHouse$Party", name := "learn", desc := "([LShareHouse$Party;)V" } : Jvm.MethodName)) ∈ lw_tbl := lw_at lw_m7 112 rfl
theorem q1764 : (Jvm.Cond.instanceMethod ({ cls := "ShareHouse$Party", name := "learn", desc := "([LShareHouse$Party;)V" } : Jvm.MethodName)) ∈ lw_all := lw_g (lw_at lw_m7 113 rfl) rfl
theorem q1765 : (Jvm.Cond.code ({ cls := "ShareHouse$Party", name := "learn", desc := "([LShareHouse$Party;)V" } : Jvm.MethodName) prog_11_method_8_code (7 : Nat) (Option.none : Option Jvm.ClassFile.FieldType)) ∈ lw_all := lw_g (lw_at lw_m7 114 rfl) rfl
theorem q1766 : (Jvm.Cond.methodLink "ShareHouse$Party" (115 : Nat) ({ cls := "ShareHouse$Bits", name := "set", desc := "(II)V" } : Jvm.MethodName)) ∈ lw_all := lw_g (lw_at lw_m7 115 rfl) rfl
theorem q1767 : (Jvm.Cond.methodLink "ShareHouse$Party" (128 : Nat) ({ cls := "ShareHouse$Party", name := "product", desc := "([LShareHouse$Party;II)I" } : Jvm.MethodName)) ∈ lw_all := lw_g (lw_at lw_m7 116 rfl) rfl
theorem q1768 : (Jvm.Cond.privateMethod ({ cls := "ShareHouse$Party", name := "product", desc := "([LShareHouse$Party;II)I" } : Jvm.MethodName)) ∈ lw_tbl := lw_at lw_m7 117 rfl
theorem q1769 : (Jvm.Cond.instanceMethod ({ cls := "ShareHouse$Party", name := "product", desc := "([LShareHouse$Party;II)I" } : Jvm.MethodName)) ∈ lw_all := lw_g (lw_at lw_m7 118 rfl) rfl
theorem q1770 : (Jvm.Cond.code ({ cls := "ShareHouse$Party", name := "product", desc := "([LShareHouse$Party;II)I" } : Jvm.MethodName) prog_11_method_9_code (7 : Nat) (Option.some Jvm.ClassFile.FieldType.int)) ∈ lw_all := lw_g (lw_at lw_m7 119 rfl) rfl
theorem q1771 : (Jvm.Cond.methodLink "ShareHouse$Party" (132 : Nat) ({ cls := "ShareHouse$Party", name := "bit", desc := "(LShareHouse$Party;II)I" } : Jvm.MethodName)) ∈ lw_all := lw_g (lw_at lw_m7 120 rfl) rfl
theorem q1787 : (Jvm.Cond.instanceMethod ({ cls := "ShareHouse$Party", name := "viewSize", desc := "()I" } : Jvm.MethodName)) ∈ lw_all := lw_g (lw_at lw_m7 136 rfl) rfl
theorem q1788 : (Jvm.Cond.selects "ShareHouse$Party" ({ cls := "ShareHouse$Party", name := "viewSize", desc := "()I" } : Jvm.MethodName) ({ cls := "ShareHouse$Party", name := "viewSize", desc := "()I" } : Jvm.MethodName)) ∈ lw_all := lw_g (lw_at lw_m7 137 rfl) rfl
theorem q1789 : (Jvm.Cond.code ({ cls := "ShareHouse$Party", name := "viewSize", desc := "()I" } : Jvm.MethodName) prog_11_method_11_code (3 : Nat) (Option.some Jvm.ClassFile.FieldType.int)) ∈ lw_all := lw_g (lw_at lw_m7 138 rfl) rfl
theorem q1790 : (Jvm.Cond.methodLink "ShareHouse$Party" (139 : Nat) ({ cls := "ShareHouse$Party", name := "ownBits", desc := "()I" } : Jvm.MethodName)) ∈ lw_all := lw_g (lw_at lw_m7 139 rfl) rfl
theorem q1791 : (Jvm.Cond.privateMethod ({ cls := "ShareHouse$Party", name := "ownBits", desc := "()I" } : Jvm.MethodName)) ∈ lw_tbl := lw_at lw_m7 140 rfl
theorem q1792 : (Jvm.Cond.instanceMethod ({ cls := "ShareHouse$Party", name := "ownBits", desc := "()I" } : Jvm.MethodName)) ∈ lw_all := lw_g (lw_at lw_m7 141 rfl) rfl
theorem q1793 : (Jvm.Cond.code ({ cls := "ShareHouse$Party", name := "ownBits", desc := "()I" } : Jvm.MethodName) prog_11_method_10_code (1 : Nat) (Option.some Jvm.ClassFile.FieldType.int)) ∈ lw_all := lw_g (lw_at lw_m7 142 rfl) rfl
theorem q1794 : (Jvm.Cond.methodLink "ShareHouse$Party" (136 : Nat) ({ cls := "ShareHouse$Plan", name := "owned", desc := "(I)I" } : Jvm.MethodName)) ∈ lw_all := lw_g (lw_at lw_m7 143 rfl) rfl
theorem q1795 : (Jvm.Cond.methodLink "ShareHouse$Party" (146 : Nat) ({ cls := "ShareHouse$Plan", name := "length", desc := "(II)I" } : Jvm.MethodName)) ∈ lw_all := lw_g (lw_at lw_m7 144 rfl) rfl
theorem q1810 : (Jvm.Cond.instanceMethod ({ cls := "ShareHouse$Party", name := "view", desc := "([LShareHouse$Party;LShareHouse$Bits;I)I" } : Jvm.MethodName)) ∈ lw_all := lw_g (lw_at lw_m7 159 rfl) rfl
theorem q1811 : (Jvm.Cond.selects "ShareHouse$Party" ({ cls := "ShareHouse$Party", name := "view", desc := "([LShareHouse$Party;LShareHouse$Bits;I)I" } : Jvm.MethodName) ({ cls := "ShareHouse$Party", name := "view", desc := "([LShareHouse$Party;LShareHouse$Bits;I)I" } : Jvm.MethodName)) ∈ lw_all := lw_g (lw_at lw_m7 160 rfl) rfl
theorem q1812 : (Jvm.Cond.code ({ cls := "ShareHouse$Party", name := "view", desc := "([LShareHouse$Party;LShareHouse$Bits;I)I" } : Jvm.MethodName) prog_11_method_12_code (8 : Nat) (Option.some Jvm.ClassFile.FieldType.int)) ∈ lw_all := lw_g (lw_at lw_m7 161 rfl) rfl
theorem q1813 : (Jvm.Cond.methodLink "ShareHouse$Party" (149 : Nat) ({ cls := "ShareHouse$Party", name := "and", desc := "(I)I" } : Jvm.MethodName)) ∈ lw_all := lw_g (lw_at lw_m7 162 rfl) rfl
theorem q1814 : (Jvm.Cond.privateMethod ({ cls := "ShareHouse$Party", name := "and", desc := "(I)I" } : Jvm.MethodName)) ∈ lw_tbl := lw_at lw_m7 163 rfl
theorem q1815 : (Jvm.Cond.instanceMethod ({ cls := "ShareHouse$Party", name := "and", desc := "(I)I" } : Jvm.MethodName)) ∈ lw_all := lw_g (lw_at lw_m7 164 rfl) rfl
theorem q1816 : (Jvm.Cond.code ({ cls := "ShareHouse$Party", name := "and", desc := "(I)I" } : Jvm.MethodName) prog_11_method_13_code (4 : Nat) (Option.some Jvm.ClassFile.FieldType.int)) ∈ lw_all := lw_g (lw_at lw_m7 165 rfl) rfl
theorem in_X14 : ∀ w ∈ wsX140, w ∈ lw_all := lw_in wsX140 [818, 820, 822, 824, 826, 828, 830, 832, 834, 836, 838, 840] (by decide +kernel) (by decide +kernel)
theorem q227 : (Jvm.Cond.initialized "ShareHouseModel") ∈ lw_all := lw_g (lw_at lw_m1 16 rfl) rfl
theorem q1834 : (Jvm.Cond.instantiable "ShareHouseModel" (146 : Nat)) ∈ lw_all := lw_g (lw_at lw_m7 183 rfl) rfl
theorem q1836 : (Jvm.Cond.instanceMethod ({ cls := "ShareHouseModel", name := "<init>", desc := "(II)V" } : Jvm.MethodName)) ∈ lw_all := lw_g (lw_at lw_m7 185 rfl) rfl
theorem q1837 : (Jvm.Cond.code ({ cls := "ShareHouseModel", name := "<init>", desc := "(II)V" } : Jvm.MethodName) prog_17_method_1_code (3 : Nat) (Option.none : Option Jvm.ClassFile.FieldType)) ∈ lw_all := lw_g (lw_at lw_m7 186 rfl) rfl
theorem q1838 : (Jvm.Cond.methodLink "ShareHouseModel" (1 : Nat) ({ cls := "java/lang/Object", name := "<init>", desc := "()V" } : Jvm.MethodName)) ∈ lw_all := lw_g (lw_at lw_m7 187 rfl) rfl
theorem q1839 : (Jvm.Cond.constant "ShareHouseModel" (123 : Nat) (40000 : Int32)) ∈ lw_all := lw_g (lw_at lw_m7 188 rfl) rfl
theorem q1840 : (Jvm.Cond.constant "ShareHouseModel" (157 : Nat) (134400 : Int32)) ∈ lw_all := lw_g (lw_at lw_m7 189 rfl) rfl
theorem q1841 : (Jvm.Cond.constant "ShareHouseModel" (209 : Nat) (327680 : Int32)) ∈ lw_all := lw_g (lw_at lw_m7 190 rfl) rfl
theorem q1842 : (Jvm.Cond.constant "ShareHouseModel" (246 : Nat) (48192 : Int32)) ∈ lw_all := lw_g (lw_at lw_m7 191 rfl) rfl
theorem q1843 : (Jvm.Cond.constant "ShareHouseModel" (280 : Nat) (481000 : Int32)) ∈ lw_all := lw_g (lw_at lw_m7 192 rfl) rfl
theorem q1844 : (Jvm.Cond.fieldLink "ShareHouseModel" (299 : Nat) "ShareHouseModel" "n" "I") ∈ lw_all := lw_g (lw_at lw_m7 193 rfl) rfl
theorem q1845 : (Jvm.Cond.fieldLink "ShareHouseModel" (303 : Nat) "ShareHouseModel" "w" "I") ∈ lw_all := lw_g (lw_at lw_m7 194 rfl) rfl
theorem q1846 : (Jvm.Cond.fieldLink "ShareHouseModel" (306 : Nat) "ShareHouseModel" "mask" "J") ∈ lw_all := lw_g (lw_at lw_m7 195 rfl) rfl
theorem q1847 : (Jvm.Cond.fieldLink "ShareHouseModel" (7 : Nat) "ShareHouseModel" "ready" "[I") ∈ lw_all := lw_g (lw_at lw_m7 196 rfl) rfl
theorem q1848 : (Jvm.Cond.fieldLink "ShareHouseModel" (13 : Nat) "ShareHouseModel" "tape" "[I") ∈ lw_all := lw_g (lw_at lw_m7 197 rfl) rfl
theorem q1849 : (Jvm.Cond.fieldLink "ShareHouseModel" (320 : Nat) "ShareHouseModel" "taped" "I") ∈ lw_all := lw_g (lw_at lw_m7 198 rfl) rfl
theorem q1850 : (Jvm.Cond.fieldLink "ShareHouseModel" (326 : Nat) "ShareHouseModel" "at" "I") ∈ lw_all := lw_g (lw_at lw_m7 199 rfl) rfl
theorem q1851 : (Jvm.Cond.fieldLink "ShareHouseModel" (323 : Nat) "ShareHouseModel" "fault" "I") ∈ lw_all := lw_g (lw_at lw_m7 200 rfl) rfl
theorem q1852 : (Jvm.Cond.fieldLink "ShareHouseModel" (313 : Nat) "ShareHouseModel" "faultPlace" "I") ∈ lw_all := lw_g (lw_at lw_m7 201 rfl) rfl
theorem q1853 : (Jvm.Cond.fieldLink "ShareHouseModel" (393 : Nat) "ShareHouseModel" "names" "I") ∈ lw_all := lw_g (lw_at lw_m7 202 rfl) rfl
theorem q1854 : (Jvm.Cond.fieldLink "ShareHouseModel" (16 : Nat) "ShareHouseModel" "nameAt" "[I") ∈ lw_all := lw_g (lw_at lw_m7 203 rfl) rfl
theorem q1855 : (Jvm.Cond.fieldLink "ShareHouseModel" (19 : Nat) "ShareHouseModel" "nameSize" "[I") ∈ lw_all := lw_g (lw_at lw_m7 204 rfl) rfl
theorem q1856 : (Jvm.Cond.fieldLink "ShareHouseModel" (396 : Nat) "ShareHouseModel" "numberRead" "J") ∈ lw_all := lw_g (lw_at lw_m7 205 rfl) rfl
theorem q1857 : (Jvm.Cond.fieldLink "ShareHouseModel" (411 : Nat) "ShareHouseModel" "many" "I") ∈ lw_all := lw_g (lw_at lw_m7 206 rfl) rfl
theorem q1858 : (Jvm.Cond.fieldLink "ShareHouseModel" (22 : Nat) "ShareHouseModel" "kind" "[I") ∈ lw_all := lw_g (lw_at lw_m7 207 rfl) rfl
theorem q1859 : (Jvm.Cond.fieldLink "ShareHouseModel" (25 : Nat) "ShareHouseModel" "one" "[I") ∈ lw_all := lw_g (lw_at lw_m7 208 rfl) rfl
theorem q1860 : (Jvm.Cond.fieldLink "ShareHouseModel" (28 : Nat) "ShareHouseModel" "two" "[I") ∈ lw_all := lw_g (lw_at lw_m7 209 rfl) rfl
theorem q1861 : (Jvm.Cond.fieldLink "ShareHouseModel" (31 : Nat) "ShareHouseModel" "place" "[I") ∈ lw_all := lw_g (lw_at lw_m7 210 rfl) rfl
theorem q1862 : (Jvm.Cond.fieldLink "ShareHouseModel" (34 : Nat) "ShareHouseModel" "worth" "[J") ∈ lw_all := lw_g (lw_at lw_m7 211 rfl) rfl
theorem q1863 : (Jvm.Cond.fieldLink "ShareHouseModel" (414 : Nat) "ShareHouseModel" "deep" "I") ∈ lw_all := lw_g (lw_at lw_m7 212 rfl) rfl
theorem q1864 : (Jvm.Cond.fieldLink "ShareHouseModel" (417 : Nat) "ShareHouseModel" "waits" "I") ∈ lw_all := lw_g (lw_at lw_m7 213 rfl) rfl
theorem q1865 : (Jvm.Cond.fieldLink "ShareHouseModel" (38 : Nat) "ShareHouseModel" "wait" "[I") ∈ lw_all := lw_g (lw_at lw_m7 214 rfl) rfl
theorem q1866 : (Jvm.Cond.fieldLink "ShareHouseModel" (41 : Nat) "ShareHouseModel" "waitOne" "[I") ∈ lw_all := lw_g (lw_at lw_m7 215 rfl) rfl
theorem q1867 : (Jvm.Cond.fieldLink "ShareHouseModel" (44 : Nat) "ShareHouseModel" "waitPlace" "[I") ∈ lw_all := lw_g (lw_at lw_m7 216 rfl) rfl
theorem q1868 : (Jvm.Cond.fieldLink "ShareHouseModel" (47 : Nat) "ShareHouseModel" "waitMany" "[I") ∈ lw_all := lw_g (lw_at lw_m7 217 rfl) rfl
theorem q1869 : (Jvm.Cond.fieldLink "ShareHouseModel" (463 : Nat) "ShareHouseModel" "wantsNext" "Z") ∈ lw_all := lw_g (lw_at lw_m7 218 rfl) rfl
theorem q1870 : (Jvm.Cond.fieldLink "ShareHouseModel" (501 : Nat) "ShareHouseModel" "blocks" "I") ∈ lw_all := lw_g (lw_at lw_m7 219 rfl) rfl
theorem q1871 : (Jvm.Cond.fieldLink "ShareHouseModel" (50 : Nat) "ShareHouseModel" "blockOf" "[I") ∈ lw_all := lw_g (lw_at lw_m7 220 rfl) rfl
theorem q1872 : (Jvm.Cond.fieldLink "ShareHouseModel" (53 : Nat) "ShareHouseModel" "blockStep" "[I") ∈ lw_all := lw_g (lw_at lw_m7 221 rfl) rfl
theorem q1873 : (Jvm.Cond.fieldLink "ShareHouseModel" (488 : Nat) "ShareHouseModel" "inputWords" "I") ∈ lw_all := lw_g (lw_at lw_m7 222 rfl) rfl
theorem q1874 : (Jvm.Cond.fieldLink "ShareHouseModel" (493 : Nat) "ShareHouseModel" "varWords" "I") ∈ lw_all := lw_g (lw_at lw_m7 223 rfl) rfl
theorem q1875 : (Jvm.Cond.fieldLink "ShareHouseModel" (476 : Nat) "ShareHouseModel" "size" "I") ∈ lw_all := lw_g (lw_at lw_m7 224 rfl) rfl
theorem q1876 : (Jvm.Cond.fieldLink "ShareHouseModel" (470 : Nat) "ShareHouseModel" "sort" "I") ∈ lw_all := lw_g (lw_at lw_m7 225 rfl) rfl
theorem q1877 : (Jvm.Cond.fieldLink "ShareHouseModel" (56 : Nat) "ShareHouseModel" "offset" "[I") ∈ lw_all := lw_g (lw_at lw_m7 226 rfl) rfl
theorem q1878 : (Jvm.Cond.fieldLink "ShareHouseModel" (534 : Nat) "ShareHouseModel" "symbols" "I") ∈ lw_all := lw_g (lw_at lw_m7 227 rfl) rfl
theorem q1879 : (Jvm.Cond.fieldLink "ShareHouseModel" (59 : Nat) "ShareHouseModel" "symName" "[I") ∈ lw_all := lw_g (lw_at lw_m7 228 rfl) rfl
theorem q1880 : (Jvm.Cond.fieldLink "ShareHouseModel" (62 : Nat) "ShareHouseModel" "symKind" "[I") ∈ lw_all := lw_g (lw_at lw_m7 229 rfl) rfl
theorem q1881 : (Jvm.Cond.fieldLink "ShareHouseModel" (65 : Nat) "ShareHouseModel" "symSort" "[I") ∈ lw_all := lw_g (lw_at lw_m7 230 rfl) rfl
theorem q1882 : (Jvm.Cond.fieldLink "ShareHouseModel" (68 : Nat) "ShareHouseModel" "symSize" "[I") ∈ lw_all := lw_g (lw_at lw_m7 231 rfl) rfl
theorem q1883 : (Jvm.Cond.fieldLink "ShareHouseModel" (71 : Nat) "ShareHouseModel" "symAt" "[I") ∈ lw_all := lw_g (lw_at lw_m7 232 rfl) rfl
theorem q1884 : (Jvm.Cond.fieldLink "ShareHouseModel" (74 : Nat) "ShareHouseModel" "symSeen" "[Z") ∈ lw_all := lw_g (lw_at lw_m7 233 rfl) rfl
theorem q1885 : (Jvm.Cond.fieldLink "ShareHouseModel" (78 : Nat) "ShareHouseModel" "symParams" "[I") ∈ lw_all := lw_g (lw_at lw_m7 234 rfl) rfl
theorem q1886 : (Jvm.Cond.fieldLink "ShareHouseModel" (81 : Nat) "ShareHouseModel" "symMany" "[I") ∈ lw_all := lw_g (lw_at lw_m7 235 rfl) rfl
theorem q1887 : (Jvm.Cond.fieldLink "ShareHouseModel" (540 : Nat) "ShareHouseModel" "piled" "I") ∈ lw_all := lw_g (lw_at lw_m7 236 rfl) rfl
theorem q1888 : (Jvm.Cond.fieldLink "ShareHouseModel" (84 : Nat) "ShareHouseModel" "pileSort" "[I") ∈ lw_all := lw_g (lw_at lw_m7 237 rfl) rfl
theorem q1889 : (Jvm.Cond.fieldLink "ShareHouseModel" (87 : Nat) "ShareHouseModel" "pileFrom" "[I") ∈ lw_all := lw_g (lw_at lw_m7 238 rfl) rfl
theorem q1890 : (Jvm.Cond.fieldLink "ShareHouseModel" (90 : Nat) "ShareHouseModel" "pilePublic" "[Z") ∈ lw_all := lw_g (lw_at lw_m7 239 rfl) rfl
theorem q1891 : (Jvm.Cond.fieldLink "ShareHouseModel" (537 : Nat) "ShareHouseModel" "inDef" "Z") ∈ lw_all := lw_g (lw_at lw_m8 0 rfl) rfl
theorem q1892 : (Jvm.Cond.fieldLink "ShareHouseModel" (93 : Nat) "ShareHouseModel" "scopeStart" "[I") ∈ lw_all := lw_g (lw_at lw_m8 1 rfl) rfl
theorem q1893 : (Jvm.Cond.fieldLink "ShareHouseModel" (546 : Nat) "ShareHouseModel" "scopes" "I") ∈ lw_all := lw_g (lw_at lw_m8 2 rfl) rfl
theorem q1894 : (Jvm.Cond.fieldLink "ShareHouseModel" (96 : Nat) "ShareHouseModel" "refKind" "[I") ∈ lw_all := lw_g (lw_at lw_m8 3 rfl) rfl
theorem q1895 : (Jvm.Cond.fieldLink "ShareHouseModel" (99 : Nat) "ShareHouseModel" "refAt" "[I") ∈ lw_all := lw_g (lw_at lw_m8 4 rfl) rfl
theorem q1896 : (Jvm.Cond.fieldLink "ShareHouseModel" (102 : Nat) "ShareHouseModel" "refSize" "[I") ∈ lw_all := lw_g (lw_at lw_m8 5 rfl) rfl
theorem q1897 : (Jvm.Cond.fieldLink "ShareHouseModel" (105 : Nat) "ShareHouseModel" "refSort" "[I") ∈ lw_all := lw_g (lw_at lw_m8 6 rfl) rfl
theorem q1898 : (Jvm.Cond.fieldLink "ShareHouseModel" (108 : Nat) "ShareHouseModel" "asked" "[I") ∈ lw_all := lw_g (lw_at lw_m8 7 rfl) rfl
theorem q1899 : (Jvm.Cond.fieldLink "ShareHouseModel" (111 : Nat) "ShareHouseModel" "isPublicAt" "[Z") ∈ lw_all := lw_g (lw_at lw_m8 8 rfl) rfl
theorem q1900 : (Jvm.Cond.fieldLink "ShareHouseModel" (549 : Nat) "ShareHouseModel" "calls" "I") ∈ lw_all := lw_g (lw_at lw_m8 9 rfl) rfl
theorem q1901 : (Jvm.Cond.fieldLink "ShareHouseModel" (114 : Nat) "ShareHouseModel" "callSymbol" "[I") ∈ lw_all := lw_g (lw_at lw_m8 10 rfl) rfl
theorem q1902 : (Jvm.Cond.fieldLink "ShareHouseModel" (117 : Nat) "ShareHouseModel" "callMany" "[I") ∈ lw_all := lw_g (lw_at lw_m8 11 rfl) rfl
theorem q1903 : (Jvm.Cond.fieldLink "ShareHouseModel" (555 : Nat) "ShareHouseModel" "inputOffset" "I") ∈ lw_all := lw_g (lw_at lw_m8 12 rfl) rfl
theorem q1904 : (Jvm.Cond.fieldLink "ShareHouseModel" (552 : Nat) "ShareHouseModel" "params" "I") ∈ lw_all := lw_g (lw_at lw_m8 13 rfl) rfl
theorem q1905 : (Jvm.Cond.fieldLink "ShareHouseModel" (595 : Nat) "ShareHouseModel" "defParams" "I") ∈ lw_all := lw_g (lw_at lw_m8 14 rfl) rfl
theorem q1906 : (Jvm.Cond.fieldLink "ShareHouseModel" (598 : Nat) "ShareHouseModel" "defFirst" "I") ∈ lw_all := lw_g (lw_at lw_m8 15 rfl) rfl
theorem q1907 : (Jvm.Cond.fieldLink "ShareHouseModel" (601 : Nat) "ShareHouseModel" "defStep" "I") ∈ lw_all := lw_g (lw_at lw_m8 16 rfl) rfl
theorem q1908 : (Jvm.Cond.fieldLink "ShareHouseModel" (120 : Nat) "ShareHouseModel" "paramSort" "[I") ∈ lw_all := lw_g (lw_at lw_m8 17 rfl) rfl
theorem q1909 : (Jvm.Cond.fieldLink "ShareHouseModel" (618 : Nat) "ShareHouseModel" "inputBits" "I") ∈ lw_all := lw_g (lw_at lw_m8 18 rfl) rfl
theorem q1910 : (Jvm.Cond.fieldLink "ShareHouseModel" (624 : Nat) "ShareHouseModel" "gates" "I") ∈ lw_all := lw_g (lw_at lw_m8 19 rfl) rfl
theorem q1911 : (Jvm.Cond.fieldLink "ShareHouseModel" (630 : Nat) "ShareHouseModel" "ands" "I") ∈ lw_all := lw_g (lw_at lw_m8 20 rfl) rfl
theorem q1912 : (Jvm.Cond.fieldLink "ShareHouseModel" (633 : Nat) "ShareHouseModel" "deepest" "I") ∈ lw_all := lw_g (lw_at lw_m8 21 rfl) rfl
theorem q1913 : (Jvm.Cond.fieldLink "ShareHouseModel" (672 : Nat) "ShareHouseModel" "outputs" "I") ∈ lw_all := lw_g (lw_at lw_m8 22 rfl) rfl
theorem q1914 : (Jvm.Cond.fieldLink "ShareHouseModel" (659 : Nat) "ShareHouseModel" "steps" "I") ∈ lw_all := lw_g (lw_at lw_m8 23 rfl) rfl
theorem q1915 : (Jvm.Cond.fieldLink "ShareHouseModel" (124 : Nat) "ShareHouseModel" "isAnd" "[I") ∈ lw_all := lw_g (lw_at lw_m8 24 rfl) rfl
theorem q1916 : (Jvm.Cond.fieldLink "ShareHouseModel" (127 : Nat) "ShareHouseModel" "level" "[I") ∈ lw_all := lw_g (lw_at lw_m8 25 rfl) rfl
theorem q1917 : (Jvm.Cond.fieldLink "ShareHouseModel" (130 : Nat) "ShareHouseModel" "left" "[I") ∈ lw_all := lw_g (lw_at lw_m8 26 rfl) rfl
theorem q1918 : (Jvm.Cond.fieldLink "ShareHouseModel" (133 : Nat) "ShareHouseModel" "right" "[I") ∈ lw_all := lw_g (lw_at lw_m8 27 rfl) rfl
theorem q1919 : (Jvm.Cond.fieldLink "ShareHouseModel" (663 : Nat) "ShareHouseModel" "inputs" "I") ∈ lw_all := lw_g (lw_at lw_m8 28 rfl) rfl
theorem q1920 : (Jvm.Cond.fieldLink "ShareHouseModel" (136 : Nat) "ShareHouseModel" "inParty" "[I") ∈ lw_all := lw_g (lw_at lw_m8 29 rfl) rfl
theorem q1921 : (Jvm.Cond.fieldLink "ShareHouseModel" (139 : Nat) "ShareHouseModel" "inBits" "[I") ∈ lw_all := lw_g (lw_at lw_m8 30 rfl) rfl
theorem q1922 : (Jvm.Cond.fieldLink "ShareHouseModel" (142 : Nat) "ShareHouseModel" "inWire" "[I") ∈ lw_all := lw_g (lw_at lw_m8 31 rfl) rfl
theorem q1923 : (Jvm.Cond.fieldLink "ShareHouseModel" (145 : Nat) "ShareHouseModel" "inValue" "[J") ∈ lw_all := lw_g (lw_at lw_m8 32 rfl) rfl
theorem q1924 : (Jvm.Cond.fieldLink "ShareHouseModel" (148 : Nat) "ShareHouseModel" "dealtValue" "[J") ∈ lw_all := lw_g (lw_at lw_m8 33 rfl) rfl
theorem q1925 : (Jvm.Cond.fieldLink "ShareHouseModel" (151 : Nat) "ShareHouseModel" "outBits" "[I") ∈ lw_all := lw_g (lw_at lw_m8 34 rfl) rfl
theorem q1926 : (Jvm.Cond.fieldLink "ShareHouseModel" (154 : Nat) "ShareHouseModel" "outLiteral" "[I") ∈ lw_all := lw_g (lw_at lw_m8 35 rfl) rfl
theorem q1927 : (Jvm.Cond.fieldLink "ShareHouseModel" (848 : Nat) "ShareHouseModel" "circuit" "Z") ∈ lw_all := lw_g (lw_at lw_m8 36 rfl) rfl
theorem q1928 : (Jvm.Cond.fieldLink "ShareHouseModel" (158 : Nat) "ShareHouseModel" "bits" "[I") ∈ lw_all := lw_g (lw_at lw_m8 37 rfl) rfl
theorem q1929 : (Jvm.Cond.fieldLink "ShareHouseModel" (649 : Nat) "ShareHouseModel" "top" "I") ∈ lw_all := lw_g (lw_at lw_m8 38 rfl) rfl
theorem q1930 : (Jvm.Cond.fieldLink "ShareHouseModel" (161 : Nat) "ShareHouseModel" "x" "[I") ∈ lw_all := lw_g (lw_at lw_m8 39 rfl) rfl
theorem q1931 : (Jvm.Cond.fieldLink "ShareHouseModel" (164 : Nat) "ShareHouseModel" "y" "[I") ∈ lw_all := lw_g (lw_at lw_m8 40 rfl) rfl
theorem q1932 : (Jvm.Cond.fieldLink "ShareHouseModel" (167 : Nat) "ShareHouseModel" "z" "[I") ∈ lw_all := lw_g (lw_at lw_m8 41 rfl) rfl
theorem q1933 : (Jvm.Cond.fieldLink "ShareHouseModel" (170 : Nat) "ShareHouseModel" "\x72" "[I") ∈ lw_all := lw_g (lw_at lw_m8 42 rfl) rfl
theorem q1934 : (Jvm.Cond.fieldLink "ShareHouseModel" (173 : Nat) "ShareHouseModel" "q" "[I") ∈ lw_all := lw_g (lw_at lw_m8 43 rfl) rfl
theorem q1935 : (Jvm.Cond.fieldLink "ShareHouseModel" (176 : Nat) "ShareHouseModel" "product" "[I") ∈ lw_all := lw_g (lw_at lw_m8 44 rfl) rfl
theorem q1936 : (Jvm.Cond.fieldLink "ShareHouseModel" (179 : Nat) "ShareHouseModel" "rest" "[I") ∈ lw_all := lw_g (lw_at lw_m8 45 rfl) rfl
theorem q1937 : (Jvm.Cond.fieldLink "ShareHouseModel" (182 : Nat) "ShareHouseModel" "quotient" "[I") ∈ lw_all := lw_g (lw_at lw_m8 46 rfl) rfl
theorem q1938 : (Jvm.Cond.fieldLink "ShareHouseModel" (621 : Nat) "ShareHouseModel" "doing" "I") ∈ lw_all := lw_g (lw_at lw_m8 47 rfl) rfl
theorem q1939 : (Jvm.Cond.fieldLink "ShareHouseModel" (185 : Nat) "ShareHouseModel" "doingPlace" "[I") ∈ lw_all := lw_g (lw_at lw_m8 48 rfl) rfl
theorem q1940 : (Jvm.Cond.fieldLink "ShareHouseModel" (188 : Nat) "ShareHouseModel" "varLiteral" "[I") ∈ lw_all := lw_g (lw_at lw_m8 49 rfl) rfl
theorem q1941 : (Jvm.Cond.fieldLink "ShareHouseModel" (675 : Nat) "ShareHouseModel" "alives" "I") ∈ lw_all := lw_g (lw_at lw_m8 50 rfl) rfl
theorem q1942 : (Jvm.Cond.fieldLink "ShareHouseModel" (191 : Nat) "ShareHouseModel" "aliveAt" "[I") ∈ lw_all := lw_g (lw_at lw_m8 51 rfl) rfl
theorem q1943 : (Jvm.Cond.fieldLink "ShareHouseModel" (194 : Nat) "ShareHouseModel" "aliveWords" "[I") ∈ lw_all := lw_g (lw_at lw_m8 52 rfl) rfl
theorem q1944 : (Jvm.Cond.fieldLink "ShareHouseModel" (197 : Nat) "ShareHouseModel" "aliveBits" "[I") ∈ lw_all := lw_g (lw_at lw_m8 53 rfl) rfl
theorem q1945 : (Jvm.Cond.fieldLink "ShareHouseModel" (678 : Nat) "ShareHouseModel" "ifs" "I") ∈ lw_all := lw_g (lw_at lw_m8 54 rfl) rfl
theorem q1946 : (Jvm.Cond.fieldLink "ShareHouseModel" (200 : Nat) "ShareHouseModel" "ifLiteral" "[I") ∈ lw_all := lw_g (lw_at lw_m8 55 rfl) rfl
theorem q1947 : (Jvm.Cond.fieldLink "ShareHouseModel" (203 : Nat) "ShareHouseModel" "ifAlive" "[I") ∈ lw_all := lw_g (lw_at lw_m8 56 rfl) rfl
theorem q1948 : (Jvm.Cond.fieldLink "ShareHouseModel" (206 : Nat) "ShareHouseModel" "ifElse" "[Z") ∈ lw_all := lw_g (lw_at lw_m8 57 rfl) rfl
theorem q1949 : (Jvm.Cond.fieldLink "ShareHouseModel" (210 : Nat) "ShareHouseModel" "before" "[I") ∈ lw_all := lw_g (lw_at lw_m8 58 rfl) rfl
theorem q1950 : (Jvm.Cond.fieldLink "ShareHouseModel" (213 : Nat) "ShareHouseModel" "after" "[I") ∈ lw_all := lw_g (lw_at lw_m8 59 rfl) rfl
theorem q1951 : (Jvm.Cond.fieldLink "ShareHouseModel" (216 : Nat) "ShareHouseModel" "loopNow" "[J") ∈ lw_all := lw_g (lw_at lw_m8 60 rfl) rfl
theorem q1952 : (Jvm.Cond.fieldLink "ShareHouseModel" (219 : Nat) "ShareHouseModel" "loopEnd" "[J") ∈ lw_all := lw_g (lw_at lw_m8 61 rfl) rfl
theorem q1953 : (Jvm.Cond.fieldLink "ShareHouseModel" (222 : Nat) "ShareHouseModel" "loopAlive" "[I") ∈ lw_all := lw_g (lw_at lw_m8 62 rfl) rfl
theorem q1954 : (Jvm.Cond.fieldLink "ShareHouseModel" (681 : Nat) "ShareHouseModel" "frames" "I") ∈ lw_all := lw_g (lw_at lw_m8 63 rfl) rfl
theorem q1955 : (Jvm.Cond.fieldLink "ShareHouseModel" (225 : Nat) "ShareHouseModel" "frameBase" "[I") ∈ lw_all := lw_g (lw_at lw_m8 64 rfl) rfl
theorem q1956 : (Jvm.Cond.fieldLink "ShareHouseModel" (228 : Nat) "ShareHouseModel" "frameBack" "[I") ∈ lw_all := lw_g (lw_at lw_m8 65 rfl) rfl
theorem q1957 : (Jvm.Cond.fieldLink "ShareHouseModel" (231 : Nat) "ShareHouseModel" "index" "[I") ∈ lw_all := lw_g (lw_at lw_m8 66 rfl) rfl
theorem q1958 : (Jvm.Cond.fieldLink "ShareHouseModel" (234 : Nat) "ShareHouseModel" "pileWord" "[J") ∈ lw_all := lw_g (lw_at lw_m8 67 rfl) rfl
theorem q1959 : (Jvm.Cond.fieldLink "ShareHouseModel" (765 : Nat) "ShareHouseModel" "meant" "I") ∈ lw_all := lw_g (lw_at lw_m8 68 rfl) rfl
theorem q1960 : (Jvm.Cond.fieldLink "ShareHouseModel" (237 : Nat) "ShareHouseModel" "varWord" "[J") ∈ lw_all := lw_g (lw_at lw_m8 69 rfl) rfl
theorem q1961 : (Jvm.Cond.fieldLink "ShareHouseModel" (240 : Nat) "ShareHouseModel" "outWord" "[J") ∈ lw_all := lw_g (lw_at lw_m8 70 rfl) rfl
theorem q1962 : (Jvm.Cond.fieldLink "ShareHouseModel" (768 : Nat) "ShareHouseModel" "outs" "I") ∈ lw_all := lw_g (lw_at lw_m8 71 rfl) rfl
theorem q1963 : (Jvm.Cond.fieldLink "ShareHouseModel" (777 : Nat) "ShareHouseModel" "meantNow" "Z") ∈ lw_all := lw_g (lw_at lw_m8 72 rfl) rfl
theorem q1964 : (Jvm.Cond.fieldLink "ShareHouseModel" (310 : Nat) "ShareHouseModel" "seedNow" "I") ∈ lw_all := lw_g (lw_at lw_m8 73 rfl) rfl
theorem q1965 : (Jvm.Cond.fieldLink "ShareHouseModel" (797 : Nat) "ShareHouseModel" "drawsWait" "I") ∈ lw_all := lw_g (lw_at lw_m8 74 rfl) rfl
theorem q1966 : (Jvm.Cond.fieldLink "ShareHouseModel" (800 : Nat) "ShareHouseModel" "drawFirst" "I") ∈ lw_all := lw_g (lw_at lw_m8 75 rfl) rfl
theorem q1967 : (Jvm.Cond.fieldLink "ShareHouseModel" (243 : Nat) "ShareHouseModel" "told0" "[I") ∈ lw_all := lw_g (lw_at lw_m8 76 rfl) rfl
theorem q1968 : (Jvm.Cond.fieldLink "ShareHouseModel" (762 : Nat) "ShareHouseModel" "dealt" "Z") ∈ lw_all := lw_g (lw_at lw_m8 77 rfl) rfl
theorem q1969 : (Jvm.Cond.fieldLink "ShareHouseModel" (247 : Nat) "ShareHouseModel" "shares" "[I") ∈ lw_all := lw_g (lw_at lw_m8 78 rfl) rfl
theorem q1970 : (Jvm.Cond.fieldLink "ShareHouseModel" (250 : Nat) "ShareHouseModel" "tripleA" "[I") ∈ lw_all := lw_g (lw_at lw_m8 79 rfl) rfl
theorem q1971 : (Jvm.Cond.fieldLink "ShareHouseModel" (253 : Nat) "ShareHouseModel" "tripleB" "[I") ∈ lw_all := lw_g (lw_at lw_m8 80 rfl) rfl
theorem q1972 : (Jvm.Cond.fieldLink "ShareHouseModel" (256 : Nat) "ShareHouseModel" "tripleC" "[I") ∈ lw_all := lw_g (lw_at lw_m8 81 rfl) rfl
theorem q1973 : (Jvm.Cond.fieldLink "ShareHouseModel" (259 : Nat) "ShareHouseModel" "levelFrom" "[I") ∈ lw_all := lw_g (lw_at lw_m8 82 rfl) rfl
theorem q1974 : (Jvm.Cond.fieldLink "ShareHouseModel" (262 : Nat) "ShareHouseModel" "byLevel" "[I") ∈ lw_all := lw_g (lw_at lw_m8 83 rfl) rfl
theorem q1975 : (Jvm.Cond.fieldLink "ShareHouseModel" (821 : Nat) "ShareHouseModel" "sentOf" "I") ∈ lw_all := lw_g (lw_at lw_m8 84 rfl) rfl
theorem q1976 : (Jvm.Cond.fieldLink "ShareHouseModel" (265 : Nat) "ShareHouseModel" "round" "[I") ∈ lw_all := lw_g (lw_at lw_m8 85 rfl) rfl
theorem q1977 : (Jvm.Cond.fieldLink "ShareHouseModel" (268 : Nat) "ShareHouseModel" "gotNow" "[I") ∈ lw_all := lw_g (lw_at lw_m8 86 rfl) rfl
theorem q1978 : (Jvm.Cond.fieldLink "ShareHouseModel" (271 : Nat) "ShareHouseModel" "gotNext" "[I") ∈ lw_all := lw_g (lw_at lw_m8 87 rfl) rfl
theorem q1979 : (Jvm.Cond.fieldLink "ShareHouseModel" (274 : Nat) "ShareHouseModel" "came" "[I") ∈ lw_all := lw_g (lw_at lw_m8 88 rfl) rfl
theorem q1980 : (Jvm.Cond.fieldLink "ShareHouseModel" (277 : Nat) "ShareHouseModel" "cameBits" "[I") ∈ lw_all := lw_g (lw_at lw_m8 89 rfl) rfl
theorem q1981 : (Jvm.Cond.fieldLink "ShareHouseModel" (281 : Nat) "ShareHouseModel" "cameFrom" "[I") ∈ lw_all := lw_g (lw_at lw_m8 90 rfl) rfl
theorem q1982 : (Jvm.Cond.fieldLink "ShareHouseModel" (284 : Nat) "ShareHouseModel" "cameRound" "[I") ∈ lw_all := lw_g (lw_at lw_m8 91 rfl) rfl
theorem q1983 : (Jvm.Cond.fieldLink "ShareHouseModel" (818 : Nat) "ShareHouseModel" "flying" "I") ∈ lw_all := lw_g (lw_at lw_m8 92 rfl) rfl
theorem q1984 : (Jvm.Cond.fieldLink "ShareHouseModel" (830 : Nat) "ShareHouseModel" "delivered" "I") ∈ lw_all := lw_g (lw_at lw_m8 93 rfl) rfl
theorem q1985 : (Jvm.Cond.fieldLink "ShareHouseModel" (287 : Nat) "ShareHouseModel" "flyFrom" "[I") ∈ lw_all := lw_g (lw_at lw_m8 94 rfl) rfl
theorem q1986 : (Jvm.Cond.fieldLink "ShareHouseModel" (290 : Nat) "ShareHouseModel" "flyTo" "[I") ∈ lw_all := lw_g (lw_at lw_m8 95 rfl) rfl
theorem q1987 : (Jvm.Cond.fieldLink "ShareHouseModel" (293 : Nat) "ShareHouseModel" "flyRound" "[I") ∈ lw_all := lw_g (lw_at lw_m8 96 rfl) rfl
theorem q1988 : (Jvm.Cond.fieldLink "ShareHouseModel" (296 : Nat) "ShareHouseModel" "ownBits" "[I") ∈ lw_all := lw_g (lw_at lw_m8 97 rfl) rfl
theorem q1989 : (Jvm.Cond.fieldLink "ShareHouseModel" (824 : Nat) "ShareHouseModel" "outputBits" "I") ∈ lw_all := lw_g (lw_at lw_m8 98 rfl) rfl
theorem q1990 : (Jvm.Cond.laysFinal "ShareHouseModel" "ShareHouseModel" "n" "I") ∈ lw_all := lw_g (lw_at lw_m8 99 rfl) rfl
theorem q1991 : (Jvm.Cond.soleField "ShareHouseModel" "n") ∈ lw_all := lw_g (lw_at lw_m8 100 rfl) rfl
theorem q1992 : (Jvm.Cond.laysFinal "ShareHouseModel" "ShareHouseModel" "w" "I") ∈ lw_all := lw_g (lw_at lw_m8 101 rfl) rfl
theorem q1993 : (Jvm.Cond.soleField "ShareHouseModel" "w") ∈ lw_all := lw_g (lw_at lw_m8 102 rfl) rfl
theorem q1994 : (Jvm.Cond.laysFinal "ShareHouseModel" "ShareHouseModel" "mask" "J") ∈ lw_all := lw_g (lw_at lw_m8 103 rfl) rfl
theorem q1995 : (Jvm.Cond.soleField "ShareHouseModel" "mask") ∈ lw_all := lw_g (lw_at lw_m8 104 rfl) rfl
theorem q1996 : (Jvm.Cond.laysFinal "ShareHouseModel" "ShareHouseModel" "ready" "[I") ∈ lw_all := lw_g (lw_at lw_m8 105 rfl) rfl
theorem q1997 : (Jvm.Cond.soleField "ShareHouseModel" "ready") ∈ lw_all := lw_g (lw_at lw_m8 106 rfl) rfl
theorem q1998 : (Jvm.Cond.laysFinal "ShareHouseModel" "ShareHouseModel" "tape" "[I") ∈ lw_all := lw_g (lw_at lw_m8 107 rfl) rfl
theorem q1999 : (Jvm.Cond.soleField "ShareHouseModel" "tape") ∈ lw_all := lw_g (lw_at lw_m8 108 rfl) rfl
theorem q2000 : (Jvm.Cond.lays "ShareHouseModel" "ShareHouseModel" "taped" "I") ∈ lw_all := lw_g (lw_at lw_m8 109 rfl) rfl
theorem q2001 : (Jvm.Cond.soleField "ShareHouseModel" "taped") ∈ lw_all := lw_g (lw_at lw_m8 110 rfl) rfl
theorem q2002 : (Jvm.Cond.lays "ShareHouseModel" "ShareHouseModel" "at" "I") ∈ lw_all := lw_g (lw_at lw_m8 111 rfl) rfl
theorem q2003 : (Jvm.Cond.soleField "ShareHouseModel" "at") ∈ lw_all := lw_g (lw_at lw_m8 112 rfl) rfl
theorem q2004 : (Jvm.Cond.lays "ShareHouseModel" "ShareHouseModel" "fault" "I") ∈ lw_all := lw_g (lw_at lw_m8 113 rfl) rfl
theorem q2005 : (Jvm.Cond.soleField "ShareHouseModel" "fault") ∈ lw_all := lw_g (lw_at lw_m8 114 rfl) rfl
theorem q2006 : (Jvm.Cond.lays "ShareHouseModel" "ShareHouseModel" "faultPlace" "I") ∈ lw_all := lw_g (lw_at lw_m8 115 rfl) rfl
theorem q2007 : (Jvm.Cond.soleField "ShareHouseModel" "faultPlace") ∈ lw_all := lw_g (lw_at lw_m8 116 rfl) rfl
theorem q2008 : (Jvm.Cond.lays "ShareHouseModel" "ShareHouseModel" "names" "I") ∈ lw_all := lw_g (lw_at lw_m8 117 rfl) rfl
theorem q2009 : (Jvm.Cond.soleField "ShareHouseModel" "names") ∈ lw_all := lw_g (lw_at lw_m8 118 rfl) rfl
theorem q2010 : (Jvm.Cond.laysFinal "ShareHouseModel" "ShareHouseModel" "nameAt" "[I") ∈ lw_all := lw_g (lw_at lw_m8 119 rfl) rfl
theorem q2011 : (Jvm.Cond.soleField "ShareHouseModel" "nameAt") ∈ lw_all := lw_g (lw_at lw_m8 120 rfl) rfl
theorem q2012 : (Jvm.Cond.laysFinal "ShareHouseModel" "ShareHouseModel" "nameSize" "[I") ∈ lw_all := lw_g (lw_at lw_m8 121 rfl) rfl
theorem q2013 : (Jvm.Cond.soleField "ShareHouseModel" "nameSize") ∈ lw_all := lw_g (lw_at lw_m8 122 rfl) rfl
theorem q2014 : (Jvm.Cond.lays "ShareHouseModel" "ShareHouseModel" "numberRead" "J") ∈ lw_all := lw_g (lw_at lw_m8 123 rfl) rfl
theorem q2015 : (Jvm.Cond.soleField "ShareHouseModel" "numberRead") ∈ lw_all := lw_g (lw_at lw_m8 124 rfl) rfl
theorem q2016 : (Jvm.Cond.lays "ShareHouseModel" "ShareHouseModel" "many" "I") ∈ lw_all := lw_g (lw_at lw_m8 125 rfl) rfl
theorem q2017 : (Jvm.Cond.soleField "ShareHouseModel" "many") ∈ lw_all := lw_g (lw_at lw_m8 126 rfl) rfl
theorem q2018 : (Jvm.Cond.laysFinal "ShareHouseModel" "ShareHouseModel" "kind" "[I") ∈ lw_all := lw_g (lw_at lw_m8 127 rfl) rfl
theorem q2019 : (Jvm.Cond.soleField "ShareHouseModel" "kind") ∈ lw_all := lw_g (lw_at lw_m8 128 rfl) rfl
theorem q2020 : (Jvm.Cond.laysFinal "ShareHouseModel" "ShareHouseModel" "one" "[I") ∈ lw_all := lw_g (lw_at lw_m8 129 rfl) rfl
theorem q2021 : (Jvm.Cond.soleField "ShareHouseModel" "one") ∈ lw_all := lw_g (lw_at lw_m8 130 rfl) rfl
theorem q2022 : (Jvm.Cond.laysFinal "ShareHouseModel" "ShareHouseModel" "two" "[I") ∈ lw_all := lw_g (lw_at lw_m8 131 rfl) rfl
theorem q2023 : (Jvm.Cond.soleField "ShareHouseModel" "two") ∈ lw_all := lw_g (lw_at lw_m8 132 rfl) rfl
theorem q2024 : (Jvm.Cond.laysFinal "ShareHouseModel" "ShareHouseModel" "place" "[I") ∈ lw_all := lw_g (lw_at lw_m8 133 rfl) rfl
theorem q2025 : (Jvm.Cond.soleField "ShareHouseModel" "place") ∈ lw_all := lw_g (lw_at lw_m8 134 rfl) rfl
theorem q2026 : (Jvm.Cond.laysFinal "ShareHouseModel" "ShareHouseModel" "worth" "[J") ∈ lw_all := lw_g (lw_at lw_m8 135 rfl) rfl
theorem q2027 : (Jvm.Cond.soleField "ShareHouseModel" "worth") ∈ lw_all := lw_g (lw_at lw_m8 136 rfl) rfl
theorem q2028 : (Jvm.Cond.lays "ShareHouseModel" "ShareHouseModel" "deep" "I") ∈ lw_all := lw_g (lw_at lw_m8 137 rfl) rfl
theorem q2029 : (Jvm.Cond.soleField "ShareHouseModel" "deep") ∈ lw_all := lw_g (lw_at lw_m8 138 rfl) rfl
theorem q2030 : (Jvm.Cond.lays "ShareHouseModel" "ShareHouseModel" "waits" "I") ∈ lw_all := lw_g (lw_at lw_m8 139 rfl) rfl
theorem q2031 : (Jvm.Cond.soleField "ShareHouseModel" "waits") ∈ lw_all := lw_g (lw_at lw_m8 140 rfl) rfl
theorem q2032 : (Jvm.Cond.laysFinal "ShareHouseModel" "ShareHouseModel" "wait" "[I") ∈ lw_all := lw_g (lw_at lw_m8 141 rfl) rfl
theorem q2033 : (Jvm.Cond.soleField "ShareHouseModel" "wait") ∈ lw_all := lw_g (lw_at lw_m8 142 rfl) rfl
theorem q2034 : (Jvm.Cond.laysFinal "ShareHouseModel" "ShareHouseModel" "waitOne" "[I") ∈ lw_all := lw_g (lw_at lw_m8 143 rfl) rfl
theorem q2035 : (Jvm.Cond.soleField "ShareHouseModel" "waitOne") ∈ lw_all := lw_g (lw_at lw_m8 144 rfl) rfl
theorem q2036 : (Jvm.Cond.laysFinal "ShareHouseModel" "ShareHouseModel" "waitPlace" "[I") ∈ lw_all := lw_g (lw_at lw_m8 145 rfl) rfl
theorem q2037 : (Jvm.Cond.soleField "ShareHouseModel" "waitPlace") ∈ lw_all := lw_g (lw_at lw_m8 146 rfl) rfl
theorem q2038 : (Jvm.Cond.laysFinal "ShareHouseModel" "ShareHouseModel" "waitMany" "[I") ∈ lw_all := lw_g (lw_at lw_m8 147 rfl) rfl
theorem q2039 : (Jvm.Cond.soleField "ShareHouseModel" "waitMany") ∈ lw_all := lw_g (lw_at lw_m8 148 rfl) rfl
theorem q2040 : (Jvm.Cond.lays "ShareHouseModel" "ShareHouseModel" "wantsNext" "Z") ∈ lw_all := lw_g (lw_at lw_m8 149 rfl) rfl
theorem q2041 : (Jvm.Cond.soleField "ShareHouseModel" "wantsNext") ∈ lw_all := lw_g (lw_at lw_m8 150 rfl) rfl
theorem q2042 : (Jvm.Cond.lays "ShareHouseModel" "ShareHouseModel" "blocks" "I") ∈ lw_all := lw_g (lw_at lw_m8 151 rfl) rfl
theorem q2043 : (Jvm.Cond.soleField "ShareHouseModel" "blocks") ∈ lw_all := lw_g (lw_at lw_m8 152 rfl) rfl
theorem q2044 : (Jvm.Cond.laysFinal "ShareHouseModel" "ShareHouseModel" "blockOf" "[I") ∈ lw_all := lw_g (lw_at lw_m8 153 rfl) rfl
theorem q2045 : (Jvm.Cond.soleField "ShareHouseModel" "blockOf") ∈ lw_all := lw_g (lw_at lw_m8 154 rfl) rfl
theorem q2046 : (Jvm.Cond.laysFinal "ShareHouseModel" "ShareHouseModel" "blockStep" "[I") ∈ lw_all := lw_g (lw_at lw_m8 155 rfl) rfl
theorem q2047 : (Jvm.Cond.soleField "ShareHouseModel" "blockStep") ∈ lw_all := lw_g (lw_at lw_m8 156 rfl) rfl
theorem q2048 : (Jvm.Cond.lays "ShareHouseModel" "ShareHouseModel" "inputWords" "I") ∈ lw_all := lw_g (lw_at lw_m8 157 rfl) rfl
theorem q2049 : (Jvm.Cond.soleField "ShareHouseModel" "inputWords") ∈ lw_all := lw_g (lw_at lw_m8 158 rfl) rfl
theorem q2050 : (Jvm.Cond.lays "ShareHouseModel" "ShareHouseModel" "varWords" "I") ∈ lw_all := lw_g (lw_at lw_m8 159 rfl) rfl
theorem q2051 : (Jvm.Cond.soleField "ShareHouseModel" "varWords") ∈ lw_all := lw_g (lw_at lw_m8 160 rfl) rfl
theorem q2052 : (Jvm.Cond.lays "ShareHouseModel" "ShareHouseModel" "size" "I") ∈ lw_all := lw_g (lw_at lw_m8 161 rfl) rfl
theorem q2053 : (Jvm.Cond.soleField "ShareHouseModel" "size") ∈ lw_all := lw_g (lw_at lw_m8 162 rfl) rfl
theorem q2054 : (Jvm.Cond.lays "ShareHouseModel" "ShareHouseModel" "sort" "I") ∈ lw_all := lw_g (lw_at lw_m8 163 rfl) rfl
theorem q2055 : (Jvm.Cond.soleField "ShareHouseModel" "sort") ∈ lw_all := lw_g (lw_at lw_m8 164 rfl) rfl
theorem q2056 : (Jvm.Cond.laysFinal "ShareHouseModel" "ShareHouseModel" "offset" "[I") ∈ lw_all := lw_g (lw_at lw_m8 165 rfl) rfl
theorem q2057 : (Jvm.Cond.soleField "ShareHouseModel" "offset") ∈ lw_all := lw_g (lw_at lw_m8 166 rfl) rfl
theorem q2058 : (Jvm.Cond.lays "ShareHouseModel" "ShareHouseModel" "symbols" "I") ∈ lw_all := lw_g (lw_at lw_m8 167 rfl) rfl
theorem q2059 : (Jvm.Cond.soleField "ShareHouseModel" "symbols") ∈ lw_all := lw_g (lw_at lw_m8 168 rfl) rfl
theorem q2060 : (Jvm.Cond.laysFinal "ShareHouseModel" "ShareHouseModel" "symName" "[I") ∈ lw_all := lw_g (lw_at lw_m8 169 rfl) rfl
theorem q2061 : (Jvm.Cond.soleField "ShareHouseModel" "symName") ∈ lw_all := lw_g (lw_at lw_m8 170 rfl) rfl
theorem q2062 : (Jvm.Cond.laysFinal "ShareHouseModel" "ShareHouseModel" "symKind" "[I") ∈ lw_all := lw_g (lw_at lw_m8 171 rfl) rfl
theorem q2063 : (Jvm.Cond.soleField "ShareHouseModel" "symKind") ∈ lw_all := lw_g (lw_at lw_m8 172 rfl) rfl
theorem q2064 : (Jvm.Cond.laysFinal "ShareHouseModel" "ShareHouseModel" "symSort" "[I") ∈ lw_all := lw_g (lw_at lw_m8 173 rfl) rfl
theorem q2065 : (Jvm.Cond.soleField "ShareHouseModel" "symSort") ∈ lw_all := lw_g (lw_at lw_m8 174 rfl) rfl
theorem q2066 : (Jvm.Cond.laysFinal "ShareHouseModel" "ShareHouseModel" "symSize" "[I") ∈ lw_all := lw_g (lw_at lw_m8 175 rfl) rfl
theorem q2067 : (Jvm.Cond.soleField "ShareHouseModel" "symSize") ∈ lw_all := lw_g (lw_at lw_m8 176 rfl) rfl
theorem q2068 : (Jvm.Cond.laysFinal "ShareHouseModel" "ShareHouseModel" "symAt" "[I") ∈ lw_all := lw_g (lw_at lw_m8 177 rfl) rfl
theorem q2069 : (Jvm.Cond.soleField "ShareHouseModel" "symAt") ∈ lw_all := lw_g (lw_at lw_m8 178 rfl) rfl
theorem q2070 : (Jvm.Cond.laysFinal "ShareHouseModel" "ShareHouseModel" "symSeen" "[Z") ∈ lw_all := lw_g (lw_at lw_m8 179 rfl) rfl
theorem q2071 : (Jvm.Cond.soleField "ShareHouseModel" "symSeen") ∈ lw_all := lw_g (lw_at lw_m8 180 rfl) rfl
theorem q2072 : (Jvm.Cond.laysFinal "ShareHouseModel" "ShareHouseModel" "symParams" "[I") ∈ lw_all := lw_g (lw_at lw_m8 181 rfl) rfl
theorem q2073 : (Jvm.Cond.soleField "ShareHouseModel" "symParams") ∈ lw_all := lw_g (lw_at lw_m8 182 rfl) rfl
theorem q2074 : (Jvm.Cond.laysFinal "ShareHouseModel" "ShareHouseModel" "symMany" "[I") ∈ lw_all := lw_g (lw_at lw_m8 183 rfl) rfl
theorem q2075 : (Jvm.Cond.soleField "ShareHouseModel" "symMany") ∈ lw_all := lw_g (lw_at lw_m8 184 rfl) rfl
theorem q2076 : (Jvm.Cond.lays "ShareHouseModel" "ShareHouseModel" "piled" "I") ∈ lw_all := lw_g (lw_at lw_m8 185 rfl) rfl
theorem q2077 : (Jvm.Cond.soleField "ShareHouseModel" "piled") ∈ lw_all := lw_g (lw_at lw_m8 186 rfl) rfl
theorem q2078 : (Jvm.Cond.laysFinal "ShareHouseModel" "ShareHouseModel" "pileSort" "[I") ∈ lw_all := lw_g (lw_at lw_m8 187 rfl) rfl
theorem q2079 : (Jvm.Cond.soleField "ShareHouseModel" "pileSort") ∈ lw_all := lw_g (lw_at lw_m8 188 rfl) rfl
theorem q2080 : (Jvm.Cond.laysFinal "ShareHouseModel" "ShareHouseModel" "pileFrom" "[I") ∈ lw_all := lw_g (lw_at lw_m8 189 rfl) rfl
theorem q2081 : (Jvm.Cond.soleField "ShareHouseModel" "pileFrom") ∈ lw_all := lw_g (lw_at lw_m8 190 rfl) rfl
theorem q2082 : (Jvm.Cond.laysFinal "ShareHouseModel" "ShareHouseModel" "pilePublic" "[Z") ∈ lw_all := lw_g (lw_at lw_m8 191 rfl) rfl
theorem q2083 : (Jvm.Cond.soleField "ShareHouseModel" "pilePublic") ∈ lw_all := lw_g (lw_at lw_m8 192 rfl) rfl
theorem q2084 : (Jvm.Cond.lays "ShareHouseModel" "ShareHouseModel" "inDef" "Z") ∈ lw_all := lw_g (lw_at lw_m8 193 rfl) rfl
theorem q2085 : (Jvm.Cond.soleField "ShareHouseModel" "inDef") ∈ lw_all := lw_g (lw_at lw_m8 194 rfl) rfl
theorem q2086 : (Jvm.Cond.laysFinal "ShareHouseModel" "ShareHouseModel" "scopeStart" "[I") ∈ lw_all := lw_g (lw_at lw_m8 195 rfl) rfl
theorem q2087 : (Jvm.Cond.soleField "ShareHouseModel" "scopeStart") ∈ lw_all := lw_g (lw_at lw_m8 196 rfl) rfl
theorem q2088 : (Jvm.Cond.lays "ShareHouseModel" "ShareHouseModel" "scopes" "I") ∈ lw_all := lw_g (lw_at lw_m8 197 rfl) rfl
theorem q2089 : (Jvm.Cond.soleField "ShareHouseModel" "scopes") ∈ lw_all := lw_g (lw_at lw_m8 198 rfl) rfl
theorem q2090 : (Jvm.Cond.laysFinal "ShareHouseModel" "ShareHouseModel" "refKind" "[I") ∈ lw_all := lw_g (lw_at lw_m8 199 rfl) rfl
theorem q2091 : (Jvm.Cond.soleField "ShareHouseModel" "refKind") ∈ lw_all := lw_g (lw_at lw_m8 200 rfl) rfl
theorem q2092 : (Jvm.Cond.laysFinal "ShareHouseModel" "ShareHouseModel" "refAt" "[I") ∈ lw_all := lw_g (lw_at lw_m8 201 rfl) rfl
theorem q2093 : (Jvm.Cond.soleField "ShareHouseModel" "refAt") ∈ lw_all := lw_g (lw_at lw_m8 202 rfl) rfl
theorem q2094 : (Jvm.Cond.laysFinal "ShareHouseModel" "ShareHouseModel" "refSize" "[I") ∈ lw_all := lw_g (lw_at lw_m8 203 rfl) rfl
theorem q2095 : (Jvm.Cond.soleField "ShareHouseModel" "refSize") ∈ lw_all := lw_g (lw_at lw_m8 204 rfl) rfl
theorem q2096 : (Jvm.Cond.laysFinal "ShareHouseModel" "ShareHouseModel" "refSort" "[I") ∈ lw_all := lw_g (lw_at lw_m8 205 rfl) rfl
theorem q2097 : (Jvm.Cond.soleField "ShareHouseModel" "refSort") ∈ lw_all := lw_g (lw_at lw_m8 206 rfl) rfl
theorem q2098 : (Jvm.Cond.laysFinal "ShareHouseModel" "ShareHouseModel" "asked" "[I") ∈ lw_all := lw_g (lw_at lw_m8 207 rfl) rfl
theorem q2099 : (Jvm.Cond.soleField "ShareHouseModel" "asked") ∈ lw_all := lw_g (lw_at lw_m8 208 rfl) rfl
theorem q2100 : (Jvm.Cond.laysFinal "ShareHouseModel" "ShareHouseModel" "isPublicAt" "[Z") ∈ lw_all := lw_g (lw_at lw_m8 209 rfl) rfl
theorem q2101 : (Jvm.Cond.soleField "ShareHouseModel" "isPublicAt") ∈ lw_all := lw_g (lw_at lw_m8 210 rfl) rfl
theorem q2102 : (Jvm.Cond.lays "ShareHouseModel" "ShareHouseModel" "calls" "I") ∈ lw_all := lw_g (lw_at lw_m8 211 rfl) rfl
theorem q2103 : (Jvm.Cond.soleField "ShareHouseModel" "calls") ∈ lw_all := lw_g (lw_at lw_m8 212 rfl) rfl
theorem q2104 : (Jvm.Cond.laysFinal "ShareHouseModel" "ShareHouseModel" "callSymbol" "[I") ∈ lw_all := lw_g (lw_at lw_m8 213 rfl) rfl
theorem q2105 : (Jvm.Cond.soleField "ShareHouseModel" "callSymbol") ∈ lw_all := lw_g (lw_at lw_m8 214 rfl) rfl
theorem q2106 : (Jvm.Cond.laysFinal "ShareHouseModel" "ShareHouseModel" "callMany" "[I") ∈ lw_all := lw_g (lw_at lw_m8 215 rfl) rfl
theorem q2107 : (Jvm.Cond.soleField "ShareHouseModel" "callMany") ∈ lw_all := lw_g (lw_at lw_m8 216 rfl) rfl
theorem q2108 : (Jvm.Cond.lays "ShareHouseModel" "ShareHouseModel" "inputOffset" "I") ∈ lw_all := lw_g (lw_at lw_m8 217 rfl) rfl
theorem q2109 : (Jvm.Cond.soleField "ShareHouseModel" "inputOffset") ∈ lw_all := lw_g (lw_at lw_m8 218 rfl) rfl
theorem q2110 : (Jvm.Cond.lays "ShareHouseModel" "ShareHouseModel" "params" "I") ∈ lw_all := lw_g (lw_at lw_m8 219 rfl) rfl
theorem q2111 : (Jvm.Cond.soleField "ShareHouseModel" "params") ∈ lw_all := lw_g (lw_at lw_m8 220 rfl) rfl
theorem q2112 : (Jvm.Cond.lays "ShareHouseModel" "ShareHouseModel" "defParams" "I") ∈ lw_all := lw_g (lw_at lw_m8 221 rfl) rfl
theorem q2113 : (Jvm.Cond.soleField "ShareHouseModel" "defParams") ∈ lw_all := lw_g (lw_at lw_m8 222 rfl) rfl
theorem q2114 : (Jvm.Cond.lays "ShareHouseModel" "ShareHouseModel" "defFirst" "I") ∈ lw_all := lw_g (lw_at lw_m8 223 rfl) rfl
theorem q2115 : (Jvm.Cond.soleField "ShareHouseModel" "defFirst") ∈ lw_all := lw_g (lw_at lw_m8 224 rfl) rfl
theorem q2116 : (Jvm.Cond.lays "ShareHouseModel" "ShareHouseModel" "defStep" "I") ∈ lw_all := lw_g (lw_at lw_m8 225 rfl) rfl
theorem q2117 : (Jvm.Cond.soleField "ShareHouseModel" "defStep") ∈ lw_all := lw_g (lw_at lw_m8 226 rfl) rfl
theorem q2118 : (Jvm.Cond.laysFinal "ShareHouseModel" "ShareHouseModel" "paramSort" "[I") ∈ lw_all := lw_g (lw_at lw_m8 227 rfl) rfl
theorem q2119 : (Jvm.Cond.soleField "ShareHouseModel" "paramSort") ∈ lw_all := lw_g (lw_at lw_m8 228 rfl) rfl
theorem q2120 : (Jvm.Cond.lays "ShareHouseModel" "ShareHouseModel" "inputBits" "I") ∈ lw_all := lw_g (lw_at lw_m8 229 rfl) rfl
theorem q2121 : (Jvm.Cond.soleField "ShareHouseModel" "inputBits") ∈ lw_all := lw_g (lw_at lw_m8 230 rfl) rfl
theorem q2122 : (Jvm.Cond.lays "ShareHouseModel" "ShareHouseModel" "gates" "I") ∈ lw_all := lw_g (lw_at lw_m8 231 rfl) rfl
theorem q2123 : (Jvm.Cond.soleField "ShareHouseModel" "gates") ∈ lw_all := lw_g (lw_at lw_m8 232 rfl) rfl
theorem q2124 : (Jvm.Cond.lays "ShareHouseModel" "ShareHouseModel" "ands" "I") ∈ lw_all := lw_g (lw_at lw_m8 233 rfl) rfl
theorem q2125 : (Jvm.Cond.soleField "ShareHouseModel" "ands") ∈ lw_all := lw_g (lw_at lw_m8 234 rfl) rfl
theorem q2126 : (Jvm.Cond.lays "ShareHouseModel" "ShareHouseModel" "deepest" "I") ∈ lw_all := lw_g (lw_at lw_m8 235 rfl) rfl
theorem q2127 : (Jvm.Cond.soleField "ShareHouseModel" "deepest") ∈ lw_all := lw_g (lw_at lw_m8 236 rfl) rfl
theorem q2128 : (Jvm.Cond.lays "ShareHouseModel" "ShareHouseModel" "outputs" "I") ∈ lw_all := lw_g (lw_at lw_m8 237 rfl) rfl
theorem q2129 : (Jvm.Cond.soleField "ShareHouseModel" "outputs") ∈ lw_all := lw_g (lw_at lw_m8 238 rfl) rfl
theorem q2130 : (Jvm.Cond.lays "ShareHouseModel" "ShareHouseModel" "steps" "I") ∈ lw_all := lw_g (lw_at lw_m8 239 rfl) rfl
theorem q2131 : (Jvm.Cond.soleField "ShareHouseModel" "steps") ∈ lw_all := lw_g (lw_at lw_m9 0 rfl) rfl
theorem q2132 : (Jvm.Cond.laysFinal "ShareHouseModel" "ShareHouseModel" "isAnd" "[I") ∈ lw_all := lw_g (lw_at lw_m9 1 rfl) rfl
theorem q2133 : (Jvm.Cond.soleField "ShareHouseModel" "isAnd") ∈ lw_all := lw_g (lw_at lw_m9 2 rfl) rfl
theorem q2134 : (Jvm.Cond.laysFinal "ShareHouseModel" "ShareHouseModel" "level" "[I") ∈ lw_all := lw_g (lw_at lw_m9 3 rfl) rfl
theorem q2135 : (Jvm.Cond.soleField "ShareHouseModel" "level") ∈ lw_all := lw_g (lw_at lw_m9 4 rfl) rfl
theorem q2136 : (Jvm.Cond.laysFinal "ShareHouseModel" "ShareHouseModel" "left" "[I") ∈ lw_all := lw_g (lw_at lw_m9 5 rfl) rfl
theorem q2137 : (Jvm.Cond.soleField "ShareHouseModel" "left") ∈ lw_all := lw_g (lw_at lw_m9 6 rfl) rfl
theorem q2138 : (Jvm.Cond.laysFinal "ShareHouseModel" "ShareHouseModel" "right" "[I") ∈ lw_all := lw_g (lw_at lw_m9 7 rfl) rfl
theorem q2139 : (Jvm.Cond.soleField "ShareHouseModel" "right") ∈ lw_all := lw_g (lw_at lw_m9 8 rfl) rfl
theorem q2140 : (Jvm.Cond.lays "ShareHouseModel" "ShareHouseModel" "inputs" "I") ∈ lw_all := lw_g (lw_at lw_m9 9 rfl) rfl
theorem q2141 : (Jvm.Cond.soleField "ShareHouseModel" "inputs") ∈ lw_all := lw_g (lw_at lw_m9 10 rfl) rfl
theorem q2142 : (Jvm.Cond.laysFinal "ShareHouseModel" "ShareHouseModel" "inParty" "[I") ∈ lw_all := lw_g (lw_at lw_m9 11 rfl) rfl
theorem q2143 : (Jvm.Cond.soleField "ShareHouseModel" "inParty") ∈ lw_all := lw_g (lw_at lw_m9 12 rfl) rfl
theorem q2144 : (Jvm.Cond.laysFinal "ShareHouseModel" "ShareHouseModel" "inBits" "[I") ∈ lw_all := lw_g (lw_at lw_m9 13 rfl) rfl
theorem q2145 : (Jvm.Cond.soleField "ShareHouseModel" "inBits") ∈ lw_all := lw_g (lw_at lw_m9 14 rfl) rfl
theorem q2146 : (Jvm.Cond.laysFinal "ShareHouseModel" "ShareHouseModel" "inWire" "[I") ∈ lw_all := lw_g (lw_at lw_m9 15 rfl) rfl
theorem q2147 : (Jvm.Cond.soleField "ShareHouseModel" "inWire") ∈ lw_all := lw_g (lw_at lw_m9 16 rfl) rfl
theorem q2148 : (Jvm.Cond.laysFinal "ShareHouseModel" "ShareHouseModel" "inValue" "[J") ∈ lw_all := lw_g (lw_at lw_m9 17 rfl) rfl
theorem q2149 : (Jvm.Cond.soleField "ShareHouseModel" "inValue") ∈ lw_all := lw_g (lw_at lw_m9 18 rfl) rfl
theorem q2150 : (Jvm.Cond.laysFinal "ShareHouseModel" "ShareHouseModel" "dealtValue" "[J") ∈ lw_all := lw_g (lw_at lw_m9 19 rfl) rfl
theorem q2151 : (Jvm.Cond.soleField "ShareHouseModel" "dealtValue") ∈ lw_all := lw_g (lw_at lw_m9 20 rfl) rfl
theorem q2152 : (Jvm.Cond.laysFinal "ShareHouseModel" "ShareHouseModel" "outBits" "[I") ∈ lw_all := lw_g (lw_at lw_m9 21 rfl) rfl
theorem q2153 : (Jvm.Cond.soleField "ShareHouseModel" "outBits") ∈ lw_all := lw_g (lw_at lw_m9 22 rfl) rfl
theorem q2154 : (Jvm.Cond.laysFinal "ShareHouseModel" "ShareHouseModel" "outLiteral" "[I") ∈ lw_all := lw_g (lw_at lw_m9 23 rfl) rfl
theorem q2155 : (Jvm.Cond.soleField "ShareHouseModel" "outLiteral") ∈ lw_all := lw_g (lw_at lw_m9 24 rfl) rfl
theorem q2156 : (Jvm.Cond.lays "ShareHouseModel" "ShareHouseModel" "circuit" "Z") ∈ lw_all := lw_g (lw_at lw_m9 25 rfl) rfl
theorem q2157 : (Jvm.Cond.soleField "ShareHouseModel" "circuit") ∈ lw_all := lw_g (lw_at lw_m9 26 rfl) rfl
theorem q2158 : (Jvm.Cond.laysFinal "ShareHouseModel" "ShareHouseModel" "bits" "[I") ∈ lw_all := lw_g (lw_at lw_m9 27 rfl) rfl
theorem q2159 : (Jvm.Cond.soleField "ShareHouseModel" "bits") ∈ lw_all := lw_g (lw_at lw_m9 28 rfl) rfl
theorem q2160 : (Jvm.Cond.lays "ShareHouseModel" "ShareHouseModel" "top" "I") ∈ lw_all := lw_g (lw_at lw_m9 29 rfl) rfl
theorem q2161 : (Jvm.Cond.soleField "ShareHouseModel" "top") ∈ lw_all := lw_g (lw_at lw_m9 30 rfl) rfl
theorem q2162 : (Jvm.Cond.laysFinal "ShareHouseModel" "ShareHouseModel" "x" "[I") ∈ lw_all := lw_g (lw_at lw_m9 31 rfl) rfl
theorem q2163 : (Jvm.Cond.soleField "ShareHouseModel" "x") ∈ lw_all := lw_g (lw_at lw_m9 32 rfl) rfl
theorem q2164 : (Jvm.Cond.laysFinal "ShareHouseModel" "ShareHouseModel" "y" "[I") ∈ lw_all := lw_g (lw_at lw_m9 33 rfl) rfl
theorem q2165 : (Jvm.Cond.soleField "ShareHouseModel" "y") ∈ lw_all := lw_g (lw_at lw_m9 34 rfl) rfl
theorem q2166 : (Jvm.Cond.laysFinal "ShareHouseModel" "ShareHouseModel" "z" "[I") ∈ lw_all := lw_g (lw_at lw_m9 35 rfl) rfl
theorem q2167 : (Jvm.Cond.soleField "ShareHouseModel" "z") ∈ lw_all := lw_g (lw_at lw_m9 36 rfl) rfl
theorem q2168 : (Jvm.Cond.laysFinal "ShareHouseModel" "ShareHouseModel" "\x72" "[I") ∈ lw_all := lw_g (lw_at lw_m9 37 rfl) rfl
theorem q2169 : (Jvm.Cond.soleField "ShareHouseModel" "\x72") ∈ lw_all := lw_g (lw_at lw_m9 38 rfl) rfl
theorem q2170 : (Jvm.Cond.laysFinal "ShareHouseModel" "ShareHouseModel" "q" "[I") ∈ lw_all := lw_g (lw_at lw_m9 39 rfl) rfl
theorem q2171 : (Jvm.Cond.soleField "ShareHouseModel" "q") ∈ lw_all := lw_g (lw_at lw_m9 40 rfl) rfl
theorem q2172 : (Jvm.Cond.laysFinal "ShareHouseModel" "ShareHouseModel" "product" "[I") ∈ lw_all := lw_g (lw_at lw_m9 41 rfl) rfl
theorem q2173 : (Jvm.Cond.soleField "ShareHouseModel" "product") ∈ lw_all := lw_g (lw_at lw_m9 42 rfl) rfl
theorem q2174 : (Jvm.Cond.laysFinal "ShareHouseModel" "ShareHouseModel" "rest" "[I") ∈ lw_all := lw_g (lw_at lw_m9 43 rfl) rfl
theorem q2175 : (Jvm.Cond.soleField "ShareHouseModel" "rest") ∈ lw_all := lw_g (lw_at lw_m9 44 rfl) rfl
theorem q2176 : (Jvm.Cond.laysFinal "ShareHouseModel" "ShareHouseModel" "quotient" "[I") ∈ lw_all := lw_g (lw_at lw_m9 45 rfl) rfl
theorem q2177 : (Jvm.Cond.soleField "ShareHouseModel" "quotient") ∈ lw_all := lw_g (lw_at lw_m9 46 rfl) rfl
theorem q2178 : (Jvm.Cond.lays "ShareHouseModel" "ShareHouseModel" "doing" "I") ∈ lw_all := lw_g (lw_at lw_m9 47 rfl) rfl
theorem q2179 : (Jvm.Cond.soleField "ShareHouseModel" "doing") ∈ lw_all := lw_g (lw_at lw_m9 48 rfl) rfl
theorem q2180 : (Jvm.Cond.laysFinal "ShareHouseModel" "ShareHouseModel" "doingPlace" "[I") ∈ lw_all := lw_g (lw_at lw_m9 49 rfl) rfl
theorem q2181 : (Jvm.Cond.soleField "ShareHouseModel" "doingPlace") ∈ lw_all := lw_g (lw_at lw_m9 50 rfl) rfl
theorem q2182 : (Jvm.Cond.laysFinal "ShareHouseModel" "ShareHouseModel" "varLiteral" "[I") ∈ lw_all := lw_g (lw_at lw_m9 51 rfl) rfl
theorem q2183 : (Jvm.Cond.soleField "ShareHouseModel" "varLiteral") ∈ lw_all := lw_g (lw_at lw_m9 52 rfl) rfl
theorem q2184 : (Jvm.Cond.lays "ShareHouseModel" "ShareHouseModel" "alives" "I") ∈ lw_all := lw_g (lw_at lw_m9 53 rfl) rfl
theorem q2185 : (Jvm.Cond.soleField "ShareHouseModel" "alives") ∈ lw_all := lw_g (lw_at lw_m9 54 rfl) rfl
theorem q2186 : (Jvm.Cond.laysFinal "ShareHouseModel" "ShareHouseModel" "aliveAt" "[I") ∈ lw_all := lw_g (lw_at lw_m9 55 rfl) rfl
theorem q2187 : (Jvm.Cond.soleField "ShareHouseModel" "aliveAt") ∈ lw_all := lw_g (lw_at lw_m9 56 rfl) rfl
theorem q2188 : (Jvm.Cond.laysFinal "ShareHouseModel" "ShareHouseModel" "aliveWords" "[I") ∈ lw_all := lw_g (lw_at lw_m9 57 rfl) rfl
theorem q2189 : (Jvm.Cond.soleField "ShareHouseModel" "aliveWords") ∈ lw_all := lw_g (lw_at lw_m9 58 rfl) rfl
theorem q2190 : (Jvm.Cond.laysFinal "ShareHouseModel" "ShareHouseModel" "aliveBits" "[I") ∈ lw_all := lw_g (lw_at lw_m9 59 rfl) rfl
theorem q2191 : (Jvm.Cond.soleField "ShareHouseModel" "aliveBits") ∈ lw_all := lw_g (lw_at lw_m9 60 rfl) rfl
theorem q2192 : (Jvm.Cond.lays "ShareHouseModel" "ShareHouseModel" "ifs" "I") ∈ lw_all := lw_g (lw_at lw_m9 61 rfl) rfl
theorem q2193 : (Jvm.Cond.soleField "ShareHouseModel" "ifs") ∈ lw_all := lw_g (lw_at lw_m9 62 rfl) rfl
theorem q2194 : (Jvm.Cond.laysFinal "ShareHouseModel" "ShareHouseModel" "ifLiteral" "[I") ∈ lw_all := lw_g (lw_at lw_m9 63 rfl) rfl
theorem q2195 : (Jvm.Cond.soleField "ShareHouseModel" "ifLiteral") ∈ lw_all := lw_g (lw_at lw_m9 64 rfl) rfl
theorem q2196 : (Jvm.Cond.laysFinal "ShareHouseModel" "ShareHouseModel" "ifAlive" "[I") ∈ lw_all := lw_g (lw_at lw_m9 65 rfl) rfl
theorem q2197 : (Jvm.Cond.soleField "ShareHouseModel" "ifAlive") ∈ lw_all := lw_g (lw_at lw_m9 66 rfl) rfl
theorem q2198 : (Jvm.Cond.laysFinal "ShareHouseModel" "ShareHouseModel" "ifElse" "[Z") ∈ lw_all := lw_g (lw_at lw_m9 67 rfl) rfl
theorem q2199 : (Jvm.Cond.soleField "ShareHouseModel" "ifElse") ∈ lw_all := lw_g (lw_at lw_m9 68 rfl) rfl
theorem q2200 : (Jvm.Cond.laysFinal "ShareHouseModel" "ShareHouseModel" "before" "[I") ∈ lw_all := lw_g (lw_at lw_m9 69 rfl) rfl
theorem q2201 : (Jvm.Cond.soleField "ShareHouseModel" "before") ∈ lw_all := lw_g (lw_at lw_m9 70 rfl) rfl
theorem q2202 : (Jvm.Cond.laysFinal "ShareHouseModel" "ShareHouseModel" "after" "[I") ∈ lw_all := lw_g (lw_at lw_m9 71 rfl) rfl
theorem q2203 : (Jvm.Cond.soleField "ShareHouseModel" "after") ∈ lw_all := lw_g (lw_at lw_m9 72 rfl) rfl
theorem q2204 : (Jvm.Cond.laysFinal "ShareHouseModel" "ShareHouseModel" "loopNow" "[J") ∈ lw_all := lw_g (lw_at lw_m9 73 rfl) rfl
theorem q2205 : (Jvm.Cond.soleField "ShareHouseModel" "loopNow") ∈ lw_all := lw_g (lw_at lw_m9 74 rfl) rfl
theorem q2206 : (Jvm.Cond.laysFinal "ShareHouseModel" "ShareHouseModel" "loopEnd" "[J") ∈ lw_all := lw_g (lw_at lw_m9 75 rfl) rfl
theorem q2207 : (Jvm.Cond.soleField "ShareHouseModel" "loopEnd") ∈ lw_all := lw_g (lw_at lw_m9 76 rfl) rfl
theorem q2208 : (Jvm.Cond.laysFinal "ShareHouseModel" "ShareHouseModel" "loopAlive" "[I") ∈ lw_all := lw_g (lw_at lw_m9 77 rfl) rfl
theorem q2209 : (Jvm.Cond.soleField "ShareHouseModel" "loopAlive") ∈ lw_all := lw_g (lw_at lw_m9 78 rfl) rfl
theorem q2210 : (Jvm.Cond.lays "ShareHouseModel" "ShareHouseModel" "frames" "I") ∈ lw_all := lw_g (lw_at lw_m9 79 rfl) rfl
theorem q2211 : (Jvm.Cond.soleField "ShareHouseModel" "frames") ∈ lw_all := lw_g (lw_at lw_m9 80 rfl) rfl
theorem q2212 : (Jvm.Cond.laysFinal "ShareHouseModel" "ShareHouseModel" "frameBase" "[I") ∈ lw_all := lw_g (lw_at lw_m9 81 rfl) rfl
theorem q2213 : (Jvm.Cond.soleField "ShareHouseModel" "frameBase") ∈ lw_all := lw_g (lw_at lw_m9 82 rfl) rfl
theorem q2214 : (Jvm.Cond.laysFinal "ShareHouseModel" "ShareHouseModel" "frameBack" "[I") ∈ lw_all := lw_g (lw_at lw_m9 83 rfl) rfl
theorem q2215 : (Jvm.Cond.soleField "ShareHouseModel" "frameBack") ∈ lw_all := lw_g (lw_at lw_m9 84 rfl) rfl
theorem q2216 : (Jvm.Cond.laysFinal "ShareHouseModel" "ShareHouseModel" "index" "[I") ∈ lw_all := lw_g (lw_at lw_m9 85 rfl) rfl
theorem q2217 : (Jvm.Cond.soleField "ShareHouseModel" "index") ∈ lw_all := lw_g (lw_at lw_m9 86 rfl) rfl
theorem q2218 : (Jvm.Cond.laysFinal "ShareHouseModel" "ShareHouseModel" "pileWord" "[J") ∈ lw_all := lw_g (lw_at lw_m9 87 rfl) rfl
theorem q2219 : (Jvm.Cond.soleField "ShareHouseModel" "pileWord") ∈ lw_all := lw_g (lw_at lw_m9 88 rfl) rfl
theorem q2220 : (Jvm.Cond.lays "ShareHouseModel" "ShareHouseModel" "meant" "I") ∈ lw_all := lw_g (lw_at lw_m9 89 rfl) rfl
theorem q2221 : (Jvm.Cond.soleField "ShareHouseModel" "meant") ∈ lw_all := lw_g (lw_at lw_m9 90 rfl) rfl
theorem q2222 : (Jvm.Cond.laysFinal "ShareHouseModel" "ShareHouseModel" "varWord" "[J") ∈ lw_all := lw_g (lw_at lw_m9 91 rfl) rfl
theorem q2223 : (Jvm.Cond.soleField "ShareHouseModel" "varWord") ∈ lw_all := lw_g (lw_at lw_m9 92 rfl) rfl
theorem q2224 : (Jvm.Cond.laysFinal "ShareHouseModel" "ShareHouseModel" "outWord" "[J") ∈ lw_all := lw_g (lw_at lw_m9 93 rfl) rfl
theorem q2225 : (Jvm.Cond.soleField "ShareHouseModel" "outWord") ∈ lw_all := lw_g (lw_at lw_m9 94 rfl) rfl
theorem q2226 : (Jvm.Cond.lays "ShareHouseModel" "ShareHouseModel" "outs" "I") ∈ lw_all := lw_g (lw_at lw_m9 95 rfl) rfl
theorem q2227 : (Jvm.Cond.soleField "ShareHouseModel" "outs") ∈ lw_all := lw_g (lw_at lw_m9 96 rfl) rfl
theorem q2228 : (Jvm.Cond.lays "ShareHouseModel" "ShareHouseModel" "meantNow" "Z") ∈ lw_all := lw_g (lw_at lw_m9 97 rfl) rfl
theorem q2229 : (Jvm.Cond.soleField "ShareHouseModel" "meantNow") ∈ lw_all := lw_g (lw_at lw_m9 98 rfl) rfl
theorem q2230 : (Jvm.Cond.lays "ShareHouseModel" "ShareHouseModel" "seedNow" "I") ∈ lw_all := lw_g (lw_at lw_m9 99 rfl) rfl
theorem q2231 : (Jvm.Cond.soleField "ShareHouseModel" "seedNow") ∈ lw_all := lw_g (lw_at lw_m9 100 rfl) rfl
theorem q2232 : (Jvm.Cond.lays "ShareHouseModel" "ShareHouseModel" "drawsWait" "I") ∈ lw_all := lw_g (lw_at lw_m9 101 rfl) rfl
theorem q2233 : (Jvm.Cond.soleField "ShareHouseModel" "drawsWait") ∈ lw_all := lw_g (lw_at lw_m9 102 rfl) rfl
theorem q2234 : (Jvm.Cond.lays "ShareHouseModel" "ShareHouseModel" "drawFirst" "I") ∈ lw_all := lw_g (lw_at lw_m9 103 rfl) rfl
theorem q2235 : (Jvm.Cond.soleField "ShareHouseModel" "drawFirst") ∈ lw_all := lw_g (lw_at lw_m9 104 rfl) rfl
theorem q2236 : (Jvm.Cond.laysFinal "ShareHouseModel" "ShareHouseModel" "told0" "[I") ∈ lw_all := lw_g (lw_at lw_m9 105 rfl) rfl
theorem q2237 : (Jvm.Cond.soleField "ShareHouseModel" "told0") ∈ lw_all := lw_g (lw_at lw_m9 106 rfl) rfl
theorem q2238 : (Jvm.Cond.lays "ShareHouseModel" "ShareHouseModel" "dealt" "Z") ∈ lw_all := lw_g (lw_at lw_m9 107 rfl) rfl
theorem q2239 : (Jvm.Cond.soleField "ShareHouseModel" "dealt") ∈ lw_all := lw_g (lw_at lw_m9 108 rfl) rfl
theorem q2240 : (Jvm.Cond.laysFinal "ShareHouseModel" "ShareHouseModel" "shares" "[I") ∈ lw_all := lw_g (lw_at lw_m9 109 rfl) rfl
theorem q2241 : (Jvm.Cond.soleField "ShareHouseModel" "shares") ∈ lw_all := lw_g (lw_at lw_m9 110 rfl) rfl
theorem q2242 : (Jvm.Cond.laysFinal "ShareHouseModel" "ShareHouseModel" "tripleA" "[I") ∈ lw_all := lw_g (lw_at lw_m9 111 rfl) rfl
theorem q2243 : (Jvm.Cond.soleField "ShareHouseModel" "tripleA") ∈ lw_all := lw_g (lw_at lw_m9 112 rfl) rfl
theorem q2244 : (Jvm.Cond.laysFinal "ShareHouseModel" "ShareHouseModel" "tripleB" "[I") ∈ lw_all := lw_g (lw_at lw_m9 113 rfl) rfl
theorem q2245 : (Jvm.Cond.soleField "ShareHouseModel" "tripleB") ∈ lw_all := lw_g (lw_at lw_m9 114 rfl) rfl
theorem q2246 : (Jvm.Cond.laysFinal "ShareHouseModel" "ShareHouseModel" "tripleC" "[I") ∈ lw_all := lw_g (lw_at lw_m9 115 rfl) rfl
theorem q2247 : (Jvm.Cond.soleField "ShareHouseModel" "tripleC") ∈ lw_all := lw_g (lw_at lw_m9 116 rfl) rfl
theorem q2248 : (Jvm.Cond.laysFinal "ShareHouseModel" "ShareHouseModel" "levelFrom" "[I") ∈ lw_all := lw_g (lw_at lw_m9 117 rfl) rfl
theorem q2249 : (Jvm.Cond.soleField "ShareHouseModel" "levelFrom") ∈ lw_all := lw_g (lw_at lw_m9 118 rfl) rfl
theorem q2250 : (Jvm.Cond.laysFinal "ShareHouseModel" "ShareHouseModel" "byLevel" "[I") ∈ lw_all := lw_g (lw_at lw_m9 119 rfl) rfl
theorem q2251 : (Jvm.Cond.soleField "ShareHouseModel" "byLevel") ∈ lw_all := lw_g (lw_at lw_m9 120 rfl) rfl
theorem q2252 : (Jvm.Cond.lays "ShareHouseModel" "ShareHouseModel" "sentOf" "I") ∈ lw_all := lw_g (lw_at lw_m9 121 rfl) rfl
theorem q2253 : (Jvm.Cond.soleField "ShareHouseModel" "sentOf") ∈ lw_all := lw_g (lw_at lw_m9 122 rfl) rfl
theorem q2254 : (Jvm.Cond.laysFinal "ShareHouseModel" "ShareHouseModel" "round" "[I") ∈ lw_all := lw_g (lw_at lw_m9 123 rfl) rfl
theorem q2255 : (Jvm.Cond.soleField "ShareHouseModel" "round") ∈ lw_all := lw_g (lw_at lw_m9 124 rfl) rfl
theorem q2256 : (Jvm.Cond.laysFinal "ShareHouseModel" "ShareHouseModel" "gotNow" "[I") ∈ lw_all := lw_g (lw_at lw_m9 125 rfl) rfl
theorem q2257 : (Jvm.Cond.soleField "ShareHouseModel" "gotNow") ∈ lw_all := lw_g (lw_at lw_m9 126 rfl) rfl
theorem q2258 : (Jvm.Cond.laysFinal "ShareHouseModel" "ShareHouseModel" "gotNext" "[I") ∈ lw_all := lw_g (lw_at lw_m9 127 rfl) rfl
theorem q2259 : (Jvm.Cond.soleField "ShareHouseModel" "gotNext") ∈ lw_all := lw_g (lw_at lw_m9 128 rfl) rfl
theorem q2260 : (Jvm.Cond.laysFinal "ShareHouseModel" "ShareHouseModel" "came" "[I") ∈ lw_all := lw_g (lw_at lw_m9 129 rfl) rfl
theorem q2261 : (Jvm.Cond.soleField "ShareHouseModel" "came") ∈ lw_all := lw_g (lw_at lw_m9 130 rfl) rfl
theorem q2262 : (Jvm.Cond.laysFinal "ShareHouseModel" "ShareHouseModel" "cameBits" "[I") ∈ lw_all := lw_g (lw_at lw_m9 131 rfl) rfl
theorem q2263 : (Jvm.Cond.soleField "ShareHouseModel" "cameBits") ∈ lw_all := lw_g (lw_at lw_m9 132 rfl) rfl
theorem q2264 : (Jvm.Cond.laysFinal "ShareHouseModel" "ShareHouseModel" "cameFrom" "[I") ∈ lw_all := lw_g (lw_at lw_m9 133 rfl) rfl
theorem q2265 : (Jvm.Cond.soleField "ShareHouseModel" "cameFrom") ∈ lw_all := lw_g (lw_at lw_m9 134 rfl) rfl
theorem q2266 : (Jvm.Cond.laysFinal "ShareHouseModel" "ShareHouseModel" "cameRound" "[I") ∈ lw_all := lw_g (lw_at lw_m9 135 rfl) rfl
theorem q2267 : (Jvm.Cond.soleField "ShareHouseModel" "cameRound") ∈ lw_all := lw_g (lw_at lw_m9 136 rfl) rfl
theorem q2268 : (Jvm.Cond.lays "ShareHouseModel" "ShareHouseModel" "flying" "I") ∈ lw_all := lw_g (lw_at lw_m9 137 rfl) rfl
theorem q2269 : (Jvm.Cond.soleField "ShareHouseModel" "flying") ∈ lw_all := lw_g (lw_at lw_m9 138 rfl) rfl
theorem q2270 : (Jvm.Cond.lays "ShareHouseModel" "ShareHouseModel" "delivered" "I") ∈ lw_all := lw_g (lw_at lw_m9 139 rfl) rfl
theorem q2271 : (Jvm.Cond.soleField "ShareHouseModel" "delivered") ∈ lw_all := lw_g (lw_at lw_m9 140 rfl) rfl
theorem q2272 : (Jvm.Cond.laysFinal "ShareHouseModel" "ShareHouseModel" "flyFrom" "[I") ∈ lw_all := lw_g (lw_at lw_m9 141 rfl) rfl
theorem q2273 : (Jvm.Cond.soleField "ShareHouseModel" "flyFrom") ∈ lw_all := lw_g (lw_at lw_m9 142 rfl) rfl
theorem q2274 : (Jvm.Cond.laysFinal "ShareHouseModel" "ShareHouseModel" "flyTo" "[I") ∈ lw_all := lw_g (lw_at lw_m9 143 rfl) rfl
theorem q2275 : (Jvm.Cond.soleField "ShareHouseModel" "flyTo") ∈ lw_all := lw_g (lw_at lw_m9 144 rfl) rfl
theorem q2276 : (Jvm.Cond.laysFinal "ShareHouseModel" "ShareHouseModel" "flyRound" "[I") ∈ lw_all := lw_g (lw_at lw_m9 145 rfl) rfl
theorem q2277 : (Jvm.Cond.soleField "ShareHouseModel" "flyRound") ∈ lw_all := lw_g (lw_at lw_m9 146 rfl) rfl
theorem q2278 : (Jvm.Cond.laysFinal "ShareHouseModel" "ShareHouseModel" "ownBits" "[I") ∈ lw_all := lw_g (lw_at lw_m9 147 rfl) rfl
theorem q2279 : (Jvm.Cond.soleField "ShareHouseModel" "ownBits") ∈ lw_all := lw_g (lw_at lw_m9 148 rfl) rfl
theorem q2280 : (Jvm.Cond.lays "ShareHouseModel" "ShareHouseModel" "outputBits" "I") ∈ lw_all := lw_g (lw_at lw_m9 149 rfl) rfl
theorem q2281 : (Jvm.Cond.soleField "ShareHouseModel" "outputBits") ∈ lw_all := lw_g (lw_at lw_m9 150 rfl) rfl
theorem q2282 : (Jvm.Cond.superclass "ShareHouseModel" "java/lang/Object") ∈ lw_all := lw_g (lw_at lw_m9 151 rfl) rfl
theorem q2284 : (Jvm.Cond.instanceMethod ({ cls := "ShareHouseModel", name := "feed", desc := "(IIIII)V" } : Jvm.MethodName)) ∈ lw_all := lw_g (lw_at lw_m9 153 rfl) rfl
theorem q2285 : (Jvm.Cond.selects "ShareHouseModel" ({ cls := "ShareHouseModel", name := "feed", desc := "(IIIII)V" } : Jvm.MethodName) ({ cls := "ShareHouseModel", name := "feed", desc := "(IIIII)V" } : Jvm.MethodName)) ∈ lw_all := lw_g (lw_at lw_m9 154 rfl) rfl
theorem q2286 : (Jvm.Cond.code ({ cls := "ShareHouseModel", name := "feed", desc := "(IIIII)V" } : Jvm.MethodName) prog_17_method_3_code (6 : Nat) (Option.none : Option Jvm.ClassFile.FieldType)) ∈ lw_all := lw_g (lw_at lw_m9 155 rfl) rfl
theorem q2287 : (Jvm.Cond.methodLink "ShareHouseModel" (316 : Nat) ({ cls := "ShareHouseModel", name := "word", desc := "(II)V" } : Jvm.MethodName)) ∈ lw_all := lw_g (lw_at lw_m9 156 rfl) rfl
theorem q2288 : (Jvm.Cond.privateMethod ({ cls := "ShareHouseModel", name := "word", desc := "(II)V" } : Jvm.MethodName)) ∈ lw_tbl := lw_at lw_m9 157 rfl
theorem q2289 : (Jvm.Cond.instanceMethod ({ cls := "ShareHouseModel", name := "word", desc := "(II)V" } : Jvm.MethodName)) ∈ lw_all := lw_g (lw_at lw_m9 158 rfl) rfl
theorem q2290 : (Jvm.Cond.code ({ cls := "ShareHouseModel", name := "word", desc := "(II)V" } : Jvm.MethodName) prog_17_method_2_code (4 : Nat) (Option.none : Option Jvm.ClassFile.FieldType)) ∈ lw_all := lw_g (lw_at lw_m9 159 rfl) rfl
theorem q2292 : (Jvm.Cond.instanceMethod ({ cls := "ShareHouseModel", name := "end", desc := "(I)I" } : Jvm.MethodName)) ∈ lw_all := lw_g (lw_at lw_m9 161 rfl) rfl
theorem q2293 : (Jvm.Cond.selects "ShareHouseModel" ({ cls := "ShareHouseModel", name := "end", desc := "(I)I" } : Jvm.MethodName) ({ cls := "ShareHouseModel", name := "end", desc := "(I)I" } : Jvm.MethodName)) ∈ lw_all := lw_g (lw_at lw_m9 162 rfl) rfl
theorem q2294 : (Jvm.Cond.code ({ cls := "ShareHouseModel", name := "end", desc := "(I)I" } : Jvm.MethodName) prog_17_method_4_code (3 : Nat) (Option.some Jvm.ClassFile.FieldType.int)) ∈ lw_all := lw_g (lw_at lw_m9 163 rfl) rfl
theorem q2296 : (Jvm.Cond.instanceMethod ({ cls := "ShareHouseModel", name := "compile", desc := "()I" } : Jvm.MethodName)) ∈ lw_all := lw_g (lw_at lw_m9 165 rfl) rfl
theorem q2297 : (Jvm.Cond.selects "ShareHouseModel" ({ cls := "ShareHouseModel", name := "compile", desc := "()I" } : Jvm.MethodName) ({ cls := "ShareHouseModel", name := "compile", desc := "()I" } : Jvm.MethodName)) ∈ lw_all := lw_g (lw_at lw_m9 166 rfl) rfl
theorem q2298 : (Jvm.Cond.code ({ cls := "ShareHouseModel", name := "compile", desc := "()I" } : Jvm.MethodName) prog_17_method_114_code (2 : Nat) (Option.some Jvm.ClassFile.FieldType.int)) ∈ lw_all := lw_g (lw_at lw_m9 167 rfl) rfl
theorem q2299 : (Jvm.Cond.methodLink "ShareHouseModel" (836 : Nat) ({ cls := "ShareHouseModel", name := "forget", desc := "()V" } : Jvm.MethodName)) ∈ lw_all := lw_g (lw_at lw_m9 168 rfl) rfl
theorem q2300 : (Jvm.Cond.privateMethod ({ cls := "ShareHouseModel", name := "forget", desc := "()V" } : Jvm.MethodName)) ∈ lw_tbl := lw_at lw_m9 169 rfl
theorem q2301 : (Jvm.Cond.instanceMethod ({ cls := "ShareHouseModel", name := "forget", desc := "()V" } : Jvm.MethodName)) ∈ lw_all := lw_g (lw_at lw_m9 170 rfl) rfl
theorem q2302 : (Jvm.Cond.code ({ cls := "ShareHouseModel", name := "forget", desc := "()V" } : Jvm.MethodName) prog_17_method_113_code (1 : Nat) (Option.none : Option Jvm.ClassFile.FieldType)) ∈ lw_all := lw_g (lw_at lw_m9 171 rfl) rfl
theorem q2303 : (Jvm.Cond.methodLink "ShareHouseModel" (839 : Nat) ({ cls := "ShareHouseModel", name := "program", desc := "()V" } : Jvm.MethodName)) ∈ lw_all := lw_g (lw_at lw_m9 172 rfl) rfl
theorem q2304 : (Jvm.Cond.privateMethod ({ cls := "ShareHouseModel", name := "program", desc := "()V" } : Jvm.MethodName)) ∈ lw_tbl := lw_at lw_m9 173 rfl
theorem q2305 : (Jvm.Cond.instanceMethod ({ cls := "ShareHouseModel", name := "program", desc := "()V" } : Jvm.MethodName)) ∈ lw_all := lw_g (lw_at lw_m9 174 rfl) rfl
theorem q2306 : (Jvm.Cond.code ({ cls := "ShareHouseModel", name := "program", desc := "()V" } : Jvm.MethodName) prog_17_method_43_code (3 : Nat) (Option.none : Option Jvm.ClassFile.FieldType)) ∈ lw_all := lw_g (lw_at lw_m9 175 rfl) rfl
theorem q2307 : (Jvm.Cond.methodLink "ShareHouseModel" (383 : Nat) ({ cls := "ShareHouseModel", name := "gap", desc := "()V" } : Jvm.MethodName)) ∈ lw_all := lw_g (lw_at lw_m9 176 rfl) rfl
theorem q2308 : (Jvm.Cond.privateMethod ({ cls := "ShareHouseModel", name := "gap", desc := "()V" } : Jvm.MethodName)) ∈ lw_tbl := lw_at lw_m9 177 rfl
theorem q2309 : (Jvm.Cond.instanceMethod ({ cls := "ShareHouseModel", name := "gap", desc := "()V" } : Jvm.MethodName)) ∈ lw_all := lw_g (lw_at lw_m9 178 rfl) rfl
theorem q2310 : (Jvm.Cond.code ({ cls := "ShareHouseModel", name := "gap", desc := "()V" } : Jvm.MethodName) prog_17_method_7_code (3 : Nat) (Option.none : Option Jvm.ClassFile.FieldType)) ∈ lw_all := lw_g (lw_at lw_m9 179 rfl) rfl
theorem q2311 : (Jvm.Cond.methodLink "ShareHouseModel" (329 : Nat) ({ cls := "ShareHouseModel", name := "look0", desc := "(I)I" } : Jvm.MethodName)) ∈ lw_all := lw_g (lw_at lw_m9 180 rfl) rfl
theorem q2312 : (Jvm.Cond.privateMethod ({ cls := "ShareHouseModel", name := "look0", desc := "(I)I" } : Jvm.MethodName)) ∈ lw_tbl := lw_at lw_m9 181 rfl
theorem q2313 : (Jvm.Cond.instanceMethod ({ cls := "ShareHouseModel", name := "look0", desc := "(I)I" } : Jvm.MethodName)) ∈ lw_all := lw_g (lw_at lw_m9 182 rfl) rfl
theorem q2314 : (Jvm.Cond.code ({ cls := "ShareHouseModel", name := "look0", desc := "(I)I" } : Jvm.MethodName) prog_17_method_6_code (2 : Nat) (Option.some Jvm.ClassFile.FieldType.int)) ∈ lw_all := lw_g (lw_at lw_m9 183 rfl) rfl
theorem q2315 : (Jvm.Cond.methodLink "ShareHouseModel" (390 : Nat) ({ cls := "ShareHouseModel", name := "fail", desc := "(II)V" } : Jvm.MethodName)) ∈ lw_all := lw_g (lw_at lw_m9 184 rfl) rfl
theorem q2316 : (Jvm.Cond.privateMethod ({ cls := "ShareHouseModel", name := "fail", desc := "(II)V" } : Jvm.MethodName)) ∈ lw_tbl := lw_at lw_m9 185 rfl
theorem q2317 : (Jvm.Cond.instanceMethod ({ cls := "ShareHouseModel", name := "fail", desc := "(II)V" } : Jvm.MethodName)) ∈ lw_all := lw_g (lw_at lw_m9 186 rfl) rfl
theorem q2318 : (Jvm.Cond.code ({ cls := "ShareHouseModel", name := "fail", desc := "(II)V" } : Jvm.MethodName) prog_17_method_5_code (3 : Nat) (Option.none : Option Jvm.ClassFile.FieldType)) ∈ lw_all := lw_g (lw_at lw_m9 187 rfl) rfl
theorem q2319 : (Jvm.Cond.methodLink "ShareHouseModel" (408 : Nat) ({ cls := "ShareHouseModel", name := "isSign", desc := "(I)Z" } : Jvm.MethodName)) ∈ lw_all := lw_g (lw_at lw_m9 188 rfl) rfl
theorem q2320 : (Jvm.Cond.privateMethod ({ cls := "ShareHouseModel", name := "isSign", desc := "(I)Z" } : Jvm.MethodName)) ∈ lw_tbl := lw_at lw_m9 189 rfl
theorem q2321 : (Jvm.Cond.instanceMethod ({ cls := "ShareHouseModel", name := "isSign", desc := "(I)Z" } : Jvm.MethodName)) ∈ lw_all := lw_g (lw_at lw_m9 190 rfl) rfl
theorem q2322 : (Jvm.Cond.code ({ cls := "ShareHouseModel", name := "isSign", desc := "(I)Z" } : Jvm.MethodName) prog_17_method_16_code (2 : Nat) (Option.some Jvm.ClassFile.FieldType.boolean)) ∈ lw_all := lw_g (lw_at lw_m9 191 rfl) rfl
theorem q2323 : (Jvm.Cond.methodLink "ShareHouseModel" (405 : Nat) ({ cls := "ShareHouseModel", name := "isPair", desc := "()Z" } : Jvm.MethodName)) ∈ lw_all := lw_g (lw_at lw_m9 192 rfl) rfl
theorem q2324 : (Jvm.Cond.privateMethod ({ cls := "ShareHouseModel", name := "isPair", desc := "()Z" } : Jvm.MethodName)) ∈ lw_tbl := lw_at lw_m9 193 rfl
theorem q2325 : (Jvm.Cond.instanceMethod ({ cls := "ShareHouseModel", name := "isPair", desc := "()Z" } : Jvm.MethodName)) ∈ lw_all := lw_g (lw_at lw_m9 194 rfl) rfl
theorem q2326 : (Jvm.Cond.code ({ cls := "ShareHouseModel", name := "isPair", desc := "()Z" } : Jvm.MethodName) prog_17_method_15_code (3 : Nat) (Option.some Jvm.ClassFile.FieldType.boolean)) ∈ lw_all := lw_g (lw_at lw_m9 195 rfl) rfl
theorem q2327 : (Jvm.Cond.methodLink "ShareHouseModel" (513 : Nat) ({ cls := "ShareHouseModel", name := "closeBlock", desc := "()V" } : Jvm.MethodName)) ∈ lw_all := lw_g (lw_at lw_m9 196 rfl) rfl
theorem q2328 : (Jvm.Cond.privateMethod ({ cls := "ShareHouseModel", name := "closeBlock", desc := "()V" } : Jvm.MethodName)) ∈ lw_tbl := lw_at lw_m9 197 rfl
theorem q2329 : (Jvm.Cond.instanceMethod ({ cls := "ShareHouseModel", name := "closeBlock", desc := "()V" } : Jvm.MethodName)) ∈ lw_all := lw_g (lw_at lw_m9 198 rfl) rfl
theorem q2330 : (Jvm.Cond.code ({ cls := "ShareHouseModel", name := "closeBlock", desc := "()V" } : Jvm.MethodName) prog_17_method_41_code (4 : Nat) (Option.none : Option Jvm.ClassFile.FieldType)) ∈ lw_all := lw_g (lw_at lw_m9 199 rfl) rfl
theorem q2331 : (Jvm.Cond.methodLink "ShareHouseModel" (423 : Nat) ({ cls := "ShareHouseModel", name := "put", desc := "(IIII)I" } : Jvm.MethodName)) ∈ lw_all := lw_g (lw_at lw_m9 200 rfl) rfl
theorem q2332 : (Jvm.Cond.privateMethod ({ cls := "ShareHouseModel", name := "put", desc := "(IIII)I" } : Jvm.MethodName)) ∈ lw_tbl := lw_at lw_m9 201 rfl
theorem q2333 : (Jvm.Cond.instanceMethod ({ cls := "ShareHouseModel", name := "put", desc := "(IIII)I" } : Jvm.MethodName)) ∈ lw_all := lw_g (lw_at lw_m9 202 rfl) rfl
theorem q2334 : (Jvm.Cond.code ({ cls := "ShareHouseModel", name := "put", desc := "(IIII)I" } : Jvm.MethodName) prog_17_method_19_code (5 : Nat) (Option.some Jvm.ClassFile.FieldType.int)) ∈ lw_all := lw_g (lw_at lw_m9 203 rfl) rfl
theorem q2335 : (Jvm.Cond.stringRef "ShareHouseModel" (371 : Nat) "else") ∈ lw_tbl := lw_at lw_m9 204 rfl
theorem q2336 : (Jvm.Cond.methodLink "ShareHouseModel" (355 : Nat) ({ cls := "ShareHouseModel", name := "isWord", desc := "(Ljava/lang/String;)Z" } : Jvm.MethodName)) ∈ lw_all := lw_g (lw_at lw_m9 205 rfl) rfl
theorem q2337 : (Jvm.Cond.privateMethod ({ cls := "ShareHouseModel", name := "isWord", desc := "(Ljava/lang/String;)Z" } : Jvm.MethodName)) ∈ lw_tbl := lw_at lw_m9 206 rfl
theorem q2338 : (Jvm.Cond.instanceMethod ({ cls := "ShareHouseModel", name := "isWord", desc := "(Ljava/lang/String;)Z" } : Jvm.MethodName)) ∈ lw_all := lw_g (lw_at lw_m9 207 rfl) rfl
theorem q2339 : (Jvm.Cond.code ({ cls := "ShareHouseModel", name := "isWord", desc := "(Ljava/lang/String;)Z" } : Jvm.MethodName) prog_17_method_11_code (5 : Nat) (Option.some Jvm.ClassFile.FieldType.boolean)) ∈ lw_all := lw_g (lw_at lw_m9 208 rfl) rfl
theorem q2340 : (Jvm.Cond.methodLink "ShareHouseModel" (340 : Nat) ({ cls := "ShareHouseModel", name := "wordEnd", desc := "()I" } : Jvm.MethodName)) ∈ lw_all := lw_g (lw_at lw_m9 209 rfl) rfl
theorem q2341 : (Jvm.Cond.privateMethod ({ cls := "ShareHouseModel", name := "wordEnd", desc := "()I" } : Jvm.MethodName)) ∈ lw_tbl := lw_at lw_m9 210 rfl
theorem q2342 : (Jvm.Cond.instanceMethod ({ cls := "ShareHouseModel", name := "wordEnd", desc := "()I" } : Jvm.MethodName)) ∈ lw_all := lw_g (lw_at lw_m9 211 rfl) rfl
theorem q2343 : (Jvm.Cond.code ({ cls := "ShareHouseModel", name := "wordEnd", desc := "()I" } : Jvm.MethodName) prog_17_method_10_code (2 : Nat) (Option.some Jvm.ClassFile.FieldType.int)) ∈ lw_all := lw_g (lw_at lw_m9 212 rfl) rfl
theorem q2344 : (Jvm.Cond.methodLink "ShareHouseModel" (333 : Nat) ({ cls := "ShareHouseModel", name := "isLetter", desc := "(I)Z" } : Jvm.MethodName)) ∈ lw_all := lw_g (lw_at lw_m9 213 rfl) rfl
theorem q2345 : (Jvm.Cond.static ({ cls := "ShareHouseModel", name := "isLetter", desc := "(I)Z" } : Jvm.MethodName)) ∈ lw_all := lw_g (lw_at lw_m9 214 rfl) rfl
theorem q2346 : (Jvm.Cond.code ({ cls := "ShareHouseModel", name := "isLetter", desc := "(I)Z" } : Jvm.MethodName) prog_17_method_8_code (1 : Nat) (Option.some Jvm.ClassFile.FieldType.boolean)) ∈ lw_all := lw_g (lw_at lw_m9 215 rfl) rfl
theorem q2347 : (Jvm.Cond.methodLink "ShareHouseModel" (337 : Nat) ({ cls := "ShareHouseModel", name := "isDigit", desc := "(I)Z" } : Jvm.MethodName)) ∈ lw_all := lw_g (lw_at lw_m9 216 rfl) rfl
theorem q2348 : (Jvm.Cond.static ({ cls := "ShareHouseModel", name := "isDigit", desc := "(I)Z" } : Jvm.MethodName)) ∈ lw_all := lw_g (lw_at lw_m9 217 rfl) rfl
theorem q2349 : (Jvm.Cond.code ({ cls := "ShareHouseModel", name := "isDigit", desc := "(I)Z" } : Jvm.MethodName) prog_17_method_9_code (1 : Nat) (Option.some Jvm.ClassFile.FieldType.boolean)) ∈ lw_all := lw_g (lw_at lw_m9 218 rfl) rfl
theorem q2350 : (Jvm.Cond.methodLink "ShareHouseModel" (344 : Nat) ({ cls := "java/lang/String", name := "length", desc := "()I" } : Jvm.MethodName)) ∈ lw_all := lw_g (lw_at lw_m9 219 rfl) rfl
theorem q2351 : (Jvm.Cond.methodLink "ShareHouseModel" (349 : Nat) ({ cls := "java/lang/String", name := "charAt", desc := "(I)C" } : Jvm.MethodName)) ∈ lw_all := lw_g (lw_at lw_m9 220 rfl) rfl
theorem q2352 : (Jvm.Cond.stringRef "ShareHouseModel" (369 : Nat) "if") ∈ lw_tbl := lw_at lw_m9 221 rfl
theorem q2353 : (Jvm.Cond.methodLink "ShareHouseModel" (430 : Nat) ({ cls := "ShareHouseModel", name := "deeper", desc := "(I)V" } : Jvm.MethodName)) ∈ lw_all := lw_g (lw_at lw_m9 222 rfl) rfl
theorem q2354 : (Jvm.Cond.privateMethod ({ cls := "ShareHouseModel", name := "deeper", desc := "(I)V" } : Jvm.MethodName)) ∈ lw_tbl := lw_at lw_m9 223 rfl
theorem q2355 : (Jvm.Cond.instanceMethod ({ cls := "ShareHouseModel", name := "deeper", desc := "(I)V" } : Jvm.MethodName)) ∈ lw_all := lw_g (lw_at lw_m9 224 rfl) rfl
theorem q2356 : (Jvm.Cond.code ({ cls := "ShareHouseModel", name := "deeper", desc := "(I)V" } : Jvm.MethodName) prog_17_method_20_code (2 : Nat) (Option.none : Option Jvm.ClassFile.FieldType)) ∈ lw_all := lw_g (lw_at lw_m9 225 rfl) rfl
theorem q2357 : (Jvm.Cond.methodLink "ShareHouseModel" (507 : Nat) ({ cls := "ShareHouseModel", name := "ifStatement", desc := "(I)V" } : Jvm.MethodName)) ∈ lw_all := lw_g (lw_at lw_m9 226 rfl) rfl
theorem q2358 : (Jvm.Cond.privateMethod ({ cls := "ShareHouseModel", name := "ifStatement", desc := "(I)V" } : Jvm.MethodName)) ∈ lw_tbl := lw_at lw_m9 227 rfl
theorem q2359 : (Jvm.Cond.instanceMethod ({ cls := "ShareHouseModel", name := "ifStatement", desc := "(I)V" } : Jvm.MethodName)) ∈ lw_all := lw_g (lw_at lw_m9 228 rfl) rfl
theorem q2360 : (Jvm.Cond.code ({ cls := "ShareHouseModel", name := "ifStatement", desc := "(I)V" } : Jvm.MethodName) prog_17_method_38_code (4 : Nat) (Option.none : Option Jvm.ClassFile.FieldType)) ∈ lw_all := lw_g (lw_at lw_m9 229 rfl) rfl
theorem q2361 : (Jvm.Cond.methodLink "ShareHouseModel" (442 : Nat) ({ cls := "ShareHouseModel", name := "sign", desc := "(I)V" } : Jvm.MethodName)) ∈ lw_all := lw_g (lw_at lw_m9 230 rfl) rfl
theorem q2362 : (Jvm.Cond.privateMethod ({ cls := "ShareHouseModel", name := "sign", desc := "(I)V" } : Jvm.MethodName)) ∈ lw_tbl := lw_at lw_m9 231 rfl
theorem q2363 : (Jvm.Cond.instanceMethod ({ cls := "ShareHouseModel", name := "sign", desc := "(I)V" } : Jvm.MethodName)) ∈ lw_all := lw_g (lw_at lw_m9 232 rfl) rfl
theorem q2364 : (Jvm.Cond.code ({ cls := "ShareHouseModel", name := "sign", desc := "(I)V" } : Jvm.MethodName) prog_17_method_17_code (2 : Nat) (Option.none : Option Jvm.ClassFile.FieldType)) ∈ lw_all := lw_g (lw_at lw_m9 233 rfl) rfl
theorem q2365 : (Jvm.Cond.methodLink "ShareHouseModel" (496 : Nat) ({ cls := "ShareHouseModel", name := "expression", desc := "()V" } : Jvm.MethodName)) ∈ lw_all := lw_g (lw_at lw_m9 234 rfl) rfl
theorem q2366 : (Jvm.Cond.privateMethod ({ cls := "ShareHouseModel", name := "expression", desc := "()V" } : Jvm.MethodName)) ∈ lw_tbl := lw_at lw_m9 235 rfl
theorem q2367 : (Jvm.Cond.instanceMethod ({ cls := "ShareHouseModel", name := "expression", desc := "()V" } : Jvm.MethodName)) ∈ lw_all := lw_g (lw_at lw_m9 236 rfl) rfl
theorem q2368 : (Jvm.Cond.code ({ cls := "ShareHouseModel", name := "expression", desc := "()V" } : Jvm.MethodName) prog_17_method_28_code (6 : Nat) (Option.none : Option Jvm.ClassFile.FieldType)) ∈ lw_all := lw_g (lw_at lw_m9 237 rfl) rfl
theorem q2369 : (Jvm.Cond.methodLink "ShareHouseModel" (448 : Nat) ({ cls := "ShareHouseModel", name := "takeOperand", desc := "()Z" } : Jvm.MethodName)) ∈ lw_all := lw_g (lw_at lw_m9 238 rfl) rfl
theorem q2370 : (Jvm.Cond.privateMethod ({ cls := "ShareHouseModel", name := "takeOperand", desc := "()Z" } : Jvm.MethodName)) ∈ lw_tbl := lw_at lw_m9 239 rfl
theorem q2371 : (Jvm.Cond.instanceMethod ({ cls := "ShareHouseModel", name := "takeOperand", desc := "()Z" } : Jvm.MethodName)) ∈ lw_all := lw_g (lw_at lw_m10 0 rfl) rfl
theorem q2372 : (Jvm.Cond.code ({ cls := "ShareHouseModel", name := "takeOperand", desc := "()Z" } : Jvm.MethodName) prog_17_method_27_code (6 : Nat) (Option.some Jvm.ClassFile.FieldType.boolean)) ∈ lw_all := lw_g (lw_at lw_m10 1 rfl) rfl
theorem q2373 : (Jvm.Cond.methodLink "ShareHouseModel" (434 : Nat) ({ cls := "ShareHouseModel", name := "push", desc := "(III)V" } : Jvm.MethodName)) ∈ lw_all := lw_g (lw_at lw_m10 2 rfl) rfl
theorem q2374 : (Jvm.Cond.privateMethod ({ cls := "ShareHouseModel", name := "push", desc := "(III)V" } : Jvm.MethodName)) ∈ lw_tbl := lw_at lw_m10 3 rfl
theorem q2375 : (Jvm.Cond.instanceMethod ({ cls := "ShareHouseModel", name := "push", desc := "(III)V" } : Jvm.MethodName)) ∈ lw_all := lw_g (lw_at lw_m10 4 rfl) rfl
theorem q2376 : (Jvm.Cond.code ({ cls := "ShareHouseModel", name := "push", desc := "(III)V" } : Jvm.MethodName) prog_17_method_21_code (4 : Nat) (Option.none : Option Jvm.ClassFile.FieldType)) ∈ lw_all := lw_g (lw_at lw_m10 5 rfl) rfl
theorem q2377 : (Jvm.Cond.constantLong "ShareHouseModel" (403 : Nat) (4294967295 : Int64)) ∈ lw_all := lw_g (lw_at lw_m10 6 rfl) rfl
theorem q2378 : (Jvm.Cond.methodLink "ShareHouseModel" (438 : Nat) ({ cls := "ShareHouseModel", name := "number", desc := "(JJ)V" } : Jvm.MethodName)) ∈ lw_all := lw_g (lw_at lw_m10 7 rfl) rfl
theorem q2379 : (Jvm.Cond.privateMethod ({ cls := "ShareHouseModel", name := "number", desc := "(JJ)V" } : Jvm.MethodName)) ∈ lw_tbl := lw_at lw_m10 8 rfl
theorem q2380 : (Jvm.Cond.instanceMethod ({ cls := "ShareHouseModel", name := "number", desc := "(JJ)V" } : Jvm.MethodName)) ∈ lw_all := lw_g (lw_at lw_m10 9 rfl) rfl
theorem q2381 : (Jvm.Cond.code ({ cls := "ShareHouseModel", name := "number", desc := "(JJ)V" } : Jvm.MethodName) prog_17_method_14_code (6 : Nat) (Option.none : Option Jvm.ClassFile.FieldType)) ∈ lw_all := lw_g (lw_at lw_m10 10 rfl) rfl
theorem q2382 : (Jvm.Cond.constantLong "ShareHouseModel" (399 : Nat) (10 : Int64)) ∈ lw_all := lw_g (lw_at lw_m10 11 rfl) rfl
theorem q2383 : (Jvm.Cond.constantLong "ShareHouseModel" (401 : Nat) (48 : Int64)) ∈ lw_all := lw_g (lw_at lw_m10 12 rfl) rfl
theorem q2384 : (Jvm.Cond.stringRef "ShareHouseModel" (379 : Nat) "true") ∈ lw_tbl := lw_at lw_m10 13 rfl
theorem q2385 : (Jvm.Cond.stringRef "ShareHouseModel" (381 : Nat) "false") ∈ lw_tbl := lw_at lw_m10 14 rfl
theorem q2386 : (Jvm.Cond.stringRef "ShareHouseModel" (375 : Nat) "int") ∈ lw_tbl := lw_at lw_m10 15 rfl
theorem q2387 : (Jvm.Cond.stringRef "ShareHouseModel" (377 : Nat) "bit") ∈ lw_tbl := lw_at lw_m10 16 rfl
theorem q2388 : (Jvm.Cond.methodLink "ShareHouseModel" (445 : Nat) ({ cls := "ShareHouseModel", name := "name", desc := "()I" } : Jvm.MethodName)) ∈ lw_all := lw_g (lw_at lw_m10 17 rfl) rfl
theorem q2389 : (Jvm.Cond.privateMethod ({ cls := "ShareHouseModel", name := "name", desc := "()I" } : Jvm.MethodName)) ∈ lw_tbl := lw_at lw_m10 18 rfl
theorem q2390 : (Jvm.Cond.instanceMethod ({ cls := "ShareHouseModel", name := "name", desc := "()I" } : Jvm.MethodName)) ∈ lw_all := lw_g (lw_at lw_m10 19 rfl) rfl
theorem q2391 : (Jvm.Cond.code ({ cls := "ShareHouseModel", name := "name", desc := "()I" } : Jvm.MethodName) prog_17_method_13_code (6 : Nat) (Option.some Jvm.ClassFile.FieldType.int)) ∈ lw_all := lw_g (lw_at lw_m10 20 rfl) rfl
theorem q2392 : (Jvm.Cond.methodLink "ShareHouseModel" (386 : Nat) ({ cls := "ShareHouseModel", name := "isKept", desc := "()Z" } : Jvm.MethodName)) ∈ lw_all := lw_g (lw_at lw_m10 21 rfl) rfl
theorem q2393 : (Jvm.Cond.privateMethod ({ cls := "ShareHouseModel", name := "isKept", desc := "()Z" } : Jvm.MethodName)) ∈ lw_tbl := lw_at lw_m10 22 rfl
theorem q2394 : (Jvm.Cond.instanceMethod ({ cls := "ShareHouseModel", name := "isKept", desc := "()Z" } : Jvm.MethodName)) ∈ lw_all := lw_g (lw_at lw_m10 23 rfl) rfl
theorem q2395 : (Jvm.Cond.code ({ cls := "ShareHouseModel", name := "isKept", desc := "()Z" } : Jvm.MethodName) prog_17_method_12_code (1 : Nat) (Option.some Jvm.ClassFile.FieldType.boolean)) ∈ lw_all := lw_g (lw_at lw_m10 24 rfl) rfl
theorem q2396 : (Jvm.Cond.stringRef "ShareHouseModel" (353 : Nat) "input") ∈ lw_tbl := lw_at lw_m10 25 rfl
theorem q2397 : (Jvm.Cond.stringRef "ShareHouseModel" (359 : Nat) "of") ∈ lw_tbl := lw_at lw_m10 26 rfl
theorem q2398 : (Jvm.Cond.stringRef "ShareHouseModel" (361 : Nat) "var") ∈ lw_tbl := lw_at lw_m10 27 rfl
theorem q2399 : (Jvm.Cond.stringRef "ShareHouseModel" (363 : Nat) "def") ∈ lw_tbl := lw_at lw_m10 28 rfl
theorem q2400 : (Jvm.Cond.stringRef "ShareHouseModel" (365 : Nat) "for") ∈ lw_tbl := lw_at lw_m10 29 rfl
theorem q2401 : (Jvm.Cond.stringRef "ShareHouseModel" (367 : Nat) "to") ∈ lw_tbl := lw_at lw_m10 30 rfl
theorem q2402 : (Jvm.Cond.stringRef "ShareHouseModel" (373 : Nat) "output") ∈ lw_tbl := lw_at lw_m10 31 rfl
theorem q2403 : (Jvm.Cond.methodLink "ShareHouseModel" (451 : Nat) ({ cls := "ShareHouseModel", name := "signsOver", desc := "(I)V" } : Jvm.MethodName)) ∈ lw_all := lw_g (lw_at lw_m10 32 rfl) rfl
theorem q2404 : (Jvm.Cond.privateMethod ({ cls := "ShareHouseModel", name := "signsOver", desc := "(I)V" } : Jvm.MethodName)) ∈ lw_tbl := lw_at lw_m10 33 rfl
theorem q2405 : (Jvm.Cond.instanceMethod ({ cls := "ShareHouseModel", name := "signsOver", desc := "(I)V" } : Jvm.MethodName)) ∈ lw_all := lw_g (lw_at lw_m10 34 rfl) rfl
theorem q2406 : (Jvm.Cond.code ({ cls := "ShareHouseModel", name := "signsOver", desc := "(I)V" } : Jvm.MethodName) prog_17_method_26_code (3 : Nat) (Option.none : Option Jvm.ClassFile.FieldType)) ∈ lw_all := lw_g (lw_at lw_m10 35 rfl) rfl
theorem q2407 : (Jvm.Cond.methodLink "ShareHouseModel" (454 : Nat) ({ cls := "ShareHouseModel", name := "operator", desc := "()I" } : Jvm.MethodName)) ∈ lw_all := lw_g (lw_at lw_m10 36 rfl) rfl
theorem q2408 : (Jvm.Cond.privateMethod ({ cls := "ShareHouseModel", name := "operator", desc := "()I" } : Jvm.MethodName)) ∈ lw_tbl := lw_at lw_m10 37 rfl
theorem q2409 : (Jvm.Cond.instanceMethod ({ cls := "ShareHouseModel", name := "operator", desc := "()I" } : Jvm.MethodName)) ∈ lw_all := lw_g (lw_at lw_m10 38 rfl) rfl
theorem q2410 : (Jvm.Cond.code ({ cls := "ShareHouseModel", name := "operator", desc := "()I" } : Jvm.MethodName) prog_17_method_23_code (3 : Nat) (Option.some Jvm.ClassFile.FieldType.int)) ∈ lw_all := lw_g (lw_at lw_m10 39 rfl) rfl
theorem q2411 : (Jvm.Cond.methodLink "ShareHouseModel" (457 : Nat) ({ cls := "ShareHouseModel", name := "isFresh", desc := "()Z" } : Jvm.MethodName)) ∈ lw_all := lw_g (lw_at lw_m10 40 rfl) rfl
theorem q2412 : (Jvm.Cond.privateMethod ({ cls := "ShareHouseModel", name := "isFresh", desc := "()Z" } : Jvm.MethodName)) ∈ lw_tbl := lw_at lw_m10 41 rfl
theorem q2413 : (Jvm.Cond.instanceMethod ({ cls := "ShareHouseModel", name := "isFresh", desc := "()Z" } : Jvm.MethodName)) ∈ lw_all := lw_g (lw_at lw_m10 42 rfl) rfl
theorem q2414 : (Jvm.Cond.code ({ cls := "ShareHouseModel", name := "isFresh", desc := "()Z" } : Jvm.MethodName) prog_17_method_29_code (1 : Nat) (Option.some Jvm.ClassFile.FieldType.boolean)) ∈ lw_all := lw_g (lw_at lw_m10 43 rfl) rfl
theorem q2415 : (Jvm.Cond.methodLink "ShareHouseModel" (420 : Nat) ({ cls := "ShareHouseModel", name := "rank", desc := "(I)I" } : Jvm.MethodName)) ∈ lw_all := lw_g (lw_at lw_m10 44 rfl) rfl
theorem q2416 : (Jvm.Cond.static ({ cls := "ShareHouseModel", name := "rank", desc := "(I)I" } : Jvm.MethodName)) ∈ lw_all := lw_g (lw_at lw_m10 45 rfl) rfl
theorem q2417 : (Jvm.Cond.code ({ cls := "ShareHouseModel", name := "rank", desc := "(I)I" } : Jvm.MethodName) prog_17_method_22_code (1 : Nat) (Option.some Jvm.ClassFile.FieldType.int)) ∈ lw_all := lw_g (lw_at lw_m10 46 rfl) rfl
theorem q2418 : (Jvm.Cond.methodLink "ShareHouseModel" (427 : Nat) ({ cls := "ShareHouseModel", name := "reduce", desc := "(II)V" } : Jvm.MethodName)) ∈ lw_all := lw_g (lw_at lw_m10 47 rfl) rfl
theorem q2419 : (Jvm.Cond.privateMethod ({ cls := "ShareHouseModel", name := "reduce", desc := "(II)V" } : Jvm.MethodName)) ∈ lw_tbl := lw_at lw_m10 48 rfl
theorem q2420 : (Jvm.Cond.instanceMethod ({ cls := "ShareHouseModel", name := "reduce", desc := "(II)V" } : Jvm.MethodName)) ∈ lw_all := lw_g (lw_at lw_m10 49 rfl) rfl
theorem q2421 : (Jvm.Cond.code ({ cls := "ShareHouseModel", name := "reduce", desc := "(II)V" } : Jvm.MethodName) prog_17_method_24_code (4 : Nat) (Option.none : Option Jvm.ClassFile.FieldType)) ∈ lw_all := lw_g (lw_at lw_m10 50 rfl) rfl
theorem q2422 : (Jvm.Cond.methodLink "ShareHouseModel" (460 : Nat) ({ cls := "ShareHouseModel", name := "closes", desc := "(I)Z" } : Jvm.MethodName)) ∈ lw_all := lw_g (lw_at lw_m10 51 rfl) rfl
theorem q2423 : (Jvm.Cond.privateMethod ({ cls := "ShareHouseModel", name := "closes", desc := "(I)Z" } : Jvm.MethodName)) ∈ lw_tbl := lw_at lw_m10 52 rfl
theorem q2424 : (Jvm.Cond.instanceMethod ({ cls := "ShareHouseModel", name := "closes", desc := "(I)Z" } : Jvm.MethodName)) ∈ lw_all := lw_g (lw_at lw_m10 53 rfl) rfl
theorem q2425 : (Jvm.Cond.code ({ cls := "ShareHouseModel", name := "closes", desc := "(I)Z" } : Jvm.MethodName) prog_17_method_30_code (7 : Nat) (Option.some Jvm.ClassFile.FieldType.boolean)) ∈ lw_all := lw_g (lw_at lw_m10 54 rfl) rfl
theorem q2426 : (Jvm.Cond.methodLink "ShareHouseModel" (467 : Nat) ({ cls := "ShareHouseModel", name := "reduceAll", desc := "(I)V" } : Jvm.MethodName)) ∈ lw_all := lw_g (lw_at lw_m10 55 rfl) rfl
theorem q2427 : (Jvm.Cond.privateMethod ({ cls := "ShareHouseModel", name := "reduceAll", desc := "(I)V" } : Jvm.MethodName)) ∈ lw_tbl := lw_at lw_m10 56 rfl
theorem q2428 : (Jvm.Cond.instanceMethod ({ cls := "ShareHouseModel", name := "reduceAll", desc := "(I)V" } : Jvm.MethodName)) ∈ lw_all := lw_g (lw_at lw_m10 57 rfl) rfl
theorem q2429 : (Jvm.Cond.code ({ cls := "ShareHouseModel", name := "reduceAll", desc := "(I)V" } : Jvm.MethodName) prog_17_method_25_code (3 : Nat) (Option.none : Option Jvm.ClassFile.FieldType)) ∈ lw_all := lw_g (lw_at lw_m10 58 rfl) rfl
theorem q2430 : (Jvm.Cond.methodLink "ShareHouseModel" (504 : Nat) ({ cls := "ShareHouseModel", name := "openBlock", desc := "(II)V" } : Jvm.MethodName)) ∈ lw_all := lw_g (lw_at lw_m10 59 rfl) rfl
theorem q2431 : (Jvm.Cond.privateMethod ({ cls := "ShareHouseModel", name := "openBlock", desc := "(II)V" } : Jvm.MethodName)) ∈ lw_tbl := lw_at lw_m10 60 rfl
theorem q2432 : (Jvm.Cond.instanceMethod ({ cls := "ShareHouseModel", name := "openBlock", desc := "(II)V" } : Jvm.MethodName)) ∈ lw_all := lw_g (lw_at lw_m10 61 rfl) rfl
theorem q2433 : (Jvm.Cond.code ({ cls := "ShareHouseModel", name := "openBlock", desc := "(II)V" } : Jvm.MethodName) prog_17_method_37_code (3 : Nat) (Option.none : Option Jvm.ClassFile.FieldType)) ∈ lw_all := lw_g (lw_at lw_m10 62 rfl) rfl
theorem q2434 : (Jvm.Cond.methodLink "ShareHouseModel" (510 : Nat) ({ cls := "ShareHouseModel", name := "endIf", desc := "(I)V" } : Jvm.MethodName)) ∈ lw_all := lw_g (lw_at lw_m10 63 rfl) rfl
theorem q2435 : (Jvm.Cond.privateMethod ({ cls := "ShareHouseModel", name := "endIf", desc := "(I)V" } : Jvm.MethodName)) ∈ lw_tbl := lw_at lw_m10 64 rfl
theorem q2436 : (Jvm.Cond.instanceMethod ({ cls := "ShareHouseModel", name := "endIf", desc := "(I)V" } : Jvm.MethodName)) ∈ lw_all := lw_g (lw_at lw_m10 65 rfl) rfl
theorem q2437 : (Jvm.Cond.code ({ cls := "ShareHouseModel", name := "endIf", desc := "(I)V" } : Jvm.MethodName) prog_17_method_42_code (3 : Nat) (Option.none : Option Jvm.ClassFile.FieldType)) ∈ lw_all := lw_g (lw_at lw_m10 66 rfl) rfl
theorem q2438 : (Jvm.Cond.methodLink "ShareHouseModel" (516 : Nat) ({ cls := "ShareHouseModel", name := "varStatement", desc := "(I)V" } : Jvm.MethodName)) ∈ lw_all := lw_g (lw_at lw_m10 67 rfl) rfl
theorem q2439 : (Jvm.Cond.privateMethod ({ cls := "ShareHouseModel", name := "varStatement", desc := "(I)V" } : Jvm.MethodName)) ∈ lw_tbl := lw_at lw_m10 68 rfl
theorem q2440 : (Jvm.Cond.instanceMethod ({ cls := "ShareHouseModel", name := "varStatement", desc := "(I)V" } : Jvm.MethodName)) ∈ lw_all := lw_g (lw_at lw_m10 69 rfl) rfl
theorem q2441 : (Jvm.Cond.code ({ cls := "ShareHouseModel", name := "varStatement", desc := "(I)V" } : Jvm.MethodName) prog_17_method_34_code (9 : Nat) (Option.none : Option Jvm.ClassFile.FieldType)) ∈ lw_all := lw_g (lw_at lw_m10 70 rfl) rfl
theorem q2442 : (Jvm.Cond.methodLink "ShareHouseModel" (485 : Nat) ({ cls := "ShareHouseModel", name := "type", desc := "()V" } : Jvm.MethodName)) ∈ lw_all := lw_g (lw_at lw_m10 71 rfl) rfl
theorem q2443 : (Jvm.Cond.privateMethod ({ cls := "ShareHouseModel", name := "type", desc := "()V" } : Jvm.MethodName)) ∈ lw_tbl := lw_at lw_m10 72 rfl
theorem q2444 : (Jvm.Cond.instanceMethod ({ cls := "ShareHouseModel", name := "type", desc := "()V" } : Jvm.MethodName)) ∈ lw_all := lw_g (lw_at lw_m10 73 rfl) rfl
theorem q2445 : (Jvm.Cond.code ({ cls := "ShareHouseModel", name := "type", desc := "()V" } : Jvm.MethodName) prog_17_method_32_code (1 : Nat) (Option.none : Option Jvm.ClassFile.FieldType)) ∈ lw_all := lw_g (lw_at lw_m10 74 rfl) rfl
theorem q2446 : (Jvm.Cond.methodLink "ShareHouseModel" (473 : Nat) ({ cls := "ShareHouseModel", name := "sortWord", desc := "()V" } : Jvm.MethodName)) ∈ lw_all := lw_g (lw_at lw_m10 75 rfl) rfl
theorem q2447 : (Jvm.Cond.privateMethod ({ cls := "ShareHouseModel", name := "sortWord", desc := "()V" } : Jvm.MethodName)) ∈ lw_tbl := lw_at lw_m10 76 rfl
theorem q2448 : (Jvm.Cond.instanceMethod ({ cls := "ShareHouseModel", name := "sortWord", desc := "()V" } : Jvm.MethodName)) ∈ lw_all := lw_g (lw_at lw_m10 77 rfl) rfl
theorem q2449 : (Jvm.Cond.code ({ cls := "ShareHouseModel", name := "sortWord", desc := "()V" } : Jvm.MethodName) prog_17_method_31_code (1 : Nat) (Option.none : Option Jvm.ClassFile.FieldType)) ∈ lw_all := lw_g (lw_at lw_m10 78 rfl) rfl
theorem q2450 : (Jvm.Cond.constantLong "ShareHouseModel" (479 : Nat) (64 : Int64)) ∈ lw_all := lw_g (lw_at lw_m10 79 rfl) rfl
theorem q2451 : (Jvm.Cond.constantLong "ShareHouseModel" (499 : Nat) (65536 : Int64)) ∈ lw_all := lw_g (lw_at lw_m10 80 rfl) rfl
theorem q2452 : (Jvm.Cond.constantLong "ShareHouseModel" (491 : Nat) (256 : Int64)) ∈ lw_all := lw_g (lw_at lw_m10 81 rfl) rfl
theorem q2453 : (Jvm.Cond.methodLink "ShareHouseModel" (519 : Nat) ({ cls := "ShareHouseModel", name := "forStatement", desc := "(I)V" } : Jvm.MethodName)) ∈ lw_all := lw_g (lw_at lw_m10 82 rfl) rfl
theorem q2454 : (Jvm.Cond.privateMethod ({ cls := "ShareHouseModel", name := "forStatement", desc := "(I)V" } : Jvm.MethodName)) ∈ lw_tbl := lw_at lw_m10 83 rfl
theorem q2455 : (Jvm.Cond.instanceMethod ({ cls := "ShareHouseModel", name := "forStatement", desc := "(I)V" } : Jvm.MethodName)) ∈ lw_all := lw_g (lw_at lw_m10 84 rfl) rfl
theorem q2456 : (Jvm.Cond.code ({ cls := "ShareHouseModel", name := "forStatement", desc := "(I)V" } : Jvm.MethodName) prog_17_method_39_code (5 : Nat) (Option.none : Option Jvm.ClassFile.FieldType)) ∈ lw_all := lw_g (lw_at lw_m10 85 rfl) rfl
theorem q2457 : (Jvm.Cond.methodLink "ShareHouseModel" (481 : Nat) ({ cls := "ShareHouseModel", name := "keyword", desc := "(Ljava/lang/String;)V" } : Jvm.MethodName)) ∈ lw_all := lw_g (lw_at lw_m10 86 rfl) rfl
theorem q2458 : (Jvm.Cond.privateMethod ({ cls := "ShareHouseModel", name := "keyword", desc := "(Ljava/lang/String;)V" } : Jvm.MethodName)) ∈ lw_tbl := lw_at lw_m10 87 rfl
theorem q2459 : (Jvm.Cond.instanceMethod ({ cls := "ShareHouseModel", name := "keyword", desc := "(Ljava/lang/String;)V" } : Jvm.MethodName)) ∈ lw_all := lw_g (lw_at lw_m10 88 rfl) rfl
theorem q2460 : (Jvm.Cond.code ({ cls := "ShareHouseModel", name := "keyword", desc := "(Ljava/lang/String;)V" } : Jvm.MethodName) prog_17_method_18_code (2 : Nat) (Option.none : Option Jvm.ClassFile.FieldType)) ∈ lw_all := lw_g (lw_at lw_m10 89 rfl) rfl
theorem q2461 : (Jvm.Cond.methodLink "ShareHouseModel" (522 : Nat) ({ cls := "ShareHouseModel", name := "inputItem", desc := "(I)V" } : Jvm.MethodName)) ∈ lw_all := lw_g (lw_at lw_m10 90 rfl) rfl
theorem q2462 : (Jvm.Cond.privateMethod ({ cls := "ShareHouseModel", name := "inputItem", desc := "(I)V" } : Jvm.MethodName)) ∈ lw_tbl := lw_at lw_m10 91 rfl
theorem q2463 : (Jvm.Cond.instanceMethod ({ cls := "ShareHouseModel", name := "inputItem", desc := "(I)V" } : Jvm.MethodName)) ∈ lw_all := lw_g (lw_at lw_m10 92 rfl) rfl
theorem q2464 : (Jvm.Cond.code ({ cls := "ShareHouseModel", name := "inputItem", desc := "(I)V" } : Jvm.MethodName) prog_17_method_33_code (7 : Nat) (Option.none : Option Jvm.ClassFile.FieldType)) ∈ lw_all := lw_g (lw_at lw_m10 93 rfl) rfl
theorem q2465 : (Jvm.Cond.methodLink "ShareHouseModel" (525 : Nat) ({ cls := "ShareHouseModel", name := "defItem", desc := "(I)V" } : Jvm.MethodName)) ∈ lw_all := lw_g (lw_at lw_m10 94 rfl) rfl
theorem q2466 : (Jvm.Cond.privateMethod ({ cls := "ShareHouseModel", name := "defItem", desc := "(I)V" } : Jvm.MethodName)) ∈ lw_tbl := lw_at lw_m10 95 rfl
theorem q2467 : (Jvm.Cond.instanceMethod ({ cls := "ShareHouseModel", name := "defItem", desc := "(I)V" } : Jvm.MethodName)) ∈ lw_all := lw_g (lw_at lw_m10 96 rfl) rfl
theorem q2468 : (Jvm.Cond.code ({ cls := "ShareHouseModel", name := "defItem", desc := "(I)V" } : Jvm.MethodName) prog_17_method_35_code (9 : Nat) (Option.none : Option Jvm.ClassFile.FieldType)) ∈ lw_all := lw_g (lw_at lw_m10 97 rfl) rfl
theorem q2469 : (Jvm.Cond.methodLink "ShareHouseModel" (528 : Nat) ({ cls := "ShareHouseModel", name := "outputItem", desc := "(I)V" } : Jvm.MethodName)) ∈ lw_all := lw_g (lw_at lw_m10 98 rfl) rfl
theorem q2470 : (Jvm.Cond.privateMethod ({ cls := "ShareHouseModel", name := "outputItem", desc := "(I)V" } : Jvm.MethodName)) ∈ lw_tbl := lw_at lw_m10 99 rfl
theorem q2471 : (Jvm.Cond.instanceMethod ({ cls := "ShareHouseModel", name := "outputItem", desc := "(I)V" } : Jvm.MethodName)) ∈ lw_all := lw_g (lw_at lw_m10 100 rfl) rfl
theorem q2472 : (Jvm.Cond.code ({ cls := "ShareHouseModel", name := "outputItem", desc := "(I)V" } : Jvm.MethodName) prog_17_method_36_code (3 : Nat) (Option.none : Option Jvm.ClassFile.FieldType)) ∈ lw_all := lw_g (lw_at lw_m10 101 rfl) rfl
theorem q2473 : (Jvm.Cond.methodLink "ShareHouseModel" (531 : Nat) ({ cls := "ShareHouseModel", name := "assignment", desc := "(I)V" } : Jvm.MethodName)) ∈ lw_all := lw_g (lw_at lw_m10 102 rfl) rfl
theorem q2474 : (Jvm.Cond.privateMethod ({ cls := "ShareHouseModel", name := "assignment", desc := "(I)V" } : Jvm.MethodName)) ∈ lw_tbl := lw_at lw_m10 103 rfl
theorem q2475 : (Jvm.Cond.instanceMethod ({ cls := "ShareHouseModel", name := "assignment", desc := "(I)V" } : Jvm.MethodName)) ∈ lw_all := lw_g (lw_at lw_m10 104 rfl) rfl
theorem q2476 : (Jvm.Cond.code ({ cls := "ShareHouseModel", name := "assignment", desc := "(I)V" } : Jvm.MethodName) prog_17_method_40_code (5 : Nat) (Option.none : Option Jvm.ClassFile.FieldType)) ∈ lw_all := lw_g (lw_at lw_m10 105 rfl) rfl
theorem q2477 : (Jvm.Cond.methodLink "ShareHouseModel" (842 : Nat) ({ cls := "ShareHouseModel", name := "sorts", desc := "()V" } : Jvm.MethodName)) ∈ lw_all := lw_g (lw_at lw_m10 106 rfl) rfl
theorem q2478 : (Jvm.Cond.privateMethod ({ cls := "ShareHouseModel", name := "sorts", desc := "()V" } : Jvm.MethodName)) ∈ lw_tbl := lw_at lw_m10 107 rfl
theorem q2479 : (Jvm.Cond.instanceMethod ({ cls := "ShareHouseModel", name := "sorts", desc := "()V" } : Jvm.MethodName)) ∈ lw_all := lw_g (lw_at lw_m10 108 rfl) rfl
theorem q2480 : (Jvm.Cond.code ({ cls := "ShareHouseModel", name := "sorts", desc := "()V" } : Jvm.MethodName) prog_17_method_52_code (2 : Nat) (Option.none : Option Jvm.ClassFile.FieldType)) ∈ lw_all := lw_g (lw_at lw_m10 109 rfl) rfl
theorem q2481 : (Jvm.Cond.methodLink "ShareHouseModel" (558 : Nat) ({ cls := "ShareHouseModel", name := "operandSort", desc := "(I)V" } : Jvm.MethodName)) ∈ lw_all := lw_g (lw_at lw_m10 110 rfl) rfl
theorem q2482 : (Jvm.Cond.privateMethod ({ cls := "ShareHouseModel", name := "operandSort", desc := "(I)V" } : Jvm.MethodName)) ∈ lw_tbl := lw_at lw_m10 111 rfl
theorem q2483 : (Jvm.Cond.instanceMethod ({ cls := "ShareHouseModel", name := "operandSort", desc := "(I)V" } : Jvm.MethodName)) ∈ lw_all := lw_g (lw_at lw_m10 112 rfl) rfl
theorem q2484 : (Jvm.Cond.code ({ cls := "ShareHouseModel", name := "operandSort", desc := "(I)V" } : Jvm.MethodName) prog_17_method_53_code (5 : Nat) (Option.none : Option Jvm.ClassFile.FieldType)) ∈ lw_all := lw_g (lw_at lw_m10 113 rfl) rfl
theorem q2485 : (Jvm.Cond.methodLink "ShareHouseModel" (564 : Nat) ({ cls := "ShareHouseModel", name := "pile", desc := "(IIZ)V" } : Jvm.MethodName)) ∈ lw_all := lw_g (lw_at lw_m10 114 rfl) rfl
theorem q2486 : (Jvm.Cond.privateMethod ({ cls := "ShareHouseModel", name := "pile", desc := "(IIZ)V" } : Jvm.MethodName)) ∈ lw_tbl := lw_at lw_m10 115 rfl
theorem q2487 : (Jvm.Cond.instanceMethod ({ cls := "ShareHouseModel", name := "pile", desc := "(IIZ)V" } : Jvm.MethodName)) ∈ lw_all := lw_g (lw_at lw_m10 116 rfl) rfl
theorem q2488 : (Jvm.Cond.code ({ cls := "ShareHouseModel", name := "pile", desc := "(IIZ)V" } : Jvm.MethodName) prog_17_method_46_code (4 : Nat) (Option.none : Option Jvm.ClassFile.FieldType)) ∈ lw_all := lw_g (lw_at lw_m10 117 rfl) rfl
theorem q2489 : (Jvm.Cond.methodLink "ShareHouseModel" (568 : Nat) ({ cls := "ShareHouseModel", name := "used", desc := "(I)I" } : Jvm.MethodName)) ∈ lw_all := lw_g (lw_at lw_m10 118 rfl) rfl
theorem q2490 : (Jvm.Cond.privateMethod ({ cls := "ShareHouseModel", name := "used", desc := "(I)I" } : Jvm.MethodName)) ∈ lw_tbl := lw_at lw_m10 119 rfl
theorem q2491 : (Jvm.Cond.instanceMethod ({ cls := "ShareHouseModel", name := "used", desc := "(I)I" } : Jvm.MethodName)) ∈ lw_all := lw_g (lw_at lw_m10 120 rfl) rfl
theorem q2492 : (Jvm.Cond.code ({ cls := "ShareHouseModel", name := "used", desc := "(I)I" } : Jvm.MethodName) prog_17_method_49_code (3 : Nat) (Option.some Jvm.ClassFile.FieldType.int)) ∈ lw_all := lw_g (lw_at lw_m10 121 rfl) rfl
theorem q2493 : (Jvm.Cond.methodLink "ShareHouseModel" (543 : Nat) ({ cls := "ShareHouseModel", name := "visible", desc := "(I)I" } : Jvm.MethodName)) ∈ lw_all := lw_g (lw_at lw_m10 122 rfl) rfl
theorem q2494 : (Jvm.Cond.privateMethod ({ cls := "ShareHouseModel", name := "visible", desc := "(I)I" } : Jvm.MethodName)) ∈ lw_tbl := lw_at lw_m10 123 rfl
theorem q2495 : (Jvm.Cond.instanceMethod ({ cls := "ShareHouseModel", name := "visible", desc := "(I)I" } : Jvm.MethodName)) ∈ lw_all := lw_g (lw_at lw_m10 124 rfl) rfl
theorem q2496 : (Jvm.Cond.code ({ cls := "ShareHouseModel", name := "visible", desc := "(I)I" } : Jvm.MethodName) prog_17_method_44_code (5 : Nat) (Option.some Jvm.ClassFile.FieldType.int)) ∈ lw_all := lw_g (lw_at lw_m10 125 rfl) rfl
theorem q2497 : (Jvm.Cond.methodLink "ShareHouseModel" (571 : Nat) ({ cls := "ShareHouseModel", name := "refer", desc := "(II)V" } : Jvm.MethodName)) ∈ lw_all := lw_g (lw_at lw_m10 126 rfl) rfl
theorem q2498 : (Jvm.Cond.privateMethod ({ cls := "ShareHouseModel", name := "refer", desc := "(II)V" } : Jvm.MethodName)) ∈ lw_tbl := lw_at lw_m10 127 rfl
theorem q2499 : (Jvm.Cond.instanceMethod ({ cls := "ShareHouseModel", name := "refer", desc := "(II)V" } : Jvm.MethodName)) ∈ lw_all := lw_g (lw_at lw_m10 128 rfl) rfl
theorem q2500 : (Jvm.Cond.code ({ cls := "ShareHouseModel", name := "refer", desc := "(II)V" } : Jvm.MethodName) prog_17_method_47_code (3 : Nat) (Option.none : Option Jvm.ClassFile.FieldType)) ∈ lw_all := lw_g (lw_at lw_m10 129 rfl) rfl
theorem q2501 : (Jvm.Cond.methodLink "ShareHouseModel" (574 : Nat) ({ cls := "ShareHouseModel", name := "must", desc := "(I)V" } : Jvm.MethodName)) ∈ lw_all := lw_g (lw_at lw_m10 130 rfl) rfl
theorem q2502 : (Jvm.Cond.privateMethod ({ cls := "ShareHouseModel", name := "must", desc := "(I)V" } : Jvm.MethodName)) ∈ lw_tbl := lw_at lw_m10 131 rfl
theorem q2503 : (Jvm.Cond.instanceMethod ({ cls := "ShareHouseModel", name := "must", desc := "(I)V" } : Jvm.MethodName)) ∈ lw_all := lw_g (lw_at lw_m10 132 rfl) rfl
theorem q2504 : (Jvm.Cond.code ({ cls := "ShareHouseModel", name := "must", desc := "(I)V" } : Jvm.MethodName) prog_17_method_50_code (2 : Nat) (Option.none : Option Jvm.ClassFile.FieldType)) ∈ lw_all := lw_g (lw_at lw_m10 133 rfl) rfl
theorem q2505 : (Jvm.Cond.methodLink "ShareHouseModel" (577 : Nat) ({ cls := "ShareHouseModel", name := "bitSort", desc := "(I)V" } : Jvm.MethodName)) ∈ lw_all := lw_g (lw_at lw_m10 134 rfl) rfl
theorem q2506 : (Jvm.Cond.privateMethod ({ cls := "ShareHouseModel", name := "bitSort", desc := "(I)V" } : Jvm.MethodName)) ∈ lw_tbl := lw_at lw_m10 135 rfl
theorem q2507 : (Jvm.Cond.instanceMethod ({ cls := "ShareHouseModel", name := "bitSort", desc := "(I)V" } : Jvm.MethodName)) ∈ lw_all := lw_g (lw_at lw_m10 136 rfl) rfl
theorem q2508 : (Jvm.Cond.code ({ cls := "ShareHouseModel", name := "bitSort", desc := "(I)V" } : Jvm.MethodName) prog_17_method_54_code (2 : Nat) (Option.none : Option Jvm.ClassFile.FieldType)) ∈ lw_all := lw_g (lw_at lw_m10 137 rfl) rfl
theorem q2509 : (Jvm.Cond.methodLink "ShareHouseModel" (589 : Nat) ({ cls := "ShareHouseModel", name := "mustPublic", desc := "()V" } : Jvm.MethodName)) ∈ lw_all := lw_g (lw_at lw_m10 138 rfl) rfl
theorem q2510 : (Jvm.Cond.privateMethod ({ cls := "ShareHouseModel", name := "mustPublic", desc := "()V" } : Jvm.MethodName)) ∈ lw_tbl := lw_at lw_m10 139 rfl
theorem q2511 : (Jvm.Cond.instanceMethod ({ cls := "ShareHouseModel", name := "mustPublic", desc := "()V" } : Jvm.MethodName)) ∈ lw_all := lw_g (lw_at lw_m10 140 rfl) rfl
theorem q2512 : (Jvm.Cond.code ({ cls := "ShareHouseModel", name := "mustPublic", desc := "()V" } : Jvm.MethodName) prog_17_method_51_code (1 : Nat) (Option.none : Option Jvm.ClassFile.FieldType)) ∈ lw_all := lw_g (lw_at lw_m10 141 rfl) rfl
theorem q2513 : (Jvm.Cond.methodLink "ShareHouseModel" (580 : Nat) ({ cls := "ShareHouseModel", name := "unarySort", desc := "(I)V" } : Jvm.MethodName)) ∈ lw_all := lw_g (lw_at lw_m10 142 rfl) rfl
theorem q2514 : (Jvm.Cond.privateMethod ({ cls := "ShareHouseModel", name := "unarySort", desc := "(I)V" } : Jvm.MethodName)) ∈ lw_tbl := lw_at lw_m10 143 rfl
theorem q2515 : (Jvm.Cond.instanceMethod ({ cls := "ShareHouseModel", name := "unarySort", desc := "(I)V" } : Jvm.MethodName)) ∈ lw_all := lw_g (lw_at lw_m10 144 rfl) rfl
theorem q2516 : (Jvm.Cond.code ({ cls := "ShareHouseModel", name := "unarySort", desc := "(I)V" } : Jvm.MethodName) prog_17_method_55_code (3 : Nat) (Option.none : Option Jvm.ClassFile.FieldType)) ∈ lw_all := lw_g (lw_at lw_m10 145 rfl) rfl
theorem q2517 : (Jvm.Cond.methodLink "ShareHouseModel" (583 : Nat) ({ cls := "ShareHouseModel", name := "binarySort", desc := "(I)V" } : Jvm.MethodName)) ∈ lw_all := lw_g (lw_at lw_m10 146 rfl) rfl
theorem q2518 : (Jvm.Cond.privateMethod ({ cls := "ShareHouseModel", name := "binarySort", desc := "(I)V" } : Jvm.MethodName)) ∈ lw_tbl := lw_at lw_m10 147 rfl
theorem q2519 : (Jvm.Cond.instanceMethod ({ cls := "ShareHouseModel", name := "binarySort", desc := "(I)V" } : Jvm.MethodName)) ∈ lw_all := lw_g (lw_at lw_m10 148 rfl) rfl
theorem q2520 : (Jvm.Cond.code ({ cls := "ShareHouseModel", name := "binarySort", desc := "(I)V" } : Jvm.MethodName) prog_17_method_56_code (8 : Nat) (Option.none : Option Jvm.ClassFile.FieldType)) ∈ lw_all := lw_g (lw_at lw_m10 149 rfl) rfl
theorem q2521 : (Jvm.Cond.methodLink "ShareHouseModel" (586 : Nat) ({ cls := "ShareHouseModel", name := "selectSort", desc := "(I)V" } : Jvm.MethodName)) ∈ lw_all := lw_g (lw_at lw_m10 150 rfl) rfl
theorem q2522 : (Jvm.Cond.privateMethod ({ cls := "ShareHouseModel", name := "selectSort", desc := "(I)V" } : Jvm.MethodName)) ∈ lw_tbl := lw_at lw_m10 151 rfl
theorem q2523 : (Jvm.Cond.instanceMethod ({ cls := "ShareHouseModel", name := "selectSort", desc := "(I)V" } : Jvm.MethodName)) ∈ lw_all := lw_g (lw_at lw_m10 152 rfl) rfl
theorem q2524 : (Jvm.Cond.code ({ cls := "ShareHouseModel", name := "selectSort", desc := "(I)V" } : Jvm.MethodName) prog_17_method_57_code (3 : Nat) (Option.none : Option Jvm.ClassFile.FieldType)) ∈ lw_all := lw_g (lw_at lw_m10 153 rfl) rfl
theorem q2525 : (Jvm.Cond.methodLink "ShareHouseModel" (561 : Nat) ({ cls := "ShareHouseModel", name := "statementSort", desc := "(I)V" } : Jvm.MethodName)) ∈ lw_all := lw_g (lw_at lw_m10 154 rfl) rfl
theorem q2526 : (Jvm.Cond.privateMethod ({ cls := "ShareHouseModel", name := "statementSort", desc := "(I)V" } : Jvm.MethodName)) ∈ lw_tbl := lw_at lw_m10 155 rfl
theorem q2527 : (Jvm.Cond.instanceMethod ({ cls := "ShareHouseModel", name := "statementSort", desc := "(I)V" } : Jvm.MethodName)) ∈ lw_all := lw_g (lw_at lw_m10 156 rfl) rfl
theorem q2528 : (Jvm.Cond.code ({ cls := "ShareHouseModel", name := "statementSort", desc := "(I)V" } : Jvm.MethodName) prog_17_method_58_code (4 : Nat) (Option.none : Option Jvm.ClassFile.FieldType)) ∈ lw_all := lw_g (lw_at lw_m10 157 rfl) rfl
theorem q2529 : (Jvm.Cond.methodLink "ShareHouseModel" (592 : Nat) ({ cls := "ShareHouseModel", name := "comes", desc := "(I)V" } : Jvm.MethodName)) ∈ lw_all := lw_g (lw_at lw_m10 158 rfl) rfl
theorem q2530 : (Jvm.Cond.privateMethod ({ cls := "ShareHouseModel", name := "comes", desc := "(I)V" } : Jvm.MethodName)) ∈ lw_tbl := lw_at lw_m10 159 rfl
theorem q2531 : (Jvm.Cond.instanceMethod ({ cls := "ShareHouseModel", name := "comes", desc := "(I)V" } : Jvm.MethodName)) ∈ lw_all := lw_g (lw_at lw_m10 160 rfl) rfl
theorem q2532 : (Jvm.Cond.code ({ cls := "ShareHouseModel", name := "comes", desc := "(I)V" } : Jvm.MethodName) prog_17_method_48_code (2 : Nat) (Option.none : Option Jvm.ClassFile.FieldType)) ∈ lw_all := lw_g (lw_at lw_m10 161 rfl) rfl
theorem q2533 : (Jvm.Cond.methodLink "ShareHouseModel" (604 : Nat) ({ cls := "ShareHouseModel", name := "paramSort", desc := "(I)V" } : Jvm.MethodName)) ∈ lw_all := lw_g (lw_at lw_m10 162 rfl) rfl
theorem q2534 : (Jvm.Cond.privateMethod ({ cls := "ShareHouseModel", name := "paramSort", desc := "(I)V" } : Jvm.MethodName)) ∈ lw_tbl := lw_at lw_m10 163 rfl
theorem q2535 : (Jvm.Cond.instanceMethod ({ cls := "ShareHouseModel", name := "paramSort", desc := "(I)V" } : Jvm.MethodName)) ∈ lw_all := lw_g (lw_at lw_m10 164 rfl) rfl
theorem q2536 : (Jvm.Cond.code ({ cls := "ShareHouseModel", name := "paramSort", desc := "(I)V" } : Jvm.MethodName) prog_17_method_59_code (5 : Nat) (Option.none : Option Jvm.ClassFile.FieldType)) ∈ lw_all := lw_g (lw_at lw_m10 165 rfl) rfl
theorem q2537 : (Jvm.Cond.methodLink "ShareHouseModel" (608 : Nat) ({ cls := "ShareHouseModel", name := "symbol", desc := "(IIIII)I" } : Jvm.MethodName)) ∈ lw_all := lw_g (lw_at lw_m10 166 rfl) rfl
theorem q2538 : (Jvm.Cond.privateMethod ({ cls := "ShareHouseModel", name := "symbol", desc := "(IIIII)I" } : Jvm.MethodName)) ∈ lw_tbl := lw_at lw_m10 167 rfl
theorem q2539 : (Jvm.Cond.instanceMethod ({ cls := "ShareHouseModel", name := "symbol", desc := "(IIIII)I" } : Jvm.MethodName)) ∈ lw_all := lw_g (lw_at lw_m10 168 rfl) rfl
theorem q2540 : (Jvm.Cond.code ({ cls := "ShareHouseModel", name := "symbol", desc := "(IIIII)I" } : Jvm.MethodName) prog_17_method_45_code (6 : Nat) (Option.some Jvm.ClassFile.FieldType.int)) ∈ lw_all := lw_g (lw_at lw_m10 169 rfl) rfl
theorem q2541 : (Jvm.Cond.constantLong "ShareHouseModel" (606 : Nat) (255 : Int64)) ∈ lw_all := lw_g (lw_at lw_m10 170 rfl) rfl
theorem q2542 : (Jvm.Cond.methodLink "ShareHouseModel" (612 : Nat) ({ cls := "ShareHouseModel", name := "assigned", desc := "(I)V" } : Jvm.MethodName)) ∈ lw_all := lw_g (lw_at lw_m10 171 rfl) rfl
theorem q2543 : (Jvm.Cond.privateMethod ({ cls := "ShareHouseModel", name := "assigned", desc := "(I)V" } : Jvm.MethodName)) ∈ lw_tbl := lw_at lw_m10 172 rfl
theorem q2544 : (Jvm.Cond.instanceMethod ({ cls := "ShareHouseModel", name := "assigned", desc := "(I)V" } : Jvm.MethodName)) ∈ lw_all := lw_g (lw_at lw_m10 173 rfl) rfl
theorem q2545 : (Jvm.Cond.code ({ cls := "ShareHouseModel", name := "assigned", desc := "(I)V" } : Jvm.MethodName) prog_17_method_60_code (4 : Nat) (Option.none : Option Jvm.ClassFile.FieldType)) ∈ lw_all := lw_g (lw_at lw_m10 174 rfl) rfl
theorem q2546 : (Jvm.Cond.methodLink "ShareHouseModel" (615 : Nat) ({ cls := "ShareHouseModel", name := "elementSort", desc := "(I)V" } : Jvm.MethodName)) ∈ lw_all := lw_g (lw_at lw_m10 175 rfl) rfl
theorem q2547 : (Jvm.Cond.privateMethod ({ cls := "ShareHouseModel", name := "elementSort", desc := "(I)V" } : Jvm.MethodName)) ∈ lw_tbl := lw_at lw_m10 176 rfl
theorem q2548 : (Jvm.Cond.instanceMethod ({ cls := "ShareHouseModel", name := "elementSort", desc := "(I)V" } : Jvm.MethodName)) ∈ lw_all := lw_g (lw_at lw_m10 177 rfl) rfl
theorem q2549 : (Jvm.Cond.code ({ cls := "ShareHouseModel", name := "elementSort", desc := "(I)V" } : Jvm.MethodName) prog_17_method_61_code (3 : Nat) (Option.none : Option Jvm.ClassFile.FieldType)) ∈ lw_all := lw_g (lw_at lw_m10 178 rfl) rfl
theorem q2550 : (Jvm.Cond.methodLink "ShareHouseModel" (845 : Nat) ({ cls := "ShareHouseModel", name := "build", desc := "()V" } : Jvm.MethodName)) ∈ lw_all := lw_g (lw_at lw_m10 179 rfl) rfl
theorem q2551 : (Jvm.Cond.privateMethod ({ cls := "ShareHouseModel", name := "build", desc := "()V" } : Jvm.MethodName)) ∈ lw_tbl := lw_at lw_m10 180 rfl
theorem q2552 : (Jvm.Cond.instanceMethod ({ cls := "ShareHouseModel", name := "build", desc := "()V" } : Jvm.MethodName)) ∈ lw_all := lw_g (lw_at lw_m10 181 rfl) rfl
theorem q2553 : (Jvm.Cond.code ({ cls := "ShareHouseModel", name := "build", desc := "()V" } : Jvm.MethodName) prog_17_method_82_code (2 : Nat) (Option.none : Option Jvm.ClassFile.FieldType)) ∈ lw_all := lw_g (lw_at lw_m10 182 rfl) rfl
theorem q2554 : (Jvm.Cond.methodLink "ShareHouseModel" (669 : Nat) ({ cls := "ShareHouseModel", name := "inputsOfAll", desc := "()V" } : Jvm.MethodName)) ∈ lw_all := lw_g (lw_at lw_m10 183 rfl) rfl
theorem q2555 : (Jvm.Cond.privateMethod ({ cls := "ShareHouseModel", name := "inputsOfAll", desc := "()V" } : Jvm.MethodName)) ∈ lw_tbl := lw_at lw_m10 184 rfl
theorem q2556 : (Jvm.Cond.instanceMethod ({ cls := "ShareHouseModel", name := "inputsOfAll", desc := "()V" } : Jvm.MethodName)) ∈ lw_all := lw_g (lw_at lw_m10 185 rfl) rfl
theorem q2557 : (Jvm.Cond.code ({ cls := "ShareHouseModel", name := "inputsOfAll", desc := "()V" } : Jvm.MethodName) prog_17_method_81_code (4 : Nat) (Option.none : Option Jvm.ClassFile.FieldType)) ∈ lw_all := lw_g (lw_at lw_m10 186 rfl) rfl
theorem q2558 : (Jvm.Cond.methodLink "ShareHouseModel" (666 : Nat) ({ cls := "ShareHouseModel", name := "widthOf", desc := "(I)I" } : Jvm.MethodName)) ∈ lw_all := lw_g (lw_at lw_m10 187 rfl) rfl
theorem q2559 : (Jvm.Cond.privateMethod ({ cls := "ShareHouseModel", name := "widthOf", desc := "(I)I" } : Jvm.MethodName)) ∈ lw_tbl := lw_at lw_m10 188 rfl
theorem q2560 : (Jvm.Cond.instanceMethod ({ cls := "ShareHouseModel", name := "widthOf", desc := "(I)I" } : Jvm.MethodName)) ∈ lw_all := lw_g (lw_at lw_m10 189 rfl) rfl
theorem q2561 : (Jvm.Cond.code ({ cls := "ShareHouseModel", name := "widthOf", desc := "(I)I" } : Jvm.MethodName) prog_17_method_79_code (2 : Nat) (Option.some Jvm.ClassFile.FieldType.int)) ∈ lw_all := lw_g (lw_at lw_m10 190 rfl) rfl
theorem q2562 : (Jvm.Cond.methodLink "ShareHouseModel" (684 : Nat) ({ cls := "ShareHouseModel", name := "operand", desc := "(I)I" } : Jvm.MethodName)) ∈ lw_all := lw_g (lw_at lw_m10 191 rfl) rfl
theorem q2563 : (Jvm.Cond.privateMethod ({ cls := "ShareHouseModel", name := "operand", desc := "(I)I" } : Jvm.MethodName)) ∈ lw_tbl := lw_at lw_m10 192 rfl
theorem q2564 : (Jvm.Cond.instanceMethod ({ cls := "ShareHouseModel", name := "operand", desc := "(I)I" } : Jvm.MethodName)) ∈ lw_all := lw_g (lw_at lw_m10 193 rfl) rfl
theorem q2565 : (Jvm.Cond.code ({ cls := "ShareHouseModel", name := "operand", desc := "(I)I" } : Jvm.MethodName) prog_17_method_83_code (5 : Nat) (Option.some Jvm.ClassFile.FieldType.int)) ∈ lw_all := lw_g (lw_at lw_m10 194 rfl) rfl
theorem q2566 : (Jvm.Cond.methodLink "ShareHouseModel" (690 : Nat) ({ cls := "ShareHouseModel", name := "step", desc := "()V" } : Jvm.MethodName)) ∈ lw_all := lw_g (lw_at lw_m10 195 rfl) rfl
theorem q2567 : (Jvm.Cond.privateMethod ({ cls := "ShareHouseModel", name := "step", desc := "()V" } : Jvm.MethodName)) ∈ lw_tbl := lw_at lw_m10 196 rfl
theorem q2568 : (Jvm.Cond.instanceMethod ({ cls := "ShareHouseModel", name := "step", desc := "()V" } : Jvm.MethodName)) ∈ lw_all := lw_g (lw_at lw_m10 197 rfl) rfl
theorem q2569 : (Jvm.Cond.code ({ cls := "ShareHouseModel", name := "step", desc := "()V" } : Jvm.MethodName) prog_17_method_80_code (1 : Nat) (Option.none : Option Jvm.ClassFile.FieldType)) ∈ lw_all := lw_g (lw_at lw_m10 198 rfl) rfl
theorem q2570 : (Jvm.Cond.constant "ShareHouseModel" (662 : Nat) (100000 : Int32)) ∈ lw_all := lw_g (lw_at lw_m10 199 rfl) rfl
theorem q2571 : (Jvm.Cond.methodLink "ShareHouseModel" (627 : Nat) ({ cls := "ShareHouseModel", name := "statementPlace", desc := "()I" } : Jvm.MethodName)) ∈ lw_all := lw_g (lw_at lw_m10 200 rfl) rfl
theorem q2572 : (Jvm.Cond.privateMethod ({ cls := "ShareHouseModel", name := "statementPlace", desc := "()I" } : Jvm.MethodName)) ∈ lw_tbl := lw_at lw_m10 201 rfl
theorem q2573 : (Jvm.Cond.instanceMethod ({ cls := "ShareHouseModel", name := "statementPlace", desc := "()I" } : Jvm.MethodName)) ∈ lw_all := lw_g (lw_at lw_m10 202 rfl) rfl
theorem q2574 : (Jvm.Cond.code ({ cls := "ShareHouseModel", name := "statementPlace", desc := "()I" } : Jvm.MethodName) prog_17_method_63_code (1 : Nat) (Option.some Jvm.ClassFile.FieldType.int)) ∈ lw_all := lw_g (lw_at lw_m10 203 rfl) rfl
theorem q2575 : (Jvm.Cond.methodLink "ShareHouseModel" (693 : Nat) ({ cls := "ShareHouseModel", name := "constantZ", desc := "(JI)V" } : Jvm.MethodName)) ∈ lw_all := lw_g (lw_at lw_m10 204 rfl) rfl
theorem q2576 : (Jvm.Cond.privateMethod ({ cls := "ShareHouseModel", name := "constantZ", desc := "(JI)V" } : Jvm.MethodName)) ∈ lw_tbl := lw_at lw_m10 205 rfl
theorem q2577 : (Jvm.Cond.instanceMethod ({ cls := "ShareHouseModel", name := "constantZ", desc := "(JI)V" } : Jvm.MethodName)) ∈ lw_all := lw_g (lw_at lw_m10 206 rfl) rfl
theorem q2578 : (Jvm.Cond.code ({ cls := "ShareHouseModel", name := "constantZ", desc := "(JI)V" } : Jvm.MethodName) prog_17_method_71_code (5 : Nat) (Option.none : Option Jvm.ClassFile.FieldType)) ∈ lw_all := lw_g (lw_at lw_m10 207 rfl) rfl
theorem q2579 : (Jvm.Cond.methodLink "ShareHouseModel" (697 : Nat) ({ cls := "ShareHouseModel", name := "pushZ", desc := "(I)V" } : Jvm.MethodName)) ∈ lw_all := lw_g (lw_at lw_m10 208 rfl) rfl
theorem q2580 : (Jvm.Cond.privateMethod ({ cls := "ShareHouseModel", name := "pushZ", desc := "(I)V" } : Jvm.MethodName)) ∈ lw_tbl := lw_at lw_m10 209 rfl
theorem q2581 : (Jvm.Cond.instanceMethod ({ cls := "ShareHouseModel", name := "pushZ", desc := "(I)V" } : Jvm.MethodName)) ∈ lw_all := lw_g (lw_at lw_m10 210 rfl) rfl
theorem q2582 : (Jvm.Cond.code ({ cls := "ShareHouseModel", name := "pushZ", desc := "(I)V" } : Jvm.MethodName) prog_17_method_70_code (3 : Nat) (Option.none : Option Jvm.ClassFile.FieldType)) ∈ lw_all := lw_g (lw_at lw_m10 211 rfl) rfl
theorem q2583 : (Jvm.Cond.methodLink "ShareHouseModel" (700 : Nat) ({ cls := "ShareHouseModel", name := "named", desc := "(I)V" } : Jvm.MethodName)) ∈ lw_all := lw_g (lw_at lw_m10 212 rfl) rfl
theorem q2584 : (Jvm.Cond.privateMethod ({ cls := "ShareHouseModel", name := "named", desc := "(I)V" } : Jvm.MethodName)) ∈ lw_tbl := lw_at lw_m10 213 rfl
theorem q2585 : (Jvm.Cond.instanceMethod ({ cls := "ShareHouseModel", name := "named", desc := "(I)V" } : Jvm.MethodName)) ∈ lw_all := lw_g (lw_at lw_m10 214 rfl) rfl
theorem q2586 : (Jvm.Cond.code ({ cls := "ShareHouseModel", name := "named", desc := "(I)V" } : Jvm.MethodName) prog_17_method_85_code (5 : Nat) (Option.none : Option Jvm.ClassFile.FieldType)) ∈ lw_all := lw_g (lw_at lw_m10 215 rfl) rfl
theorem q2587 : (Jvm.Cond.methodLink "ShareHouseModel" (703 : Nat) ({ cls := "ShareHouseModel", name := "indexed", desc := "(I)V" } : Jvm.MethodName)) ∈ lw_all := lw_g (lw_at lw_m10 216 rfl) rfl
theorem q2588 : (Jvm.Cond.privateMethod ({ cls := "ShareHouseModel", name := "indexed", desc := "(I)V" } : Jvm.MethodName)) ∈ lw_tbl := lw_at lw_m10 217 rfl
theorem q2589 : (Jvm.Cond.instanceMethod ({ cls := "ShareHouseModel", name := "indexed", desc := "(I)V" } : Jvm.MethodName)) ∈ lw_all := lw_g (lw_at lw_m10 218 rfl) rfl
theorem q2590 : (Jvm.Cond.code ({ cls := "ShareHouseModel", name := "indexed", desc := "(I)V" } : Jvm.MethodName) prog_17_method_88_code (6 : Nat) (Option.none : Option Jvm.ClassFile.FieldType)) ∈ lw_all := lw_g (lw_at lw_m10 219 rfl) rfl
theorem q2591 : (Jvm.Cond.methodLink "ShareHouseModel" (712 : Nat) ({ cls := "ShareHouseModel", name := "worthOf", desc := "(I)J" } : Jvm.MethodName)) ∈ lw_all := lw_g (lw_at lw_m10 220 rfl) rfl
theorem q2592 : (Jvm.Cond.privateMethod ({ cls := "ShareHouseModel", name := "worthOf", desc := "(I)J" } : Jvm.MethodName)) ∈ lw_tbl := lw_at lw_m10 221 rfl
theorem q2593 : (Jvm.Cond.instanceMethod ({ cls := "ShareHouseModel", name := "worthOf", desc := "(I)J" } : Jvm.MethodName)) ∈ lw_all := lw_g (lw_at lw_m10 222 rfl) rfl
theorem q2594 : (Jvm.Cond.code ({ cls := "ShareHouseModel", name := "worthOf", desc := "(I)J" } : Jvm.MethodName) prog_17_method_72_code (5 : Nat) (Option.some Jvm.ClassFile.FieldType.long)) ∈ lw_all := lw_g (lw_at lw_m10 223 rfl) rfl
theorem q2595 : (Jvm.Cond.methodLink "ShareHouseModel" (728 : Nat) ({ cls := "ShareHouseModel", name := "elementBit", desc := "(III)I" } : Jvm.MethodName)) ∈ lw_all := lw_g (lw_at lw_m10 224 rfl) rfl
theorem q2596 : (Jvm.Cond.privateMethod ({ cls := "ShareHouseModel", name := "elementBit", desc := "(III)I" } : Jvm.MethodName)) ∈ lw_tbl := lw_at lw_m10 225 rfl
theorem q2597 : (Jvm.Cond.instanceMethod ({ cls := "ShareHouseModel", name := "elementBit", desc := "(III)I" } : Jvm.MethodName)) ∈ lw_all := lw_g (lw_at lw_m10 226 rfl) rfl
theorem q2598 : (Jvm.Cond.code ({ cls := "ShareHouseModel", name := "elementBit", desc := "(III)I" } : Jvm.MethodName) prog_17_method_86_code (4 : Nat) (Option.some Jvm.ClassFile.FieldType.int)) ∈ lw_all := lw_g (lw_at lw_m10 227 rfl) rfl
theorem q2599 : (Jvm.Cond.methodLink "ShareHouseModel" (709 : Nat) ({ cls := "ShareHouseModel", name := "popX", desc := "(I)V" } : Jvm.MethodName)) ∈ lw_all := lw_g (lw_at lw_m10 228 rfl) rfl
theorem q2600 : (Jvm.Cond.privateMethod ({ cls := "ShareHouseModel", name := "popX", desc := "(I)V" } : Jvm.MethodName)) ∈ lw_tbl := lw_at lw_m10 229 rfl
theorem q2601 : (Jvm.Cond.instanceMethod ({ cls := "ShareHouseModel", name := "popX", desc := "(I)V" } : Jvm.MethodName)) ∈ lw_all := lw_g (lw_at lw_m10 230 rfl) rfl
theorem q2602 : (Jvm.Cond.code ({ cls := "ShareHouseModel", name := "popX", desc := "(I)V" } : Jvm.MethodName) prog_17_method_69_code (3 : Nat) (Option.none : Option Jvm.ClassFile.FieldType)) ∈ lw_all := lw_g (lw_at lw_m10 231 rfl) rfl
theorem q2603 : (Jvm.Cond.methodLink "ShareHouseModel" (731 : Nat) ({ cls := "ShareHouseModel", name := "isIndex", desc := "(I)I" } : Jvm.MethodName)) ∈ lw_all := lw_g (lw_at lw_m10 232 rfl) rfl
theorem q2604 : (Jvm.Cond.privateMethod ({ cls := "ShareHouseModel", name := "isIndex", desc := "(I)I" } : Jvm.MethodName)) ∈ lw_tbl := lw_at lw_m10 233 rfl
theorem q2605 : (Jvm.Cond.instanceMethod ({ cls := "ShareHouseModel", name := "isIndex", desc := "(I)I" } : Jvm.MethodName)) ∈ lw_all := lw_g (lw_at lw_m10 234 rfl) rfl
theorem q2606 : (Jvm.Cond.code ({ cls := "ShareHouseModel", name := "isIndex", desc := "(I)I" } : Jvm.MethodName) prog_17_method_87_code (3 : Nat) (Option.some Jvm.ClassFile.FieldType.int)) ∈ lw_all := lw_g (lw_at lw_m10 235 rfl) rfl
theorem q2607 : (Jvm.Cond.methodLink "ShareHouseModel" (725 : Nat) ({ cls := "ShareHouseModel", name := "equal", desc := "(I)I" } : Jvm.MethodName)) ∈ lw_all := lw_g (lw_at lw_m10 236 rfl) rfl
theorem q2608 : (Jvm.Cond.privateMethod ({ cls := "ShareHouseModel", name := "equal", desc := "(I)I" } : Jvm.MethodName)) ∈ lw_tbl := lw_at lw_m10 237 rfl
theorem q2609 : (Jvm.Cond.instanceMethod ({ cls := "ShareHouseModel", name := "equal", desc := "(I)I" } : Jvm.MethodName)) ∈ lw_all := lw_g (lw_at lw_m10 238 rfl) rfl
theorem q2610 : (Jvm.Cond.code ({ cls := "ShareHouseModel", name := "equal", desc := "(I)I" } : Jvm.MethodName) prog_17_method_75_code (5 : Nat) (Option.some Jvm.ClassFile.FieldType.int)) ∈ lw_all := lw_g (lw_at lw_m10 239 rfl) rfl
theorem q2611 : (Jvm.Cond.methodLink "ShareHouseModel" (642 : Nat) ({ cls := "ShareHouseModel", name := "xor", desc := "(II)I" } : Jvm.MethodName)) ∈ lw_all := lw_g (lw_at lw_m11 0 rfl) rfl
theorem q2612 : (Jvm.Cond.privateMethod ({ cls := "ShareHouseModel", name := "xor", desc := "(II)I" } : Jvm.MethodName)) ∈ lw_tbl := lw_at lw_m11 1 rfl
theorem q2613 : (Jvm.Cond.instanceMethod ({ cls := "ShareHouseModel", name := "xor", desc := "(II)I" } : Jvm.MethodName)) ∈ lw_all := lw_g (lw_at lw_m11 2 rfl) rfl
theorem q2614 : (Jvm.Cond.code ({ cls := "ShareHouseModel", name := "xor", desc := "(II)I" } : Jvm.MethodName) prog_17_method_65_code (6 : Nat) (Option.some Jvm.ClassFile.FieldType.int)) ∈ lw_all := lw_g (lw_at lw_m11 3 rfl) rfl
theorem q2615 : (Jvm.Cond.methodLink "ShareHouseModel" (636 : Nat) ({ cls := "ShareHouseModel", name := "levelOf", desc := "(I)I" } : Jvm.MethodName)) ∈ lw_all := lw_g (lw_at lw_m11 4 rfl) rfl
theorem q2616 : (Jvm.Cond.privateMethod ({ cls := "ShareHouseModel", name := "levelOf", desc := "(I)I" } : Jvm.MethodName)) ∈ lw_tbl := lw_at lw_m11 5 rfl
theorem q2617 : (Jvm.Cond.instanceMethod ({ cls := "ShareHouseModel", name := "levelOf", desc := "(I)I" } : Jvm.MethodName)) ∈ lw_all := lw_g (lw_at lw_m11 6 rfl) rfl
theorem q2618 : (Jvm.Cond.code ({ cls := "ShareHouseModel", name := "levelOf", desc := "(I)I" } : Jvm.MethodName) prog_17_method_62_code (3 : Nat) (Option.some Jvm.ClassFile.FieldType.int)) ∈ lw_all := lw_g (lw_at lw_m11 7 rfl) rfl
theorem q2619 : (Jvm.Cond.methodLink "ShareHouseModel" (639 : Nat) ({ cls := "ShareHouseModel", name := "newGate", desc := "(IIII)I" } : Jvm.MethodName)) ∈ lw_all := lw_g (lw_at lw_m11 8 rfl) rfl
theorem q2620 : (Jvm.Cond.privateMethod ({ cls := "ShareHouseModel", name := "newGate", desc := "(IIII)I" } : Jvm.MethodName)) ∈ lw_tbl := lw_at lw_m11 9 rfl
theorem q2621 : (Jvm.Cond.instanceMethod ({ cls := "ShareHouseModel", name := "newGate", desc := "(IIII)I" } : Jvm.MethodName)) ∈ lw_all := lw_g (lw_at lw_m11 10 rfl) rfl
theorem q2622 : (Jvm.Cond.code ({ cls := "ShareHouseModel", name := "newGate", desc := "(IIII)I" } : Jvm.MethodName) prog_17_method_64_code (5 : Nat) (Option.some Jvm.ClassFile.FieldType.int)) ∈ lw_all := lw_g (lw_at lw_m11 11 rfl) rfl
theorem q2623 : (Jvm.Cond.methodLink "ShareHouseModel" (646 : Nat) ({ cls := "ShareHouseModel", name := "and", desc := "(II)I" } : Jvm.MethodName)) ∈ lw_all := lw_g (lw_at lw_m11 12 rfl) rfl
theorem q2624 : (Jvm.Cond.privateMethod ({ cls := "ShareHouseModel", name := "and", desc := "(II)I" } : Jvm.MethodName)) ∈ lw_tbl := lw_at lw_m11 13 rfl
theorem q2625 : (Jvm.Cond.instanceMethod ({ cls := "ShareHouseModel", name := "and", desc := "(II)I" } : Jvm.MethodName)) ∈ lw_all := lw_g (lw_at lw_m11 14 rfl) rfl
theorem q2626 : (Jvm.Cond.code ({ cls := "ShareHouseModel", name := "and", desc := "(II)I" } : Jvm.MethodName) prog_17_method_66_code (5 : Nat) (Option.some Jvm.ClassFile.FieldType.int)) ∈ lw_all := lw_g (lw_at lw_m11 15 rfl) rfl
theorem q2627 : (Jvm.Cond.methodLink "ShareHouseModel" (706 : Nat) ({ cls := "ShareHouseModel", name := "bodyOf", desc := "(I)I" } : Jvm.MethodName)) ∈ lw_all := lw_g (lw_at lw_m11 16 rfl) rfl
theorem q2628 : (Jvm.Cond.privateMethod ({ cls := "ShareHouseModel", name := "bodyOf", desc := "(I)I" } : Jvm.MethodName)) ∈ lw_tbl := lw_at lw_m11 17 rfl
theorem q2629 : (Jvm.Cond.instanceMethod ({ cls := "ShareHouseModel", name := "bodyOf", desc := "(I)I" } : Jvm.MethodName)) ∈ lw_all := lw_g (lw_at lw_m11 18 rfl) rfl
theorem q2630 : (Jvm.Cond.code ({ cls := "ShareHouseModel", name := "bodyOf", desc := "(I)I" } : Jvm.MethodName) prog_17_method_84_code (2 : Nat) (Option.some Jvm.ClassFile.FieldType.int)) ∈ lw_all := lw_g (lw_at lw_m11 19 rfl) rfl
theorem q2631 : (Jvm.Cond.methodLink "ShareHouseModel" (716 : Nat) ({ cls := "ShareHouseModel", name := "unary", desc := "(I)V" } : Jvm.MethodName)) ∈ lw_all := lw_g (lw_at lw_m11 20 rfl) rfl
theorem q2632 : (Jvm.Cond.privateMethod ({ cls := "ShareHouseModel", name := "unary", desc := "(I)V" } : Jvm.MethodName)) ∈ lw_tbl := lw_at lw_m11 21 rfl
theorem q2633 : (Jvm.Cond.instanceMethod ({ cls := "ShareHouseModel", name := "unary", desc := "(I)V" } : Jvm.MethodName)) ∈ lw_all := lw_g (lw_at lw_m11 22 rfl) rfl
theorem q2634 : (Jvm.Cond.code ({ cls := "ShareHouseModel", name := "unary", desc := "(I)V" } : Jvm.MethodName) prog_17_method_89_code (4 : Nat) (Option.none : Option Jvm.ClassFile.FieldType)) ∈ lw_all := lw_g (lw_at lw_m11 23 rfl) rfl
theorem q2635 : (Jvm.Cond.methodLink "ShareHouseModel" (652 : Nat) ({ cls := "ShareHouseModel", name := "sum", desc := "(II)V" } : Jvm.MethodName)) ∈ lw_all := lw_g (lw_at lw_m11 24 rfl) rfl
theorem q2636 : (Jvm.Cond.privateMethod ({ cls := "ShareHouseModel", name := "sum", desc := "(II)V" } : Jvm.MethodName)) ∈ lw_tbl := lw_at lw_m11 25 rfl
theorem q2637 : (Jvm.Cond.instanceMethod ({ cls := "ShareHouseModel", name := "sum", desc := "(II)V" } : Jvm.MethodName)) ∈ lw_all := lw_g (lw_at lw_m11 26 rfl) rfl
theorem q2638 : (Jvm.Cond.code ({ cls := "ShareHouseModel", name := "sum", desc := "(II)V" } : Jvm.MethodName) prog_17_method_73_code (7 : Nat) (Option.none : Option Jvm.ClassFile.FieldType)) ∈ lw_all := lw_g (lw_at lw_m11 27 rfl) rfl
theorem q2639 : (Jvm.Cond.methodLink "ShareHouseModel" (719 : Nat) ({ cls := "ShareHouseModel", name := "binary", desc := "(I)V" } : Jvm.MethodName)) ∈ lw_all := lw_g (lw_at lw_m11 28 rfl) rfl
theorem q2640 : (Jvm.Cond.privateMethod ({ cls := "ShareHouseModel", name := "binary", desc := "(I)V" } : Jvm.MethodName)) ∈ lw_tbl := lw_at lw_m11 29 rfl
theorem q2641 : (Jvm.Cond.instanceMethod ({ cls := "ShareHouseModel", name := "binary", desc := "(I)V" } : Jvm.MethodName)) ∈ lw_all := lw_g (lw_at lw_m11 30 rfl) rfl
theorem q2642 : (Jvm.Cond.code ({ cls := "ShareHouseModel", name := "binary", desc := "(I)V" } : Jvm.MethodName) prog_17_method_90_code (8 : Nat) (Option.none : Option Jvm.ClassFile.FieldType)) ∈ lw_all := lw_g (lw_at lw_m11 31 rfl) rfl
theorem q2643 : (Jvm.Cond.methodLink "ShareHouseModel" (722 : Nat) ({ cls := "ShareHouseModel", name := "popY", desc := "(I)V" } : Jvm.MethodName)) ∈ lw_all := lw_g (lw_at lw_m11 32 rfl) rfl
theorem q2644 : (Jvm.Cond.privateMethod ({ cls := "ShareHouseModel", name := "popY", desc := "(I)V" } : Jvm.MethodName)) ∈ lw_tbl := lw_at lw_m11 33 rfl
theorem q2645 : (Jvm.Cond.instanceMethod ({ cls := "ShareHouseModel", name := "popY", desc := "(I)V" } : Jvm.MethodName)) ∈ lw_all := lw_g (lw_at lw_m11 34 rfl) rfl
theorem q2646 : (Jvm.Cond.code ({ cls := "ShareHouseModel", name := "popY", desc := "(I)V" } : Jvm.MethodName) prog_17_method_68_code (3 : Nat) (Option.none : Option Jvm.ClassFile.FieldType)) ∈ lw_all := lw_g (lw_at lw_m11 35 rfl) rfl
theorem q2647 : (Jvm.Cond.methodLink "ShareHouseModel" (734 : Nat) ({ cls := "ShareHouseModel", name := "less", desc := "()I" } : Jvm.MethodName)) ∈ lw_all := lw_g (lw_at lw_m11 36 rfl) rfl
theorem q2648 : (Jvm.Cond.privateMethod ({ cls := "ShareHouseModel", name := "less", desc := "()I" } : Jvm.MethodName)) ∈ lw_tbl := lw_at lw_m11 37 rfl
theorem q2649 : (Jvm.Cond.instanceMethod ({ cls := "ShareHouseModel", name := "less", desc := "()I" } : Jvm.MethodName)) ∈ lw_all := lw_g (lw_at lw_m11 38 rfl) rfl
theorem q2650 : (Jvm.Cond.code ({ cls := "ShareHouseModel", name := "less", desc := "()I" } : Jvm.MethodName) prog_17_method_74_code (5 : Nat) (Option.some Jvm.ClassFile.FieldType.int)) ∈ lw_all := lw_g (lw_at lw_m11 39 rfl) rfl
theorem q2651 : (Jvm.Cond.methodLink "ShareHouseModel" (737 : Nat) ({ cls := "ShareHouseModel", name := "swap", desc := "()V" } : Jvm.MethodName)) ∈ lw_all := lw_g (lw_at lw_m11 40 rfl) rfl
theorem q2652 : (Jvm.Cond.privateMethod ({ cls := "ShareHouseModel", name := "swap", desc := "()V" } : Jvm.MethodName)) ∈ lw_tbl := lw_at lw_m11 41 rfl
theorem q2653 : (Jvm.Cond.instanceMethod ({ cls := "ShareHouseModel", name := "swap", desc := "()V" } : Jvm.MethodName)) ∈ lw_all := lw_g (lw_at lw_m11 42 rfl) rfl
theorem q2654 : (Jvm.Cond.code ({ cls := "ShareHouseModel", name := "swap", desc := "()V" } : Jvm.MethodName) prog_17_method_76_code (3 : Nat) (Option.none : Option Jvm.ClassFile.FieldType)) ∈ lw_all := lw_g (lw_at lw_m11 43 rfl) rfl
theorem q2655 : (Jvm.Cond.methodLink "ShareHouseModel" (740 : Nat) ({ cls := "ShareHouseModel", name := "multiply", desc := "()V" } : Jvm.MethodName)) ∈ lw_all := lw_g (lw_at lw_m11 44 rfl) rfl
theorem q2656 : (Jvm.Cond.privateMethod ({ cls := "ShareHouseModel", name := "multiply", desc := "()V" } : Jvm.MethodName)) ∈ lw_tbl := lw_at lw_m11 45 rfl
theorem q2657 : (Jvm.Cond.instanceMethod ({ cls := "ShareHouseModel", name := "multiply", desc := "()V" } : Jvm.MethodName)) ∈ lw_all := lw_g (lw_at lw_m11 46 rfl) rfl
theorem q2658 : (Jvm.Cond.code ({ cls := "ShareHouseModel", name := "multiply", desc := "()V" } : Jvm.MethodName) prog_17_method_77_code (3 : Nat) (Option.none : Option Jvm.ClassFile.FieldType)) ∈ lw_all := lw_g (lw_at lw_m11 47 rfl) rfl
theorem q2659 : (Jvm.Cond.methodLink "ShareHouseModel" (743 : Nat) ({ cls := "ShareHouseModel", name := "divide", desc := "()V" } : Jvm.MethodName)) ∈ lw_all := lw_g (lw_at lw_m11 48 rfl) rfl
theorem q2660 : (Jvm.Cond.privateMethod ({ cls := "ShareHouseModel", name := "divide", desc := "()V" } : Jvm.MethodName)) ∈ lw_tbl := lw_at lw_m11 49 rfl
theorem q2661 : (Jvm.Cond.instanceMethod ({ cls := "ShareHouseModel", name := "divide", desc := "()V" } : Jvm.MethodName)) ∈ lw_all := lw_g (lw_at lw_m11 50 rfl) rfl
theorem q2662 : (Jvm.Cond.code ({ cls := "ShareHouseModel", name := "divide", desc := "()V" } : Jvm.MethodName) prog_17_method_78_code (6 : Nat) (Option.none : Option Jvm.ClassFile.FieldType)) ∈ lw_all := lw_g (lw_at lw_m11 51 rfl) rfl
theorem q2663 : (Jvm.Cond.methodLink "ShareHouseModel" (655 : Nat) ({ cls := "ShareHouseModel", name := "mux", desc := "(III)I" } : Jvm.MethodName)) ∈ lw_all := lw_g (lw_at lw_m11 52 rfl) rfl
theorem q2664 : (Jvm.Cond.privateMethod ({ cls := "ShareHouseModel", name := "mux", desc := "(III)I" } : Jvm.MethodName)) ∈ lw_tbl := lw_at lw_m11 53 rfl
theorem q2665 : (Jvm.Cond.instanceMethod ({ cls := "ShareHouseModel", name := "mux", desc := "(III)I" } : Jvm.MethodName)) ∈ lw_all := lw_g (lw_at lw_m11 54 rfl) rfl
theorem q2666 : (Jvm.Cond.code ({ cls := "ShareHouseModel", name := "mux", desc := "(III)I" } : Jvm.MethodName) prog_17_method_67_code (4 : Nat) (Option.some Jvm.ClassFile.FieldType.int)) ∈ lw_all := lw_g (lw_at lw_m11 55 rfl) rfl
theorem q2667 : (Jvm.Cond.methodLink "ShareHouseModel" (687 : Nat) ({ cls := "ShareHouseModel", name := "statement", desc := "(I)I" } : Jvm.MethodName)) ∈ lw_all := lw_g (lw_at lw_m11 56 rfl) rfl
theorem q2668 : (Jvm.Cond.privateMethod ({ cls := "ShareHouseModel", name := "statement", desc := "(I)I" } : Jvm.MethodName)) ∈ lw_tbl := lw_at lw_m11 57 rfl
theorem q2669 : (Jvm.Cond.instanceMethod ({ cls := "ShareHouseModel", name := "statement", desc := "(I)I" } : Jvm.MethodName)) ∈ lw_all := lw_g (lw_at lw_m11 58 rfl) rfl
theorem q2670 : (Jvm.Cond.code ({ cls := "ShareHouseModel", name := "statement", desc := "(I)I" } : Jvm.MethodName) prog_17_method_96_code (6 : Nat) (Option.some Jvm.ClassFile.FieldType.int)) ∈ lw_all := lw_g (lw_at lw_m11 59 rfl) rfl
theorem q2671 : (Jvm.Cond.methodLink "ShareHouseModel" (753 : Nat) ({ cls := "ShareHouseModel", name := "variable", desc := "(I)V" } : Jvm.MethodName)) ∈ lw_all := lw_g (lw_at lw_m11 60 rfl) rfl
theorem q2672 : (Jvm.Cond.privateMethod ({ cls := "ShareHouseModel", name := "variable", desc := "(I)V" } : Jvm.MethodName)) ∈ lw_tbl := lw_at lw_m11 61 rfl
theorem q2673 : (Jvm.Cond.instanceMethod ({ cls := "ShareHouseModel", name := "variable", desc := "(I)V" } : Jvm.MethodName)) ∈ lw_all := lw_g (lw_at lw_m11 62 rfl) rfl
theorem q2674 : (Jvm.Cond.code ({ cls := "ShareHouseModel", name := "variable", desc := "(I)V" } : Jvm.MethodName) prog_17_method_94_code (7 : Nat) (Option.none : Option Jvm.ClassFile.FieldType)) ∈ lw_all := lw_g (lw_at lw_m11 63 rfl) rfl
theorem q2675 : (Jvm.Cond.methodLink "ShareHouseModel" (756 : Nat) ({ cls := "ShareHouseModel", name := "setElement", desc := "(I)V" } : Jvm.MethodName)) ∈ lw_all := lw_g (lw_at lw_m11 64 rfl) rfl
theorem q2676 : (Jvm.Cond.privateMethod ({ cls := "ShareHouseModel", name := "setElement", desc := "(I)V" } : Jvm.MethodName)) ∈ lw_tbl := lw_at lw_m11 65 rfl
theorem q2677 : (Jvm.Cond.instanceMethod ({ cls := "ShareHouseModel", name := "setElement", desc := "(I)V" } : Jvm.MethodName)) ∈ lw_all := lw_g (lw_at lw_m11 66 rfl) rfl
theorem q2678 : (Jvm.Cond.code ({ cls := "ShareHouseModel", name := "setElement", desc := "(I)V" } : Jvm.MethodName) prog_17_method_95_code (8 : Nat) (Option.none : Option Jvm.ClassFile.FieldType)) ∈ lw_all := lw_g (lw_at lw_m11 67 rfl) rfl
theorem q2679 : (Jvm.Cond.methodLink "ShareHouseModel" (746 : Nat) ({ cls := "ShareHouseModel", name := "keepVars", desc := "([II)V" } : Jvm.MethodName)) ∈ lw_all := lw_g (lw_at lw_m11 68 rfl) rfl
theorem q2680 : (Jvm.Cond.privateMethod ({ cls := "ShareHouseModel", name := "keepVars", desc := "([II)V" } : Jvm.MethodName)) ∈ lw_tbl := lw_at lw_m11 69 rfl
theorem q2681 : (Jvm.Cond.instanceMethod ({ cls := "ShareHouseModel", name := "keepVars", desc := "([II)V" } : Jvm.MethodName)) ∈ lw_all := lw_g (lw_at lw_m11 70 rfl) rfl
theorem q2682 : (Jvm.Cond.code ({ cls := "ShareHouseModel", name := "keepVars", desc := "([II)V" } : Jvm.MethodName) prog_17_method_91_code (5 : Nat) (Option.none : Option Jvm.ClassFile.FieldType)) ∈ lw_all := lw_g (lw_at lw_m11 71 rfl) rfl
theorem q2683 : (Jvm.Cond.methodLink "ShareHouseModel" (750 : Nat) ({ cls := "ShareHouseModel", name := "bringVars", desc := "([II)V" } : Jvm.MethodName)) ∈ lw_all := lw_g (lw_at lw_m11 72 rfl) rfl
theorem q2684 : (Jvm.Cond.privateMethod ({ cls := "ShareHouseModel", name := "bringVars", desc := "([II)V" } : Jvm.MethodName)) ∈ lw_tbl := lw_at lw_m11 73 rfl
theorem q2685 : (Jvm.Cond.instanceMethod ({ cls := "ShareHouseModel", name := "bringVars", desc := "([II)V" } : Jvm.MethodName)) ∈ lw_all := lw_g (lw_at lw_m11 74 rfl) rfl
theorem q2686 : (Jvm.Cond.code ({ cls := "ShareHouseModel", name := "bringVars", desc := "([II)V" } : Jvm.MethodName) prog_17_method_92_code (5 : Nat) (Option.none : Option Jvm.ClassFile.FieldType)) ∈ lw_all := lw_g (lw_at lw_m11 75 rfl) rfl
theorem q2687 : (Jvm.Cond.methodLink "ShareHouseModel" (759 : Nat) ({ cls := "ShareHouseModel", name := "endOfIf", desc := "()V" } : Jvm.MethodName)) ∈ lw_all := lw_g (lw_at lw_m11 76 rfl) rfl
theorem q2688 : (Jvm.Cond.privateMethod ({ cls := "ShareHouseModel", name := "endOfIf", desc := "()V" } : Jvm.MethodName)) ∈ lw_tbl := lw_at lw_m11 77 rfl
theorem q2689 : (Jvm.Cond.instanceMethod ({ cls := "ShareHouseModel", name := "endOfIf", desc := "()V" } : Jvm.MethodName)) ∈ lw_all := lw_g (lw_at lw_m11 78 rfl) rfl
theorem q2690 : (Jvm.Cond.code ({ cls := "ShareHouseModel", name := "endOfIf", desc := "()V" } : Jvm.MethodName) prog_17_method_93_code (5 : Nat) (Option.none : Option Jvm.ClassFile.FieldType)) ∈ lw_all := lw_g (lw_at lw_m11 79 rfl) rfl
theorem q2691 : (Jvm.Cond.methodLink "ShareHouseModel" (851 : Nat) ({ cls := "ShareHouseModel", name := "levels", desc := "()V" } : Jvm.MethodName)) ∈ lw_all := lw_g (lw_at lw_m11 80 rfl) rfl
theorem q2692 : (Jvm.Cond.privateMethod ({ cls := "ShareHouseModel", name := "levels", desc := "()V" } : Jvm.MethodName)) ∈ lw_tbl := lw_at lw_m11 81 rfl
theorem q2693 : (Jvm.Cond.instanceMethod ({ cls := "ShareHouseModel", name := "levels", desc := "()V" } : Jvm.MethodName)) ∈ lw_all := lw_g (lw_at lw_m11 82 rfl) rfl
theorem q2694 : (Jvm.Cond.code ({ cls := "ShareHouseModel", name := "levels", desc := "()V" } : Jvm.MethodName) prog_17_method_108_code (4 : Nat) (Option.none : Option Jvm.ClassFile.FieldType)) ∈ lw_all := lw_g (lw_at lw_m11 83 rfl) rfl
theorem q2696 : (Jvm.Cond.instanceMethod ({ cls := "ShareHouseModel", name := "look", desc := "(I)I" } : Jvm.MethodName)) ∈ lw_all := lw_g (lw_at lw_m11 85 rfl) rfl
theorem q2697 : (Jvm.Cond.selects "ShareHouseModel" ({ cls := "ShareHouseModel", name := "look", desc := "(I)I" } : Jvm.MethodName) ({ cls := "ShareHouseModel", name := "look", desc := "(I)I" } : Jvm.MethodName)) ∈ lw_all := lw_g (lw_at lw_m11 86 rfl) rfl
theorem q2698 : (Jvm.Cond.code ({ cls := "ShareHouseModel", name := "look", desc := "(I)I" } : Jvm.MethodName) prog_17_method_116_code (2 : Nat) (Option.some Jvm.ClassFile.FieldType.int)) ∈ lw_all := lw_g (lw_at lw_m11 87 rfl) rfl
theorem q2699 : (Jvm.Cond.methodLink "ShareHouseModel" (854 : Nat) ({ cls := "ShareHouseModel", name := "done", desc := "()I" } : Jvm.MethodName)) ∈ lw_all := lw_g (lw_at lw_m11 88 rfl) rfl
theorem q2700 : (Jvm.Cond.privateMethod ({ cls := "ShareHouseModel", name := "done", desc := "()I" } : Jvm.MethodName)) ∈ lw_tbl := lw_at lw_m11 89 rfl
theorem q2701 : (Jvm.Cond.instanceMethod ({ cls := "ShareHouseModel", name := "done", desc := "()I" } : Jvm.MethodName)) ∈ lw_all := lw_g (lw_at lw_m11 90 rfl) rfl
theorem q2702 : (Jvm.Cond.code ({ cls := "ShareHouseModel", name := "done", desc := "()I" } : Jvm.MethodName) prog_17_method_115_code (3 : Nat) (Option.some Jvm.ClassFile.FieldType.int)) ∈ lw_all := lw_g (lw_at lw_m11 91 rfl) rfl
theorem q2704 : (Jvm.Cond.instanceMethod ({ cls := "ShareHouseModel", name := "gate", desc := "(II)I" } : Jvm.MethodName)) ∈ lw_all := lw_g (lw_at lw_m11 93 rfl) rfl
theorem q2705 : (Jvm.Cond.selects "ShareHouseModel" ({ cls := "ShareHouseModel", name := "gate", desc := "(II)I" } : Jvm.MethodName) ({ cls := "ShareHouseModel", name := "gate", desc := "(II)I" } : Jvm.MethodName)) ∈ lw_all := lw_g (lw_at lw_m11 94 rfl) rfl
theorem q2706 : (Jvm.Cond.code ({ cls := "ShareHouseModel", name := "gate", desc := "(II)I" } : Jvm.MethodName) prog_17_method_117_code (3 : Nat) (Option.some Jvm.ClassFile.FieldType.int)) ∈ lw_all := lw_g (lw_at lw_m11 95 rfl) rfl
theorem q2708 : (Jvm.Cond.instanceMethod ({ cls := "ShareHouseModel", name := "literal", desc := "(II)I" } : Jvm.MethodName)) ∈ lw_all := lw_g (lw_at lw_m11 97 rfl) rfl
theorem q2709 : (Jvm.Cond.selects "ShareHouseModel" ({ cls := "ShareHouseModel", name := "literal", desc := "(II)I" } : Jvm.MethodName) ({ cls := "ShareHouseModel", name := "literal", desc := "(II)I" } : Jvm.MethodName)) ∈ lw_all := lw_g (lw_at lw_m11 98 rfl) rfl
theorem q2710 : (Jvm.Cond.code ({ cls := "ShareHouseModel", name := "literal", desc := "(II)I" } : Jvm.MethodName) prog_17_method_118_code (3 : Nat) (Option.some Jvm.ClassFile.FieldType.int)) ∈ lw_all := lw_g (lw_at lw_m11 99 rfl) rfl
theorem q2712 : (Jvm.Cond.instanceMethod ({ cls := "ShareHouseModel", name := "input", desc := "(II)J" } : Jvm.MethodName)) ∈ lw_all := lw_g (lw_at lw_m11 101 rfl) rfl
theorem q2713 : (Jvm.Cond.selects "ShareHouseModel" ({ cls := "ShareHouseModel", name := "input", desc := "(II)J" } : Jvm.MethodName) ({ cls := "ShareHouseModel", name := "input", desc := "(II)J" } : Jvm.MethodName)) ∈ lw_all := lw_g (lw_at lw_m11 102 rfl) rfl
theorem q2714 : (Jvm.Cond.code ({ cls := "ShareHouseModel", name := "input", desc := "(II)J" } : Jvm.MethodName) prog_17_method_119_code (3 : Nat) (Option.some Jvm.ClassFile.FieldType.long)) ∈ lw_all := lw_g (lw_at lw_m11 103 rfl) rfl
theorem q2715 : (Jvm.Cond.constantLong "ShareHouseModel" (787 : Nat) (-1 : Int64)) ∈ lw_all := lw_g (lw_at lw_m11 104 rfl) rfl
theorem q2717 : (Jvm.Cond.instanceMethod ({ cls := "ShareHouseModel", name := "give", desc := "(II)Z" } : Jvm.MethodName)) ∈ lw_all := lw_g (lw_at lw_m11 106 rfl) rfl
theorem q2718 : (Jvm.Cond.selects "ShareHouseModel" ({ cls := "ShareHouseModel", name := "give", desc := "(II)Z" } : Jvm.MethodName) ({ cls := "ShareHouseModel", name := "give", desc := "(II)Z" } : Jvm.MethodName)) ∈ lw_all := lw_g (lw_at lw_m11 107 rfl) rfl
theorem q2719 : (Jvm.Cond.code ({ cls := "ShareHouseModel", name := "give", desc := "(II)Z" } : Jvm.MethodName) prog_17_method_120_code (3 : Nat) (Option.some Jvm.ClassFile.FieldType.boolean)) ∈ lw_all := lw_g (lw_at lw_m11 108 rfl) rfl
theorem q2721 : (Jvm.Cond.instanceMethod ({ cls := "ShareHouseModel", name := "seed", desc := "(I)V" } : Jvm.MethodName)) ∈ lw_all := lw_g (lw_at lw_m11 110 rfl) rfl
theorem q2722 : (Jvm.Cond.selects "ShareHouseModel" ({ cls := "ShareHouseModel", name := "seed", desc := "(I)V" } : Jvm.MethodName) ({ cls := "ShareHouseModel", name := "seed", desc := "(I)V" } : Jvm.MethodName)) ∈ lw_all := lw_g (lw_at lw_m11 111 rfl) rfl
theorem q2723 : (Jvm.Cond.code ({ cls := "ShareHouseModel", name := "seed", desc := "(I)V" } : Jvm.MethodName) prog_17_method_121_code (2 : Nat) (Option.none : Option Jvm.ClassFile.FieldType)) ∈ lw_all := lw_g (lw_at lw_m11 112 rfl) rfl
theorem q2725 : (Jvm.Cond.instanceMethod ({ cls := "ShareHouseModel", name := "draws", desc := "(JI)I" } : Jvm.MethodName)) ∈ lw_all := lw_g (lw_at lw_m11 114 rfl) rfl
theorem q2726 : (Jvm.Cond.selects "ShareHouseModel" ({ cls := "ShareHouseModel", name := "draws", desc := "(JI)I" } : Jvm.MethodName) ({ cls := "ShareHouseModel", name := "draws", desc := "(JI)I" } : Jvm.MethodName)) ∈ lw_all := lw_g (lw_at lw_m11 115 rfl) rfl
theorem q2727 : (Jvm.Cond.code ({ cls := "ShareHouseModel", name := "draws", desc := "(JI)I" } : Jvm.MethodName) prog_17_method_122_code (5 : Nat) (Option.some Jvm.ClassFile.FieldType.int)) ∈ lw_all := lw_g (lw_at lw_m11 116 rfl) rfl
theorem q2729 : (Jvm.Cond.instanceMethod ({ cls := "ShareHouseModel", name := "deal", desc := "()Z" } : Jvm.MethodName)) ∈ lw_all := lw_g (lw_at lw_m11 118 rfl) rfl
theorem q2730 : (Jvm.Cond.selects "ShareHouseModel" ({ cls := "ShareHouseModel", name := "deal", desc := "()Z" } : Jvm.MethodName) ({ cls := "ShareHouseModel", name := "deal", desc := "()Z" } : Jvm.MethodName)) ∈ lw_all := lw_g (lw_at lw_m11 119 rfl) rfl
theorem q2731 : (Jvm.Cond.code ({ cls := "ShareHouseModel", name := "deal", desc := "()Z" } : Jvm.MethodName) prog_17_method_123_code (2 : Nat) (Option.some Jvm.ClassFile.FieldType.boolean)) ∈ lw_all := lw_g (lw_at lw_m11 120 rfl) rfl
theorem q2732 : (Jvm.Cond.methodLink "ShareHouseModel" (857 : Nat) ({ cls := "ShareHouseModel", name := "shareAll", desc := "()V" } : Jvm.MethodName)) ∈ lw_all := lw_g (lw_at lw_m11 121 rfl) rfl
theorem q2733 : (Jvm.Cond.privateMethod ({ cls := "ShareHouseModel", name := "shareAll", desc := "()V" } : Jvm.MethodName)) ∈ lw_tbl := lw_at lw_m11 122 rfl
theorem q2734 : (Jvm.Cond.instanceMethod ({ cls := "ShareHouseModel", name := "shareAll", desc := "()V" } : Jvm.MethodName)) ∈ lw_all := lw_g (lw_at lw_m11 123 rfl) rfl
theorem q2735 : (Jvm.Cond.code ({ cls := "ShareHouseModel", name := "shareAll", desc := "()V" } : Jvm.MethodName) prog_17_method_107_code (6 : Nat) (Option.none : Option Jvm.ClassFile.FieldType)) ∈ lw_all := lw_g (lw_at lw_m11 124 rfl) rfl
theorem q2736 : (Jvm.Cond.methodLink "ShareHouseModel" (809 : Nat) ({ cls := "ShareHouseModel", name := "draw", desc := "()I" } : Jvm.MethodName)) ∈ lw_all := lw_g (lw_at lw_m11 125 rfl) rfl
theorem q2737 : (Jvm.Cond.privateMethod ({ cls := "ShareHouseModel", name := "draw", desc := "()I" } : Jvm.MethodName)) ∈ lw_tbl := lw_at lw_m11 126 rfl
theorem q2738 : (Jvm.Cond.instanceMethod ({ cls := "ShareHouseModel", name := "draw", desc := "()I" } : Jvm.MethodName)) ∈ lw_all := lw_g (lw_at lw_m11 127 rfl) rfl
theorem q2739 : (Jvm.Cond.code ({ cls := "ShareHouseModel", name := "draw", desc := "()I" } : Jvm.MethodName) prog_17_method_104_code (2 : Nat) (Option.some Jvm.ClassFile.FieldType.int)) ∈ lw_all := lw_g (lw_at lw_m11 128 rfl) rfl
theorem q2740 : (Jvm.Cond.constant "ShareHouseModel" (803 : Nat) (1103515245 : Int32)) ∈ lw_all := lw_g (lw_at lw_m11 129 rfl) rfl
theorem q2741 : (Jvm.Cond.methodLink "ShareHouseModel" (812 : Nat) ({ cls := "ShareHouseModel", name := "parity", desc := "(I)I" } : Jvm.MethodName)) ∈ lw_all := lw_g (lw_at lw_m11 130 rfl) rfl
theorem q2742 : (Jvm.Cond.static ({ cls := "ShareHouseModel", name := "parity", desc := "(I)I" } : Jvm.MethodName)) ∈ lw_all := lw_g (lw_at lw_m11 131 rfl) rfl
theorem q2743 : (Jvm.Cond.code ({ cls := "ShareHouseModel", name := "parity", desc := "(I)I" } : Jvm.MethodName) prog_17_method_105_code (1 : Nat) (Option.some Jvm.ClassFile.FieldType.int)) ∈ lw_all := lw_g (lw_at lw_m11 132 rfl) rfl
theorem q2744 : (Jvm.Cond.methodLink "ShareHouseModel" (804 : Nat) ({ cls := "java/lang/Integer", name := "bitCount", desc := "(I)I" } : Jvm.MethodName)) ∈ lw_all := lw_g (lw_at lw_m11 133 rfl) rfl
theorem q2750 : (Jvm.Cond.methodLink "ShareHouseModel" (815 : Nat) ({ cls := "ShareHouseModel", name := "shareOf", desc := "(I)I" } : Jvm.MethodName)) ∈ lw_all := lw_g (lw_at lw_m11 139 rfl) rfl
theorem q2751 : (Jvm.Cond.privateMethod ({ cls := "ShareHouseModel", name := "shareOf", desc := "(I)I" } : Jvm.MethodName)) ∈ lw_tbl := lw_at lw_m11 140 rfl
theorem q2752 : (Jvm.Cond.instanceMethod ({ cls := "ShareHouseModel", name := "shareOf", desc := "(I)I" } : Jvm.MethodName)) ∈ lw_all := lw_g (lw_at lw_m11 141 rfl) rfl
theorem q2753 : (Jvm.Cond.code ({ cls := "ShareHouseModel", name := "shareOf", desc := "(I)I" } : Jvm.MethodName) prog_17_method_106_code (2 : Nat) (Option.some Jvm.ClassFile.FieldType.int)) ∈ lw_all := lw_g (lw_at lw_m11 142 rfl) rfl
theorem q2754 : (Jvm.Cond.methodLink "ShareHouseModel" (833 : Nat) ({ cls := "ShareHouseModel", name := "sendRound", desc := "(I)V" } : Jvm.MethodName)) ∈ lw_all := lw_g (lw_at lw_m11 143 rfl) rfl
theorem q2755 : (Jvm.Cond.privateMethod ({ cls := "ShareHouseModel", name := "sendRound", desc := "(I)V" } : Jvm.MethodName)) ∈ lw_tbl := lw_at lw_m11 144 rfl
theorem q2756 : (Jvm.Cond.instanceMethod ({ cls := "ShareHouseModel", name := "sendRound", desc := "(I)V" } : Jvm.MethodName)) ∈ lw_all := lw_g (lw_at lw_m11 145 rfl) rfl
theorem q2757 : (Jvm.Cond.code ({ cls := "ShareHouseModel", name := "sendRound", desc := "(I)V" } : Jvm.MethodName) prog_17_method_109_code (3 : Nat) (Option.none : Option Jvm.ClassFile.FieldType)) ∈ lw_all := lw_g (lw_at lw_m11 146 rfl) rfl
theorem q2759 : (Jvm.Cond.instanceMethod ({ cls := "ShareHouseModel", name := "message", desc := "(II)I" } : Jvm.MethodName)) ∈ lw_all := lw_g (lw_at lw_m11 148 rfl) rfl
theorem q2760 : (Jvm.Cond.selects "ShareHouseModel" ({ cls := "ShareHouseModel", name := "message", desc := "(II)I" } : Jvm.MethodName) ({ cls := "ShareHouseModel", name := "message", desc := "(II)I" } : Jvm.MethodName)) ∈ lw_all := lw_g (lw_at lw_m11 149 rfl) rfl
theorem q2761 : (Jvm.Cond.code ({ cls := "ShareHouseModel", name := "message", desc := "(II)I" } : Jvm.MethodName) prog_17_method_124_code (4 : Nat) (Option.some Jvm.ClassFile.FieldType.int)) ∈ lw_all := lw_g (lw_at lw_m11 150 rfl) rfl
theorem q2762 : (Jvm.Cond.methodLink "ShareHouseModel" (827 : Nat) ({ cls := "ShareHouseModel", name := "lengthOf", desc := "(II)I" } : Jvm.MethodName)) ∈ lw_all := lw_g (lw_at lw_m11 151 rfl) rfl
theorem q2763 : (Jvm.Cond.privateMethod ({ cls := "ShareHouseModel", name := "lengthOf", desc := "(II)I" } : Jvm.MethodName)) ∈ lw_tbl := lw_at lw_m11 152 rfl
theorem q2764 : (Jvm.Cond.instanceMethod ({ cls := "ShareHouseModel", name := "lengthOf", desc := "(II)I" } : Jvm.MethodName)) ∈ lw_all := lw_g (lw_at lw_m11 153 rfl) rfl
theorem q2765 : (Jvm.Cond.code ({ cls := "ShareHouseModel", name := "lengthOf", desc := "(II)I" } : Jvm.MethodName) prog_17_method_110_code (3 : Nat) (Option.some Jvm.ClassFile.FieldType.int)) ∈ lw_all := lw_g (lw_at lw_m11 154 rfl) rfl
theorem q2766 : (Jvm.Cond.methodLink "ShareHouseModel" (860 : Nat) ({ cls := "ShareHouseModel", name := "sentBit", desc := "(IIII)I" } : Jvm.MethodName)) ∈ lw_all := lw_g (lw_at lw_m11 155 rfl) rfl
theorem q2767 : (Jvm.Cond.privateMethod ({ cls := "ShareHouseModel", name := "sentBit", desc := "(IIII)I" } : Jvm.MethodName)) ∈ lw_tbl := lw_at lw_m11 156 rfl
theorem q2768 : (Jvm.Cond.instanceMethod ({ cls := "ShareHouseModel", name := "sentBit", desc := "(IIII)I" } : Jvm.MethodName)) ∈ lw_all := lw_g (lw_at lw_m11 157 rfl) rfl
theorem q2769 : (Jvm.Cond.code ({ cls := "ShareHouseModel", name := "sentBit", desc := "(IIII)I" } : Jvm.MethodName) prog_17_method_111_code (7 : Nat) (Option.some Jvm.ClassFile.FieldType.int)) ∈ lw_all := lw_g (lw_at lw_m11 158 rfl) rfl
theorem q2771 : (Jvm.Cond.instanceMethod ({ cls := "ShareHouseModel", name := "deliver", desc := "(I)I" } : Jvm.MethodName)) ∈ lw_all := lw_g (lw_at lw_m11 160 rfl) rfl
theorem q2772 : (Jvm.Cond.selects "ShareHouseModel" ({ cls := "ShareHouseModel", name := "deliver", desc := "(I)I" } : Jvm.MethodName) ({ cls := "ShareHouseModel", name := "deliver", desc := "(I)I" } : Jvm.MethodName)) ∈ lw_all := lw_g (lw_at lw_m11 161 rfl) rfl
theorem q2773 : (Jvm.Cond.code ({ cls := "ShareHouseModel", name := "deliver", desc := "(I)I" } : Jvm.MethodName) prog_17_method_125_code (2 : Nat) (Option.some Jvm.ClassFile.FieldType.int)) ∈ lw_all := lw_g (lw_at lw_m11 162 rfl) rfl
theorem q2774 : (Jvm.Cond.methodLink "ShareHouseModel" (863 : Nat) ({ cls := "ShareHouseModel", name := "takeMessage", desc := "(I)I" } : Jvm.MethodName)) ∈ lw_all := lw_g (lw_at lw_m11 163 rfl) rfl
theorem q2775 : (Jvm.Cond.privateMethod ({ cls := "ShareHouseModel", name := "takeMessage", desc := "(I)I" } : Jvm.MethodName)) ∈ lw_tbl := lw_at lw_m11 164 rfl
theorem q2776 : (Jvm.Cond.instanceMethod ({ cls := "ShareHouseModel", name := "takeMessage", desc := "(I)I" } : Jvm.MethodName)) ∈ lw_all := lw_g (lw_at lw_m11 165 rfl) rfl
theorem q2777 : (Jvm.Cond.code ({ cls := "ShareHouseModel", name := "takeMessage", desc := "(I)I" } : Jvm.MethodName) prog_17_method_112_code (6 : Nat) (Option.some Jvm.ClassFile.FieldType.int)) ∈ lw_all := lw_g (lw_at lw_m11 166 rfl) rfl
theorem q2779 : (Jvm.Cond.instanceMethod ({ cls := "ShareHouseModel", name := "rush", desc := "(II)I" } : Jvm.MethodName)) ∈ lw_all := lw_g (lw_at lw_m11 168 rfl) rfl
theorem q2780 : (Jvm.Cond.selects "ShareHouseModel" ({ cls := "ShareHouseModel", name := "rush", desc := "(II)I" } : Jvm.MethodName) ({ cls := "ShareHouseModel", name := "rush", desc := "(II)I" } : Jvm.MethodName)) ∈ lw_all := lw_g (lw_at lw_m11 169 rfl) rfl
theorem q2781 : (Jvm.Cond.code ({ cls := "ShareHouseModel", name := "rush", desc := "(II)I" } : Jvm.MethodName) prog_17_method_126_code (5 : Nat) (Option.some Jvm.ClassFile.FieldType.int)) ∈ lw_all := lw_g (lw_at lw_m11 170 rfl) rfl
theorem q2783 : (Jvm.Cond.instanceMethod ({ cls := "ShareHouseModel", name := "party", desc := "(II)I" } : Jvm.MethodName)) ∈ lw_all := lw_g (lw_at lw_m11 172 rfl) rfl
theorem q2784 : (Jvm.Cond.selects "ShareHouseModel" ({ cls := "ShareHouseModel", name := "party", desc := "(II)I" } : Jvm.MethodName) ({ cls := "ShareHouseModel", name := "party", desc := "(II)I" } : Jvm.MethodName)) ∈ lw_all := lw_g (lw_at lw_m11 173 rfl) rfl
theorem q2785 : (Jvm.Cond.code ({ cls := "ShareHouseModel", name := "party", desc := "(II)I" } : Jvm.MethodName) prog_17_method_128_code (3 : Nat) (Option.some Jvm.ClassFile.FieldType.int)) ∈ lw_all := lw_g (lw_at lw_m11 174 rfl) rfl
theorem q2786 : (Jvm.Cond.methodLink "ShareHouseModel" (866 : Nat) ({ cls := "ShareHouseModel", name := "viewBits", desc := "(I)I" } : Jvm.MethodName)) ∈ lw_all := lw_g (lw_at lw_m11 175 rfl) rfl
theorem q2787 : (Jvm.Cond.privateMethod ({ cls := "ShareHouseModel", name := "viewBits", desc := "(I)I" } : Jvm.MethodName)) ∈ lw_tbl := lw_at lw_m11 176 rfl
theorem q2788 : (Jvm.Cond.instanceMethod ({ cls := "ShareHouseModel", name := "viewBits", desc := "(I)I" } : Jvm.MethodName)) ∈ lw_all := lw_g (lw_at lw_m11 177 rfl) rfl
theorem q2789 : (Jvm.Cond.code ({ cls := "ShareHouseModel", name := "viewBits", desc := "(I)I" } : Jvm.MethodName) prog_17_method_127_code (2 : Nat) (Option.some Jvm.ClassFile.FieldType.int)) ∈ lw_all := lw_g (lw_at lw_m11 178 rfl) rfl
theorem q2791 : (Jvm.Cond.instanceMethod ({ cls := "ShareHouseModel", name := "dealt", desc := "(III)I" } : Jvm.MethodName)) ∈ lw_all := lw_g (lw_at lw_m11 180 rfl) rfl
theorem q2792 : (Jvm.Cond.selects "ShareHouseModel" ({ cls := "ShareHouseModel", name := "dealt", desc := "(III)I" } : Jvm.MethodName) ({ cls := "ShareHouseModel", name := "dealt", desc := "(III)I" } : Jvm.MethodName)) ∈ lw_all := lw_g (lw_at lw_m11 181 rfl) rfl
theorem q2793 : (Jvm.Cond.code ({ cls := "ShareHouseModel", name := "dealt", desc := "(III)I" } : Jvm.MethodName) prog_17_method_129_code (4 : Nat) (Option.some Jvm.ClassFile.FieldType.int)) ∈ lw_all := lw_g (lw_at lw_m11 182 rfl) rfl
theorem q2795 : (Jvm.Cond.instanceMethod ({ cls := "ShareHouseModel", name := "share", desc := "(II)I" } : Jvm.MethodName)) ∈ lw_all := lw_g (lw_at lw_m11 184 rfl) rfl
theorem q2796 : (Jvm.Cond.selects "ShareHouseModel" ({ cls := "ShareHouseModel", name := "share", desc := "(II)I" } : Jvm.MethodName) ({ cls := "ShareHouseModel", name := "share", desc := "(II)I" } : Jvm.MethodName)) ∈ lw_all := lw_g (lw_at lw_m11 185 rfl) rfl
theorem q2797 : (Jvm.Cond.code ({ cls := "ShareHouseModel", name := "share", desc := "(II)I" } : Jvm.MethodName) prog_17_method_130_code (4 : Nat) (Option.some Jvm.ClassFile.FieldType.int)) ∈ lw_all := lw_g (lw_at lw_m11 186 rfl) rfl
theorem q2799 : (Jvm.Cond.instanceMethod ({ cls := "ShareHouseModel", name := "view", desc := "(II)I" } : Jvm.MethodName)) ∈ lw_all := lw_g (lw_at lw_m11 188 rfl) rfl
theorem q2800 : (Jvm.Cond.selects "ShareHouseModel" ({ cls := "ShareHouseModel", name := "view", desc := "(II)I" } : Jvm.MethodName) ({ cls := "ShareHouseModel", name := "view", desc := "(II)I" } : Jvm.MethodName)) ∈ lw_all := lw_g (lw_at lw_m11 189 rfl) rfl
theorem q2801 : (Jvm.Cond.code ({ cls := "ShareHouseModel", name := "view", desc := "(II)I" } : Jvm.MethodName) prog_17_method_131_code (9 : Nat) (Option.some Jvm.ClassFile.FieldType.int)) ∈ lw_all := lw_g (lw_at lw_m11 190 rfl) rfl
theorem q2803 : (Jvm.Cond.instanceMethod ({ cls := "ShareHouseModel", name := "told", desc := "(II)J" } : Jvm.MethodName)) ∈ lw_all := lw_g (lw_at lw_m11 192 rfl) rfl
theorem q2804 : (Jvm.Cond.selects "ShareHouseModel" ({ cls := "ShareHouseModel", name := "told", desc := "(II)J" } : Jvm.MethodName) ({ cls := "ShareHouseModel", name := "told", desc := "(II)J" } : Jvm.MethodName)) ∈ lw_all := lw_g (lw_at lw_m11 193 rfl) rfl
theorem q2805 : (Jvm.Cond.code ({ cls := "ShareHouseModel", name := "told", desc := "(II)J" } : Jvm.MethodName) prog_17_method_132_code (6 : Nat) (Option.some Jvm.ClassFile.FieldType.long)) ∈ lw_all := lw_g (lw_at lw_m11 194 rfl) rfl
theorem q2807 : (Jvm.Cond.instanceMethod ({ cls := "ShareHouseModel", name := "truth", desc := "(I)J" } : Jvm.MethodName)) ∈ lw_all := lw_g (lw_at lw_m11 196 rfl) rfl
theorem q2808 : (Jvm.Cond.selects "ShareHouseModel" ({ cls := "ShareHouseModel", name := "truth", desc := "(I)J" } : Jvm.MethodName) ({ cls := "ShareHouseModel", name := "truth", desc := "(I)J" } : Jvm.MethodName)) ∈ lw_all := lw_g (lw_at lw_m11 197 rfl) rfl
theorem q2809 : (Jvm.Cond.code ({ cls := "ShareHouseModel", name := "truth", desc := "(I)J" } : Jvm.MethodName) prog_17_method_133_code (2 : Nat) (Option.some Jvm.ClassFile.FieldType.long)) ∈ lw_all := lw_g (lw_at lw_m11 198 rfl) rfl
theorem q2810 : (Jvm.Cond.methodLink "ShareHouseModel" (869 : Nat) ({ cls := "ShareHouseModel", name := "mean", desc := "()V" } : Jvm.MethodName)) ∈ lw_all := lw_g (lw_at lw_m11 199 rfl) rfl
theorem q2811 : (Jvm.Cond.privateMethod ({ cls := "ShareHouseModel", name := "mean", desc := "()V" } : Jvm.MethodName)) ∈ lw_tbl := lw_at lw_m11 200 rfl
theorem q2812 : (Jvm.Cond.instanceMethod ({ cls := "ShareHouseModel", name := "mean", desc := "()V" } : Jvm.MethodName)) ∈ lw_all := lw_g (lw_at lw_m11 201 rfl) rfl
theorem q2813 : (Jvm.Cond.code ({ cls := "ShareHouseModel", name := "mean", desc := "()V" } : Jvm.MethodName) prog_17_method_99_code (2 : Nat) (Option.none : Option Jvm.ClassFile.FieldType)) ∈ lw_all := lw_g (lw_at lw_m11 202 rfl) rfl
theorem q2814 : (Jvm.Cond.methodLink "ShareHouseModel" (771 : Nat) ({ cls := "ShareHouseModel", name := "meanOperand", desc := "(I)I" } : Jvm.MethodName)) ∈ lw_all := lw_g (lw_at lw_m11 203 rfl) rfl
theorem q2815 : (Jvm.Cond.privateMethod ({ cls := "ShareHouseModel", name := "meanOperand", desc := "(I)I" } : Jvm.MethodName)) ∈ lw_tbl := lw_at lw_m11 204 rfl
theorem q2816 : (Jvm.Cond.instanceMethod ({ cls := "ShareHouseModel", name := "meanOperand", desc := "(I)I" } : Jvm.MethodName)) ∈ lw_all := lw_g (lw_at lw_m11 205 rfl) rfl
theorem q2817 : (Jvm.Cond.code ({ cls := "ShareHouseModel", name := "meanOperand", desc := "(I)I" } : Jvm.MethodName) prog_17_method_101_code (6 : Nat) (Option.some Jvm.ClassFile.FieldType.int)) ∈ lw_all := lw_g (lw_at lw_m11 206 rfl) rfl
theorem q2818 : (Jvm.Cond.methodLink "ShareHouseModel" (780 : Nat) ({ cls := "ShareHouseModel", name := "pushWord", desc := "(J)V" } : Jvm.MethodName)) ∈ lw_all := lw_g (lw_at lw_m11 207 rfl) rfl
theorem q2819 : (Jvm.Cond.privateMethod ({ cls := "ShareHouseModel", name := "pushWord", desc := "(J)V" } : Jvm.MethodName)) ∈ lw_tbl := lw_at lw_m11 208 rfl
theorem q2820 : (Jvm.Cond.instanceMethod ({ cls := "ShareHouseModel", name := "pushWord", desc := "(J)V" } : Jvm.MethodName)) ∈ lw_all := lw_g (lw_at lw_m11 209 rfl) rfl
theorem q2821 : (Jvm.Cond.code ({ cls := "ShareHouseModel", name := "pushWord", desc := "(J)V" } : Jvm.MethodName) prog_17_method_100_code (3 : Nat) (Option.none : Option Jvm.ClassFile.FieldType)) ∈ lw_all := lw_g (lw_at lw_m11 210 rfl) rfl
theorem q2822 : (Jvm.Cond.methodLink "ShareHouseModel" (784 : Nat) ({ cls := "ShareHouseModel", name := "inputWord", desc := "(I)J" } : Jvm.MethodName)) ∈ lw_all := lw_g (lw_at lw_m11 211 rfl) rfl
theorem q2823 : (Jvm.Cond.privateMethod ({ cls := "ShareHouseModel", name := "inputWord", desc := "(I)J" } : Jvm.MethodName)) ∈ lw_tbl := lw_at lw_m11 212 rfl
theorem q2824 : (Jvm.Cond.instanceMethod ({ cls := "ShareHouseModel", name := "inputWord", desc := "(I)J" } : Jvm.MethodName)) ∈ lw_all := lw_g (lw_at lw_m11 213 rfl) rfl
theorem q2825 : (Jvm.Cond.code ({ cls := "ShareHouseModel", name := "inputWord", desc := "(I)J" } : Jvm.MethodName) prog_17_method_98_code (2 : Nat) (Option.some Jvm.ClassFile.FieldType.long)) ∈ lw_all := lw_g (lw_at lw_m11 214 rfl) rfl
theorem q2826 : (Jvm.Cond.methodLink "ShareHouseModel" (789 : Nat) ({ cls := "ShareHouseModel", name := "meanBinary", desc := "(IJJ)J" } : Jvm.MethodName)) ∈ lw_all := lw_g (lw_at lw_m11 215 rfl) rfl
theorem q2827 : (Jvm.Cond.privateMethod ({ cls := "ShareHouseModel", name := "meanBinary", desc := "(IJJ)J" } : Jvm.MethodName)) ∈ lw_tbl := lw_at lw_m11 216 rfl
theorem q2828 : (Jvm.Cond.instanceMethod ({ cls := "ShareHouseModel", name := "meanBinary", desc := "(IJJ)J" } : Jvm.MethodName)) ∈ lw_all := lw_g (lw_at lw_m11 217 rfl) rfl
theorem q2829 : (Jvm.Cond.code ({ cls := "ShareHouseModel", name := "meanBinary", desc := "(IJJ)J" } : Jvm.MethodName) prog_17_method_102_code (6 : Nat) (Option.some Jvm.ClassFile.FieldType.long)) ∈ lw_all := lw_g (lw_at lw_m11 218 rfl) rfl
theorem q2830 : (Jvm.Cond.methodLink "ShareHouseModel" (793 : Nat) ({ cls := "ShareHouseModel", name := "signed", desc := "(J)J" } : Jvm.MethodName)) ∈ lw_all := lw_g (lw_at lw_m11 219 rfl) rfl
theorem q2831 : (Jvm.Cond.privateMethod ({ cls := "ShareHouseModel", name := "signed", desc := "(J)J" } : Jvm.MethodName)) ∈ lw_tbl := lw_at lw_m11 220 rfl
theorem q2832 : (Jvm.Cond.instanceMethod ({ cls := "ShareHouseModel", name := "signed", desc := "(J)J" } : Jvm.MethodName)) ∈ lw_all := lw_g (lw_at lw_m11 221 rfl) rfl
theorem q2833 : (Jvm.Cond.code ({ cls := "ShareHouseModel", name := "signed", desc := "(J)J" } : Jvm.MethodName) prog_17_method_97_code (3 : Nat) (Option.some Jvm.ClassFile.FieldType.long)) ∈ lw_all := lw_g (lw_at lw_m11 222 rfl) rfl
theorem q2834 : (Jvm.Cond.methodLink "ShareHouseModel" (774 : Nat) ({ cls := "ShareHouseModel", name := "meanStatement", desc := "(I)I" } : Jvm.MethodName)) ∈ lw_all := lw_g (lw_at lw_m11 223 rfl) rfl
theorem q2835 : (Jvm.Cond.privateMethod ({ cls := "ShareHouseModel", name := "meanStatement", desc := "(I)I" } : Jvm.MethodName)) ∈ lw_tbl := lw_at lw_m11 224 rfl
theorem q2836 : (Jvm.Cond.instanceMethod ({ cls := "ShareHouseModel", name := "meanStatement", desc := "(I)I" } : Jvm.MethodName)) ∈ lw_all := lw_g (lw_at lw_m11 225 rfl) rfl
theorem q2837 : (Jvm.Cond.code ({ cls := "ShareHouseModel", name := "meanStatement", desc := "(I)I" } : Jvm.MethodName) prog_17_method_103_code (6 : Nat) (Option.some Jvm.ClassFile.FieldType.int)) ∈ lw_all := lw_g (lw_at lw_m11 226 rfl) rfl
theorem in_X15 : ∀ w ∈ wsX150, w ∈ lw_all := lw_in wsX150 [1990, 1992, 1994, 1996, 1998, 2000, 2002, 2004, 2006, 2008, 2010, 2012, 2014, 2016, 2018, 2020, 2022, 2024, 2026, 2028, 2030, 2032, 2034, 2036, 2038, 2040, 2042, 2044, 2046, 2048, 2050, 2052, 2054, 2056, 2058, 2060, 2062, 2064, 2066, 2068, 2070, 2072, 2074, 2076, 2078, 2080, 2082, 2084, 2086, 2088, 2090, 2092, 2094, 2096, 2098, 2100, 2102, 2104, 2106, 2108, 2110, 2112, 2114, 2116, 2118, 2120, 2122, 2124, 2126, 2128, 2130, 2132, 2134, 2136, 2138, 2140, 2142, 2144, 2146, 2148, 2150, 2152, 2154, 2156, 2158, 2160, 2162, 2164, 2166, 2168, 2170, 2172, 2174, 2176, 2178, 2180, 2182, 2184, 2186, 2188, 2190, 2192, 2194, 2196, 2198, 2200, 2202, 2204, 2206, 2208, 2210, 2212, 2214, 2216, 2218, 2220, 2222, 2224, 2226, 2228, 2230, 2232, 2234, 2236, 2238, 2240, 2242, 2244, 2246, 2248, 2250, 2252, 2254, 2256, 2258, 2260, 2262, 2264, 2266, 2268, 2270, 2272, 2274, 2276, 2278, 2280] (by decide +kernel) (by decide +kernel)
theorem q219 : (Jvm.Cond.initialized "java/lang/Math") ∈ lw_all := lw_g (lw_at lw_m1 8 rfl) rfl
theorem q411 : (Jvm.Cond.static ({ cls := "java/lang/Math", name := "min", desc := "(II)I" } : Jvm.MethodName)) ∈ lw_all := lw_g (lw_at lw_m1 200 rfl) rfl
theorem q412 : (Jvm.Cond.code ({ cls := "java/lang/Math", name := "min", desc := "(II)I" } : Jvm.MethodName) prog_21_method_69_code (2 : Nat) (Option.some Jvm.ClassFile.FieldType.int)) ∈ lw_all := lw_g (lw_at lw_m1 201 rfl) rfl
theorem q414 : (Jvm.Cond.static ({ cls := "java/lang/Math", name := "max", desc := "(II)I" } : Jvm.MethodName)) ∈ lw_all := lw_g (lw_at lw_m1 203 rfl) rfl
theorem q415 : (Jvm.Cond.code ({ cls := "java/lang/Math", name := "max", desc := "(II)I" } : Jvm.MethodName) prog_21_method_65_code (2 : Nat) (Option.some Jvm.ClassFile.FieldType.int)) ∈ lw_all := lw_g (lw_at lw_m1 204 rfl) rfl
theorem q229 : (Jvm.Cond.initialized "java/lang/String") ∈ lw_all := lw_g (lw_at lw_m1 18 rfl) rfl
theorem q969 : (Jvm.Cond.instanceMethod ({ cls := "java/lang/String", name := "length", desc := "()I" } : Jvm.MethodName)) ∈ lw_all := lw_g (lw_at lw_m4 38 rfl) rfl
theorem q970 : (Jvm.Cond.selects "java/lang/String" ({ cls := "java/lang/String", name := "length", desc := "()I" } : Jvm.MethodName) ({ cls := "java/lang/String", name := "length", desc := "()I" } : Jvm.MethodName)) ∈ lw_all := lw_g (lw_at lw_m4 39 rfl) rfl
theorem q971 : (Jvm.Cond.code ({ cls := "java/lang/String", name := "length", desc := "()I" } : Jvm.MethodName) prog_22_method_54_code (1 : Nat) (Option.some Jvm.ClassFile.FieldType.int)) ∈ lw_all := lw_g (lw_at lw_m4 40 rfl) rfl
theorem q972 : (Jvm.Cond.methodLink "java/lang/String" (335 : Nat) ({ cls := "java/lang/String", name := "coder", desc := "()B" } : Jvm.MethodName)) ∈ lw_all := lw_g (lw_at lw_m4 41 rfl) rfl
theorem q973 : (Jvm.Cond.instanceMethod ({ cls := "java/lang/String", name := "coder", desc := "()B" } : Jvm.MethodName)) ∈ lw_all := lw_g (lw_at lw_m4 42 rfl) rfl
theorem q974 : (Jvm.Cond.selects "java/lang/String" ({ cls := "java/lang/String", name := "coder", desc := "()B" } : Jvm.MethodName) ({ cls := "java/lang/String", name := "coder", desc := "()B" } : Jvm.MethodName)) ∈ lw_all := lw_g (lw_at lw_m4 43 rfl) rfl
theorem q975 : (Jvm.Cond.code ({ cls := "java/lang/String", name := "coder", desc := "()B" } : Jvm.MethodName) prog_22_method_152_code (1 : Nat) (Option.some Jvm.ClassFile.FieldType.byte)) ∈ lw_all := lw_g (lw_at lw_m4 44 rfl) rfl
theorem q976 : (Jvm.Cond.fieldLink "java/lang/String" (38 : Nat) "java/lang/String" "COMPACT_STRINGS" "Z") ∈ lw_all := lw_g (lw_at lw_m4 45 rfl) rfl
theorem q977 : (Jvm.Cond.laysStatic "java/lang/String" "COMPACT_STRINGS" "Z") ∈ lw_tbl := lw_at lw_m4 46 rfl
theorem q989 : (Jvm.Cond.instanceMethod ({ cls := "java/lang/String", name := "charAt", desc := "(I)C" } : Jvm.MethodName)) ∈ lw_all := lw_g (lw_at lw_m4 58 rfl) rfl
theorem q990 : (Jvm.Cond.selects "java/lang/String" ({ cls := "java/lang/String", name := "charAt", desc := "(I)C" } : Jvm.MethodName) ({ cls := "java/lang/String", name := "charAt", desc := "(I)C" } : Jvm.MethodName)) ∈ lw_all := lw_g (lw_at lw_m4 59 rfl) rfl
theorem q991 : (Jvm.Cond.code ({ cls := "java/lang/String", name := "charAt", desc := "(I)C" } : Jvm.MethodName) prog_22_method_56_code (2 : Nat) (Option.some Jvm.ClassFile.FieldType.char)) ∈ lw_all := lw_g (lw_at lw_m4 60 rfl) rfl
theorem q992 : (Jvm.Cond.methodLink "java/lang/String" (492 : Nat) ({ cls := "java/lang/String", name := "isLatin1", desc := "()Z" } : Jvm.MethodName)) ∈ lw_all := lw_g (lw_at lw_m4 61 rfl) rfl
theorem q993 : (Jvm.Cond.instanceMethod ({ cls := "java/lang/String", name := "isLatin1", desc := "()Z" } : Jvm.MethodName)) ∈ lw_all := lw_g (lw_at lw_m4 62 rfl) rfl
theorem q994 : (Jvm.Cond.selects "java/lang/String" ({ cls := "java/lang/String", name := "isLatin1", desc := "()Z" } : Jvm.MethodName) ({ cls := "java/lang/String", name := "isLatin1", desc := "()Z" } : Jvm.MethodName)) ∈ lw_all := lw_g (lw_at lw_m4 63 rfl) rfl
theorem q995 : (Jvm.Cond.code ({ cls := "java/lang/String", name := "isLatin1", desc := "()Z" } : Jvm.MethodName) prog_22_method_154_code (1 : Nat) (Option.some Jvm.ClassFile.FieldType.boolean)) ∈ lw_all := lw_g (lw_at lw_m4 64 rfl) rfl
theorem q996 : (Jvm.Cond.methodLink "java/lang/String" (495 : Nat) ({ cls := "java/lang/StringLatin1", name := "charAt", desc := "([BI)C" } : Jvm.MethodName)) ∈ lw_all := lw_g (lw_at lw_m4 65 rfl) rfl
theorem q1000 : (Jvm.Cond.static ({ cls := "java/lang/String", name := "checkIndex", desc := "(II)V" } : Jvm.MethodName)) ∈ lw_all := lw_g (lw_at lw_m4 69 rfl) rfl
theorem q1001 : (Jvm.Cond.code ({ cls := "java/lang/String", name := "checkIndex", desc := "(II)V" } : Jvm.MethodName) prog_22_method_155_code (2 : Nat) (Option.none : Option Jvm.ClassFile.FieldType)) ∈ lw_all := lw_g (lw_at lw_m4 70 rfl) rfl
theorem q1002 : (Jvm.Cond.fieldLink "java/lang/String" (1053 : Nat) "jdk/internal/util/Preconditions" "SIOOBE_FORMATTER" "Ljava/util/function/BiFunction;") ∈ lw_all := lw_g (lw_at lw_m4 71 rfl) rfl
theorem q1004 : (Jvm.Cond.methodLink "java/lang/String" (1059 : Nat) ({ cls := "jdk/internal/util/Preconditions", name := "checkIndex", desc := "(IILjava/util/function/BiFunction;)I" } : Jvm.MethodName)) ∈ lw_all := lw_g (lw_at lw_m4 73 rfl) rfl
theorem q1007 : (Jvm.Cond.methodLink "java/lang/String" (498 : Nat) ({ cls := "java/lang/StringUTF16", name := "charAt", desc := "([BI)C" } : Jvm.MethodName)) ∈ lw_all := lw_g (lw_at lw_m4 76 rfl) rfl
theorem q2839 : (Jvm.Cond.fieldLink "java/lang/String" (9 : Nat) "java/lang/String" "value" "[B") ∈ lw_all := lw_g (lw_at lw_m11 228 rfl) rfl
theorem q2840 : (Jvm.Cond.fieldLink "java/lang/String" (15 : Nat) "java/lang/String" "coder" "B") ∈ lw_all := lw_g (lw_at lw_m11 229 rfl) rfl
theorem q230 : (Jvm.Cond.initialized "java/lang/StringLatin1") ∈ lw_all := lw_g (lw_at lw_m1 19 rfl) rfl
theorem q997 : (Jvm.Cond.static ({ cls := "java/lang/StringLatin1", name := "charAt", desc := "([BI)C" } : Jvm.MethodName)) ∈ lw_all := lw_g (lw_at lw_m4 66 rfl) rfl
theorem q998 : (Jvm.Cond.code ({ cls := "java/lang/StringLatin1", name := "charAt", desc := "([BI)C" } : Jvm.MethodName) prog_23_method_2_code (2 : Nat) (Option.some Jvm.ClassFile.FieldType.char)) ∈ lw_all := lw_g (lw_at lw_m4 67 rfl) rfl
theorem q999 : (Jvm.Cond.methodLink "java/lang/StringLatin1" (9 : Nat) ({ cls := "java/lang/String", name := "checkIndex", desc := "(II)V" } : Jvm.MethodName)) ∈ lw_all := lw_g (lw_at lw_m4 68 rfl) rfl
theorem q231 : (Jvm.Cond.initialized "jdk/internal/util/Preconditions") ∈ lw_all := lw_g (lw_at lw_m1 20 rfl) rfl
theorem q1003 : (Jvm.Cond.laysStatic "jdk/internal/util/Preconditions" "SIOOBE_FORMATTER" "Ljava/util/function/BiFunction;") ∈ lw_tbl := lw_at lw_m4 72 rfl
theorem q1005 : (Jvm.Cond.static ({ cls := "jdk/internal/util/Preconditions", name := "checkIndex", desc := "(IILjava/util/function/BiFunction;)I" } : Jvm.MethodName)) ∈ lw_all := lw_g (lw_at lw_m4 74 rfl) rfl
theorem q1006 : (Jvm.Cond.code ({ cls := "jdk/internal/util/Preconditions", name := "checkIndex", desc := "(IILjava/util/function/BiFunction;)I" } : Jvm.MethodName) prog_27_method_11_code (3 : Nat) (Option.some Jvm.ClassFile.FieldType.int)) ∈ lw_all := lw_g (lw_at lw_m4 75 rfl) rfl
theorem q232 : (Jvm.Cond.initialized "java/lang/StringUTF16") ∈ lw_all := lw_g (lw_at lw_m1 21 rfl) rfl
theorem q1008 : (Jvm.Cond.static ({ cls := "java/lang/StringUTF16", name := "charAt", desc := "([BI)C" } : Jvm.MethodName)) ∈ lw_all := lw_g (lw_at lw_m4 77 rfl) rfl
theorem q1009 : (Jvm.Cond.code ({ cls := "java/lang/StringUTF16", name := "charAt", desc := "([BI)C" } : Jvm.MethodName) prog_24_method_83_code (2 : Nat) (Option.some Jvm.ClassFile.FieldType.char)) ∈ lw_all := lw_g (lw_at lw_m4 78 rfl) rfl
theorem q1010 : (Jvm.Cond.methodLink "java/lang/StringUTF16" (67 : Nat) ({ cls := "java/lang/StringUTF16", name := "checkIndex", desc := "(I[B)V" } : Jvm.MethodName)) ∈ lw_all := lw_g (lw_at lw_m4 79 rfl) rfl
theorem q1011 : (Jvm.Cond.static ({ cls := "java/lang/StringUTF16", name := "checkIndex", desc := "(I[B)V" } : Jvm.MethodName)) ∈ lw_all := lw_g (lw_at lw_m4 80 rfl) rfl
theorem q1012 : (Jvm.Cond.code ({ cls := "java/lang/StringUTF16", name := "checkIndex", desc := "(I[B)V" } : Jvm.MethodName) prog_24_method_91_code (2 : Nat) (Option.none : Option Jvm.ClassFile.FieldType)) ∈ lw_all := lw_g (lw_at lw_m4 81 rfl) rfl
theorem q1013 : (Jvm.Cond.methodLink "java/lang/StringUTF16" (48 : Nat) ({ cls := "java/lang/StringUTF16", name := "length", desc := "([B)I" } : Jvm.MethodName)) ∈ lw_all := lw_g (lw_at lw_m4 82 rfl) rfl
theorem q1014 : (Jvm.Cond.static ({ cls := "java/lang/StringUTF16", name := "length", desc := "([B)I" } : Jvm.MethodName)) ∈ lw_all := lw_g (lw_at lw_m4 83 rfl) rfl
theorem q1015 : (Jvm.Cond.code ({ cls := "java/lang/StringUTF16", name := "length", desc := "([B)I" } : Jvm.MethodName) prog_24_method_6_code (1 : Nat) (Option.some Jvm.ClassFile.FieldType.int)) ∈ lw_all := lw_g (lw_at lw_m4 84 rfl) rfl
theorem q1016 : (Jvm.Cond.methodLink "java/lang/StringUTF16" (414 : Nat) ({ cls := "java/lang/String", name := "checkIndex", desc := "(II)V" } : Jvm.MethodName)) ∈ lw_all := lw_g (lw_at lw_m4 85 rfl) rfl
theorem q1017 : (Jvm.Cond.methodLink "java/lang/StringUTF16" (71 : Nat) ({ cls := "java/lang/StringUTF16", name := "getChar", desc := "([BI)C" } : Jvm.MethodName)) ∈ lw_all := lw_g (lw_at lw_m4 86 rfl) rfl
theorem q1018 : (Jvm.Cond.static ({ cls := "java/lang/StringUTF16", name := "getChar", desc := "([BI)C" } : Jvm.MethodName)) ∈ lw_all := lw_g (lw_at lw_m4 87 rfl) rfl
theorem q1019 : (Jvm.Cond.code ({ cls := "java/lang/StringUTF16", name := "getChar", desc := "([BI)C" } : Jvm.MethodName) prog_24_method_5_code (2 : Nat) (Option.some Jvm.ClassFile.FieldType.char)) ∈ lw_all := lw_g (lw_at lw_m4 88 rfl) rfl
theorem q1020 : (Jvm.Cond.fieldLink "java/lang/StringUTF16" (44 : Nat) "java/lang/StringUTF16" "$assertionsDisabled" "Z") ∈ lw_all := lw_g (lw_at lw_m4 89 rfl) rfl
theorem q1021 : (Jvm.Cond.laysStatic "java/lang/StringUTF16" "$assertionsDisabled" "Z") ∈ lw_tbl := lw_at lw_m4 90 rfl
theorem q1022 : (Jvm.Cond.fieldLink "java/lang/StringUTF16" (59 : Nat) "java/lang/StringUTF16" "HI_BYTE_SHIFT" "I") ∈ lw_all := lw_g (lw_at lw_m4 91 rfl) rfl
theorem q1023 : (Jvm.Cond.laysStatic "java/lang/StringUTF16" "HI_BYTE_SHIFT" "I") ∈ lw_tbl := lw_at lw_m4 92 rfl
theorem q1024 : (Jvm.Cond.fieldLink "java/lang/StringUTF16" (63 : Nat) "java/lang/StringUTF16" "LO_BYTE_SHIFT" "I") ∈ lw_all := lw_g (lw_at lw_m4 93 rfl) rfl
theorem q1025 : (Jvm.Cond.laysStatic "java/lang/StringUTF16" "LO_BYTE_SHIFT" "I") ∈ lw_tbl := lw_at lw_m4 94 rfl
theorem q233 : (Jvm.Cond.initialized "java/lang/Enum") ∈ lw_all := lw_g (lw_at lw_m1 22 rfl) rfl
theorem q1318 : (Jvm.Cond.declares ({ cls := "java/lang/Enum", name := "ordinal", desc := "()I" } : Jvm.MethodName)) ∈ lw_tbl := lw_at lw_m5 147 rfl
theorem q1320 : (Jvm.Cond.instanceMethod ({ cls := "java/lang/Enum", name := "ordinal", desc := "()I" } : Jvm.MethodName)) ∈ lw_all := lw_g (lw_at lw_m5 149 rfl) rfl
theorem q1321 : (Jvm.Cond.code ({ cls := "java/lang/Enum", name := "ordinal", desc := "()I" } : Jvm.MethodName) prog_19_method_2_code (1 : Nat) (Option.some Jvm.ClassFile.FieldType.int)) ∈ lw_all := lw_g (lw_at lw_m5 150 rfl) rfl
theorem q2841 : (Jvm.Cond.fieldLink "java/lang/Enum" (7 : Nat) "java/lang/Enum" "ordinal" "I") ∈ lw_all := lw_g (lw_at lw_m11 230 rfl) rfl
theorem q235 : (Jvm.Cond.initialized "java/lang/Integer") ∈ lw_all := lw_g (lw_at lw_m1 24 rfl) rfl
theorem q2745 : (Jvm.Cond.static ({ cls := "java/lang/Integer", name := "bitCount", desc := "(I)I" } : Jvm.MethodName)) ∈ lw_all := lw_g (lw_at lw_m11 134 rfl) rfl
theorem q2746 : (Jvm.Cond.code ({ cls := "java/lang/Integer", name := "bitCount", desc := "(I)I" } : Jvm.MethodName) prog_20_method_49_code (1 : Nat) (Option.some Jvm.ClassFile.FieldType.int)) ∈ lw_all := lw_g (lw_at lw_m11 135 rfl) rfl
theorem q2747 : (Jvm.Cond.constant "java/lang/Integer" (265 : Nat) (1431655765 : Int32)) ∈ lw_all := lw_g (lw_at lw_m11 136 rfl) rfl
theorem q2748 : (Jvm.Cond.constant "java/lang/Integer" (266 : Nat) (858993459 : Int32)) ∈ lw_all := lw_g (lw_at lw_m11 137 rfl) rfl
theorem q2749 : (Jvm.Cond.constant "java/lang/Integer" (267 : Nat) (252645135 : Int32)) ∈ lw_all := lw_g (lw_at lw_m11 138 rfl) rfl
theorem q236 : (Jvm.Cond.initialized "java/util/Arrays") ∈ lw_all := lw_g (lw_at lw_m1 25 rfl) rfl
theorem q1746 : (Jvm.Cond.static ({ cls := "java/util/Arrays", name := "copyOf", desc := "([II)[I" } : Jvm.MethodName)) ∈ lw_all := lw_g (lw_at lw_m7 95 rfl) rfl
theorem q1747 : (Jvm.Cond.code ({ cls := "java/util/Arrays", name := "copyOf", desc := "([II)[I" } : Jvm.MethodName) prog_26_method_123_code (3 : Nat) (Option.some (Jvm.ClassFile.FieldType.array Jvm.ClassFile.FieldType.int))) ∈ lw_all := lw_g (lw_at lw_m7 96 rfl) rfl
theorem q1748 : (Jvm.Cond.methodLink "java/util/Arrays" (316 : Nat) ({ cls := "[I", name := "clone", desc := "()Ljava/lang/Object;" } : Jvm.MethodName)) ∈ lw_all := lw_g (lw_at lw_m7 97 rfl) rfl
theorem q1754 : (Jvm.Cond.classLink "java/util/Arrays" (317 : Nat) "[I") ∈ lw_all := lw_g (lw_at lw_m7 103 rfl) rfl
theorem q1755 : (Jvm.Cond.methodLink "java/util/Arrays" (304 : Nat) ({ cls := "java/lang/Math", name := "min", desc := "(II)I" } : Jvm.MethodName)) ∈ lw_all := lw_g (lw_at lw_m7 104 rfl) rfl
theorem q1756 : (Jvm.Cond.methodLink "java/util/Arrays" (150 : Nat) ({ cls := "java/lang/System", name := "arraycopy", desc := "(Ljava/lang/Object;ILjava/lang/Object;II)V" } : Jvm.MethodName)) ∈ lw_all := lw_g (lw_at lw_m7 105 rfl) rfl
theorem q243 : (Jvm.Cond.instanceMethod ({ cls := "java/lang/Object", name := "<init>", desc := "()V" } : Jvm.MethodName)) ∈ lw_all := lw_g (lw_at lw_m1 32 rfl) rfl
theorem q244 : (Jvm.Cond.code ({ cls := "java/lang/Object", name := "<init>", desc := "()V" } : Jvm.MethodName) object_method_1_code (1 : Nat) (Option.none : Option Jvm.ClassFile.FieldType)) ∈ lw_all := lw_g (lw_at lw_m1 33 rfl) rfl
theorem q1750 : (Jvm.Cond.native ({ cls := "java/lang/Object", name := "clone", desc := "()Ljava/lang/Object;" } : Jvm.MethodName)) ∈ lw_all := lw_g (lw_at lw_m7 99 rfl) rfl
theorem q1751 : (Jvm.Cond.instanceMethod ({ cls := "java/lang/Object", name := "clone", desc := "()Ljava/lang/Object;" } : Jvm.MethodName)) ∈ lw_all := lw_g (lw_at lw_m7 100 rfl) rfl
theorem q1749 : (Jvm.Cond.sameMethod "[I" "java/lang/Object" "clone" "()Ljava/lang/Object;") ∈ lw_all := lw_g (lw_at lw_m7 98 rfl) rfl
theorem q1752 : (Jvm.Cond.selects "[I" ({ cls := "[I", name := "clone", desc := "()Ljava/lang/Object;" } : Jvm.MethodName) ({ cls := "java/lang/Object", name := "clone", desc := "()Ljava/lang/Object;" } : Jvm.MethodName)) ∈ lw_all := lw_g (lw_at lw_m7 101 rfl) rfl
theorem q1753 : (Jvm.Cond.castable "[I" "java/lang/Cloneable") ∈ lw_tbl := lw_at lw_m7 102 rfl
theorem q228 : (Jvm.Cond.initialized "java/lang/System") ∈ lw_all := lw_g (lw_at lw_m1 17 rfl) rfl
theorem q932 : (Jvm.Cond.static ({ cls := "java/lang/System", name := "arraycopy", desc := "(Ljava/lang/Object;ILjava/lang/Object;II)V" } : Jvm.MethodName)) ∈ lw_all := lw_g (lw_at lw_m4 1 rfl) rfl
theorem q933 : (Jvm.Cond.native ({ cls := "java/lang/System", name := "arraycopy", desc := "(Ljava/lang/Object;ILjava/lang/Object;II)V" } : Jvm.MethodName)) ∈ lw_all := lw_g (lw_at lw_m4 2 rfl) rfl
theorem q234 : (Jvm.Cond.initialized "ShareHouse$Op") ∈ lw_all := lw_g (lw_at lw_m1 23 rfl) rfl
theorem q1104 : (Jvm.Cond.laysStatic "ShareHouse$Op" "INPUT" "LShareHouse$Op;") ∈ lw_tbl := lw_at lw_m4 173 rfl
theorem q1114 : (Jvm.Cond.laysStatic "ShareHouse$Op" "DEF" "LShareHouse$Op;") ∈ lw_tbl := lw_at lw_m4 183 rfl
theorem q1120 : (Jvm.Cond.laysStatic "ShareHouse$Op" "PARAM" "LShareHouse$Op;") ∈ lw_tbl := lw_at lw_m4 189 rfl
theorem q1138 : (Jvm.Cond.laysStatic "ShareHouse$Op" "NEGATE" "LShareHouse$Op;") ∈ lw_tbl := lw_at lw_m4 207 rfl
theorem q1140 : (Jvm.Cond.laysStatic "ShareHouse$Op" "TURN" "LShareHouse$Op;") ∈ lw_tbl := lw_at lw_m4 209 rfl
theorem q1142 : (Jvm.Cond.laysStatic "ShareHouse$Op" "NOT" "LShareHouse$Op;") ∈ lw_tbl := lw_at lw_m4 211 rfl
theorem q1144 : (Jvm.Cond.laysStatic "ShareHouse$Op" "OPEN" "LShareHouse$Op;") ∈ lw_tbl := lw_at lw_m4 213 rfl
theorem q1150 : (Jvm.Cond.laysStatic "ShareHouse$Op" "CLOSE" "LShareHouse$Op;") ∈ lw_tbl := lw_at lw_m4 219 rfl
theorem q1153 : (Jvm.Cond.laysStatic "ShareHouse$Op" "NUMBER" "LShareHouse$Op;") ∈ lw_tbl := lw_at lw_m4 222 rfl
theorem q1155 : (Jvm.Cond.laysStatic "ShareHouse$Op" "TRUE" "LShareHouse$Op;") ∈ lw_tbl := lw_at lw_m4 224 rfl
theorem q1157 : (Jvm.Cond.laysStatic "ShareHouse$Op" "FALSE" "LShareHouse$Op;") ∈ lw_tbl := lw_at lw_m4 226 rfl
theorem q1159 : (Jvm.Cond.laysStatic "ShareHouse$Op" "INT" "LShareHouse$Op;") ∈ lw_tbl := lw_at lw_m4 228 rfl
theorem q1161 : (Jvm.Cond.laysStatic "ShareHouse$Op" "ENDINT" "LShareHouse$Op;") ∈ lw_tbl := lw_at lw_m4 230 rfl
theorem q1167 : (Jvm.Cond.laysStatic "ShareHouse$Op" "BIT" "LShareHouse$Op;") ∈ lw_tbl := lw_at lw_m4 236 rfl
theorem q1169 : (Jvm.Cond.laysStatic "ShareHouse$Op" "FIRST" "LShareHouse$Op;") ∈ lw_tbl := lw_at lw_m4 238 rfl
theorem q1171 : (Jvm.Cond.laysStatic "ShareHouse$Op" "ENDBIT" "LShareHouse$Op;") ∈ lw_tbl := lw_at lw_m5 0 rfl
theorem q1177 : (Jvm.Cond.laysStatic "ShareHouse$Op" "ELEMENT" "LShareHouse$Op;") ∈ lw_tbl := lw_at lw_m5 6 rfl
theorem q1179 : (Jvm.Cond.laysStatic "ShareHouse$Op" "ENDELEMENT" "LShareHouse$Op;") ∈ lw_tbl := lw_at lw_m5 8 rfl
theorem q1185 : (Jvm.Cond.laysStatic "ShareHouse$Op" "CALL" "LShareHouse$Op;") ∈ lw_tbl := lw_at lw_m5 14 rfl
theorem q1187 : (Jvm.Cond.laysStatic "ShareHouse$Op" "ARGUMENT" "LShareHouse$Op;") ∈ lw_tbl := lw_at lw_m5 16 rfl
theorem q1189 : (Jvm.Cond.laysStatic "ShareHouse$Op" "ENDCALL" "LShareHouse$Op;") ∈ lw_tbl := lw_at lw_m5 18 rfl
theorem q1191 : (Jvm.Cond.laysStatic "ShareHouse$Op" "READ" "LShareHouse$Op;") ∈ lw_tbl := lw_at lw_m5 20 rfl
theorem q1197 : (Jvm.Cond.laysStatic "ShareHouse$Op" "END" "LShareHouse$Op;") ∈ lw_tbl := lw_at lw_m5 26 rfl
theorem q1203 : (Jvm.Cond.laysStatic "ShareHouse$Op" "OR" "LShareHouse$Op;") ∈ lw_tbl := lw_at lw_m5 32 rfl
theorem q1205 : (Jvm.Cond.laysStatic "ShareHouse$Op" "BAR" "LShareHouse$Op;") ∈ lw_tbl := lw_at lw_m5 34 rfl
theorem q1207 : (Jvm.Cond.laysStatic "ShareHouse$Op" "AND" "LShareHouse$Op;") ∈ lw_tbl := lw_at lw_m5 36 rfl
theorem q1209 : (Jvm.Cond.laysStatic "ShareHouse$Op" "ET" "LShareHouse$Op;") ∈ lw_tbl := lw_at lw_m5 38 rfl
theorem q1211 : (Jvm.Cond.laysStatic "ShareHouse$Op" "XOR" "LShareHouse$Op;") ∈ lw_tbl := lw_at lw_m5 40 rfl
theorem q1213 : (Jvm.Cond.laysStatic "ShareHouse$Op" "SAME" "LShareHouse$Op;") ∈ lw_tbl := lw_at lw_m5 42 rfl
theorem q1215 : (Jvm.Cond.laysStatic "ShareHouse$Op" "OTHER" "LShareHouse$Op;") ∈ lw_tbl := lw_at lw_m5 44 rfl
theorem q1217 : (Jvm.Cond.laysStatic "ShareHouse$Op" "MOST" "LShareHouse$Op;") ∈ lw_tbl := lw_at lw_m5 46 rfl
theorem q1219 : (Jvm.Cond.laysStatic "ShareHouse$Op" "LEFT" "LShareHouse$Op;") ∈ lw_tbl := lw_at lw_m5 48 rfl
theorem q1221 : (Jvm.Cond.laysStatic "ShareHouse$Op" "LESS" "LShareHouse$Op;") ∈ lw_tbl := lw_at lw_m5 50 rfl
theorem q1223 : (Jvm.Cond.laysStatic "ShareHouse$Op" "LEAST" "LShareHouse$Op;") ∈ lw_tbl := lw_at lw_m5 52 rfl
theorem q1225 : (Jvm.Cond.laysStatic "ShareHouse$Op" "RIGHT" "LShareHouse$Op;") ∈ lw_tbl := lw_at lw_m5 54 rfl
theorem q1227 : (Jvm.Cond.laysStatic "ShareHouse$Op" "MORE" "LShareHouse$Op;") ∈ lw_tbl := lw_at lw_m5 56 rfl
theorem q1229 : (Jvm.Cond.laysStatic "ShareHouse$Op" "PLUS" "LShareHouse$Op;") ∈ lw_tbl := lw_at lw_m5 58 rfl
theorem q1231 : (Jvm.Cond.laysStatic "ShareHouse$Op" "MINUS" "LShareHouse$Op;") ∈ lw_tbl := lw_at lw_m5 60 rfl
theorem q1233 : (Jvm.Cond.laysStatic "ShareHouse$Op" "TIMES" "LShareHouse$Op;") ∈ lw_tbl := lw_at lw_m5 62 rfl
theorem q1235 : (Jvm.Cond.laysStatic "ShareHouse$Op" "BY" "LShareHouse$Op;") ∈ lw_tbl := lw_at lw_m5 64 rfl
theorem q1237 : (Jvm.Cond.laysStatic "ShareHouse$Op" "REST" "LShareHouse$Op;") ∈ lw_tbl := lw_at lw_m5 66 rfl
theorem q1239 : (Jvm.Cond.laysStatic "ShareHouse$Op" "CHOOSE" "LShareHouse$Op;") ∈ lw_tbl := lw_at lw_m5 68 rfl
theorem q1241 : (Jvm.Cond.laysStatic "ShareHouse$Op" "ENDDEF" "LShareHouse$Op;") ∈ lw_tbl := lw_at lw_m5 70 rfl
theorem q1247 : (Jvm.Cond.laysStatic "ShareHouse$Op" "OUTPUT" "LShareHouse$Op;") ∈ lw_tbl := lw_at lw_m5 76 rfl
theorem q1249 : (Jvm.Cond.laysStatic "ShareHouse$Op" "ENDOUTPUT" "LShareHouse$Op;") ∈ lw_tbl := lw_at lw_m5 78 rfl
theorem q1255 : (Jvm.Cond.laysStatic "ShareHouse$Op" "STATEMENT" "LShareHouse$Op;") ∈ lw_tbl := lw_at lw_m5 84 rfl
theorem q1261 : (Jvm.Cond.laysStatic "ShareHouse$Op" "VAR" "LShareHouse$Op;") ∈ lw_tbl := lw_at lw_m5 90 rfl
theorem q1263 : (Jvm.Cond.laysStatic "ShareHouse$Op" "ENDVAR" "LShareHouse$Op;") ∈ lw_tbl := lw_at lw_m5 92 rfl
theorem q1269 : (Jvm.Cond.laysStatic "ShareHouse$Op" "IF" "LShareHouse$Op;") ∈ lw_tbl := lw_at lw_m5 98 rfl
theorem q1275 : (Jvm.Cond.laysStatic "ShareHouse$Op" "BLOCK" "LShareHouse$Op;") ∈ lw_tbl := lw_at lw_m5 104 rfl
theorem q1277 : (Jvm.Cond.laysStatic "ShareHouse$Op" "ENDBLOCK" "LShareHouse$Op;") ∈ lw_tbl := lw_at lw_m5 106 rfl
theorem q1279 : (Jvm.Cond.laysStatic "ShareHouse$Op" "ELSE" "LShareHouse$Op;") ∈ lw_tbl := lw_at lw_m5 108 rfl
theorem q1281 : (Jvm.Cond.laysStatic "ShareHouse$Op" "ENDIF" "LShareHouse$Op;") ∈ lw_tbl := lw_at lw_m5 110 rfl
theorem q1287 : (Jvm.Cond.laysStatic "ShareHouse$Op" "FOR" "LShareHouse$Op;") ∈ lw_tbl := lw_at lw_m5 116 rfl
theorem q1289 : (Jvm.Cond.laysStatic "ShareHouse$Op" "BOUND" "LShareHouse$Op;") ∈ lw_tbl := lw_at lw_m5 118 rfl
theorem q1291 : (Jvm.Cond.laysStatic "ShareHouse$Op" "LOOP" "LShareHouse$Op;") ∈ lw_tbl := lw_at lw_m5 120 rfl
theorem q1293 : (Jvm.Cond.laysStatic "ShareHouse$Op" "ENDFOR" "LShareHouse$Op;") ∈ lw_tbl := lw_at lw_m5 122 rfl
theorem q1299 : (Jvm.Cond.laysStatic "ShareHouse$Op" "PLACE" "LShareHouse$Op;") ∈ lw_tbl := lw_at lw_m5 128 rfl
theorem q1301 : (Jvm.Cond.laysStatic "ShareHouse$Op" "ENDPLACE" "LShareHouse$Op;") ∈ lw_tbl := lw_at lw_m5 130 rfl
theorem q1303 : (Jvm.Cond.laysStatic "ShareHouse$Op" "TARGET" "LShareHouse$Op;") ∈ lw_tbl := lw_at lw_m5 132 rfl
theorem q1305 : (Jvm.Cond.laysStatic "ShareHouse$Op" "ASSIGN" "LShareHouse$Op;") ∈ lw_tbl := lw_at lw_m5 134 rfl
theorem q1317 : (Jvm.Cond.sameMethod "ShareHouse$Op" "java/lang/Enum" "ordinal" "()I") ∈ lw_all := lw_g (lw_at lw_m5 146 rfl) rfl
theorem q1319 : (Jvm.Cond.selects "ShareHouse$Op" ({ cls := "ShareHouse$Op", name := "ordinal", desc := "()I" } : Jvm.MethodName) ({ cls := "java/lang/Enum", name := "ordinal", desc := "()I" } : Jvm.MethodName)) ∈ lw_all := lw_g (lw_at lw_m5 148 rfl) rfl
theorem q252 : (Jvm.Cond.arrayOver (Jvm.ClassFile.FieldType.object "ShareHouse$Op")) ∈ lw_tbl := lw_at lw_m1 41 rfl
theorem q280 : (Jvm.Cond.arrayClass Jvm.ClassFile.FieldType.byte) ∈ lw_all := lw_g (lw_at lw_m1 69 rfl) rfl
theorem q281 : (Jvm.Cond.arrayClass Jvm.ClassFile.FieldType.int) ∈ lw_all := lw_g (lw_at lw_m1 70 rfl) rfl
theorem q373 : (Jvm.Cond.arrayClass Jvm.ClassFile.FieldType.short) ∈ lw_all := lw_g (lw_at lw_m1 162 rfl) rfl
theorem q374 : (Jvm.Cond.arrayClass Jvm.ClassFile.FieldType.boolean) ∈ lw_all := lw_g (lw_at lw_m1 163 rfl) rfl
theorem q391 : (Jvm.Cond.arrayClass Jvm.ClassFile.FieldType.long) ∈ lw_all := lw_g (lw_at lw_m1 180 rfl) rfl
theorem q579 : (Jvm.Cond.arrayOver (Jvm.ClassFile.FieldType.array Jvm.ClassFile.FieldType.int)) ∈ lw_tbl := lw_at lw_m2 128 rfl
theorem q788 : (Jvm.Cond.arrayOver (Jvm.ClassFile.FieldType.object "ShareHouse$Party")) ∈ lw_tbl := lw_at lw_m3 97 rfl
