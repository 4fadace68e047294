theorem q39 : (Jvm.Cond.initialized "FairFightLaw") ∈ lw_all := lw_g (lw_at lw_m1 0 rfl) rfl
set_option maxRecDepth 100000
theorem q68 : (Jvm.Cond.classLink "FairFightLaw" (7 : Nat) "FairFight") ∈ lw_all := lw_g (lw_at lw_m1 29 rfl) rfl
theorem q70 : (Jvm.Cond.methodLink "FairFightLaw" (9 : Nat) ({ cls := "FairFight", name := "<init>", desc := "()V" } : Jvm.MethodName)) ∈ lw_all := lw_g (lw_at lw_m1 31 rfl) rfl
theorem q208 : (Jvm.Cond.methodLink "FairFightLaw" (13 : Nat) ({ cls := "FairFight", name := "fighter", desc := "(IIIIII)I" } : Jvm.MethodName)) ∈ lw_all := lw_g (lw_at lw_m1 169 rfl) rfl
theorem q229 : (Jvm.Cond.methodLink "FairFightLaw" (18 : Nat) ({ cls := "FairFight", name := "about", desc := "(II)I" } : Jvm.MethodName)) ∈ lw_all := lw_g (lw_at lw_m1 190 rfl) rfl
theorem q237 : (Jvm.Cond.methodLink "FairFightLaw" (23 : Nat) ({ cls := "FairFight", name := "tune", desc := "(III)I" } : Jvm.MethodName)) ∈ lw_all := lw_g (lw_at lw_m1 198 rfl) rfl
theorem q241 : (Jvm.Cond.methodLink "FairFightLaw" (28 : Nat) ({ cls := "FairFight", name := "side", desc := "(IIII)I" } : Jvm.MethodName)) ∈ lw_all := lw_g (lw_at lw_m1 202 rfl) rfl
theorem q252 : (Jvm.Cond.methodLink "FairFightLaw" (33 : Nat) ({ cls := "FairFight", name := "at", desc := "(II)I" } : Jvm.MethodName)) ∈ lw_all := lw_g (lw_at lw_m1 213 rfl) rfl
theorem q256 : (Jvm.Cond.methodLink "FairFightLaw" (37 : Nat) ({ cls := "FairFight", name := "laws", desc := "(III)I" } : Jvm.MethodName)) ∈ lw_all := lw_g (lw_at lw_m1 217 rfl) rfl
theorem q260 : (Jvm.Cond.methodLink "FairFightLaw" (41 : Nat) ({ cls := "FairFight", name := "slots", desc := "()I" } : Jvm.MethodName)) ∈ lw_all := lw_g (lw_at lw_m1 221 rfl) rfl
theorem q264 : (Jvm.Cond.methodLink "FairFightLaw" (46 : Nat) ({ cls := "FairFight", name := "all", desc := "()J" } : Jvm.MethodName)) ∈ lw_all := lw_g (lw_at lw_m1 225 rfl) rfl
theorem q469 : (Jvm.Cond.methodLink "FairFightLaw" (51 : Nat) ({ cls := "FairFight", name := "ways", desc := "(I)J" } : Jvm.MethodName)) ∈ lw_all := lw_g (lw_at lw_m2 190 rfl) rfl
theorem q473 : (Jvm.Cond.methodLink "FairFightLaw" (56 : Nat) ({ cls := "FairFight", name := "chance", desc := "()I" } : Jvm.MethodName)) ∈ lw_all := lw_g (lw_at lw_m2 194 rfl) rfl
theorem q486 : (Jvm.Cond.methodLink "FairFightLaw" (60 : Nat) ({ cls := "FairFight", name := "left", desc := "(IIII)J" } : Jvm.MethodName)) ∈ lw_all := lw_g (lw_at lw_m2 207 rfl) rfl
theorem q490 : (Jvm.Cond.methodLink "FairFightLaw" (65 : Nat) ({ cls := "FairFight", name := "states", desc := "()I" } : Jvm.MethodName)) ∈ lw_all := lw_g (lw_at lw_m2 211 rfl) rfl
theorem q494 : (Jvm.Cond.methodLink "FairFightLaw" (69 : Nat) ({ cls := "FairFight", name := "ends", desc := "(I)J" } : Jvm.MethodName)) ∈ lw_all := lw_g (lw_at lw_m2 215 rfl) rfl
theorem q498 : (Jvm.Cond.methodLink "FairFightLaw" (73 : Nat) ({ cls := "FairFight", name := "better", desc := "(II)I" } : Jvm.MethodName)) ∈ lw_all := lw_g (lw_at lw_m2 219 rfl) rfl
theorem q505 : (Jvm.Cond.methodLink "FairFightLaw" (77 : Nat) ({ cls := "FairFight", name := "without", desc := "(I)I" } : Jvm.MethodName)) ∈ lw_all := lw_g (lw_at lw_m2 226 rfl) rfl
theorem q512 : (Jvm.Cond.methodLink "FairFightLaw" (82 : Nat) ({ cls := "FairFight", name := "surprised", desc := "(I)I" } : Jvm.MethodName)) ∈ lw_all := lw_g (lw_at lw_m2 233 rfl) rfl
theorem q516 : (Jvm.Cond.methodLink "FairFightLaw" (86 : Nat) ({ cls := "FairFight", name := "fight", desc := "(III)I" } : Jvm.MethodName)) ∈ lw_all := lw_g (lw_at lw_m2 237 rfl) rfl
theorem q581 : (Jvm.Cond.methodLink "FairFightLaw" (90 : Nat) ({ cls := "FairFight", name := "rest", desc := "()I" } : Jvm.MethodName)) ∈ lw_all := lw_g (lw_at lw_m3 62 rfl) rfl
theorem q589 : (Jvm.Cond.methodLink "FairFightLaw" (94 : Nat) ({ cls := "FairFight", name := "purse", desc := "(II)I" } : Jvm.MethodName)) ∈ lw_all := lw_g (lw_at lw_m3 70 rfl) rfl
theorem q593 : (Jvm.Cond.methodLink "FairFightLaw" (98 : Nat) ({ cls := "FairFight", name := "day", desc := "()I" } : Jvm.MethodName)) ∈ lw_all := lw_g (lw_at lw_m3 74 rfl) rfl
theorem q618 : (Jvm.Cond.methodLink "FairFightLaw" (102 : Nat) ({ cls := "FairFight", name := "use", desc := "()I" } : Jvm.MethodName)) ∈ lw_all := lw_g (lw_at lw_m3 99 rfl) rfl
theorem q622 : (Jvm.Cond.methodLink "FairFightLaw" (106 : Nat) ({ cls := "FairFight", name := "odds", desc := "(II)I" } : Jvm.MethodName)) ∈ lw_all := lw_g (lw_at lw_m3 103 rfl) rfl
theorem q626 : (Jvm.Cond.methodLink "FairFightLaw" (110 : Nat) ({ cls := "FairFight", name := "wish", desc := "(II)I" } : Jvm.MethodName)) ∈ lw_all := lw_g (lw_at lw_m3 107 rfl) rfl
theorem q656 : (Jvm.Cond.methodLink "FairFightLaw" (114 : Nat) ({ cls := "FairFight", name := "band", desc := "(I)I" } : Jvm.MethodName)) ∈ lw_all := lw_g (lw_at lw_m3 137 rfl) rfl
theorem q665 : (Jvm.Cond.methodLink "FairFightLaw" (118 : Nat) ({ cls := "FairFight", name := "play", desc := "(I)I" } : Jvm.MethodName)) ∈ lw_all := lw_g (lw_at lw_m3 146 rfl) rfl
theorem q774 : (Jvm.Cond.methodLink "FairFightLaw" (122 : Nat) ({ cls := "FairFight", name := "played", desc := "(I)I" } : Jvm.MethodName)) ∈ lw_all := lw_g (lw_at lw_m4 15 rfl) rfl
theorem q778 : (Jvm.Cond.methodLink "FairFightLaw" (126 : Nat) ({ cls := "FairFight", name := "sheet", desc := "(III)I" } : Jvm.MethodName)) ∈ lw_all := lw_g (lw_at lw_m4 19 rfl) rfl
theorem q800 : (Jvm.Cond.methodLink "FairFightLaw" (130 : Nat) ({ cls := "FairFight", name := "lose", desc := "(I)I" } : Jvm.MethodName)) ∈ lw_all := lw_g (lw_at lw_m4 41 rfl) rfl
theorem q811 : (Jvm.Cond.methodLink "FairFightLaw" (134 : Nat) ({ cls := "FairFight", name := "put", desc := "(IIII)I" } : Jvm.MethodName)) ∈ lw_all := lw_g (lw_at lw_m4 52 rfl) rfl
theorem q857 : (Jvm.Cond.methodLink "FairFightLaw" (138 : Nat) ({ cls := "FairFight", name := "get", desc := "(III)I" } : Jvm.MethodName)) ∈ lw_all := lw_g (lw_at lw_m4 98 rfl) rfl
theorem q861 : (Jvm.Cond.methodLink "FairFightLaw" (142 : Nat) ({ cls := "FairFight", name := "copy", desc := "(IIIII)I" } : Jvm.MethodName)) ∈ lw_all := lw_g (lw_at lw_m4 102 rfl) rfl
theorem q866 : (Jvm.Cond.methodLink "FairFightLaw" (147 : Nat) ({ cls := "FairFight", name := "shake", desc := "(II)I" } : Jvm.MethodName)) ∈ lw_all := lw_g (lw_at lw_m4 107 rfl) rfl
theorem q871 : (Jvm.Cond.methodLink "FairFightLaw" (151 : Nat) ({ cls := "FairFight", name := "count", desc := "(I)I" } : Jvm.MethodName)) ∈ lw_all := lw_g (lw_at lw_m4 112 rfl) rfl
theorem q875 : (Jvm.Cond.methodLink "FairFightLaw" (155 : Nat) ({ cls := "FairFight", name := "digest", desc := "()J" } : Jvm.MethodName)) ∈ lw_all := lw_g (lw_at lw_m4 116 rfl) rfl
theorem q882 : (Jvm.Cond.classLink "FairFightLaw" (10 : Nat) "FairFightModel") ∈ lw_all := lw_g (lw_at lw_m4 123 rfl) rfl
theorem q884 : (Jvm.Cond.methodLink "FairFightLaw" (12 : Nat) ({ cls := "FairFightModel", name := "<init>", desc := "()V" } : Jvm.MethodName)) ∈ lw_all := lw_g (lw_at lw_m4 125 rfl) rfl
theorem q1012 : (Jvm.Cond.methodLink "FairFightLaw" (17 : Nat) ({ cls := "FairFightModel", name := "fighter", desc := "(IIIIII)I" } : Jvm.MethodName)) ∈ lw_all := lw_g (lw_at lw_m5 13 rfl) rfl
theorem q1027 : (Jvm.Cond.methodLink "FairFightLaw" (22 : Nat) ({ cls := "FairFightModel", name := "about", desc := "(II)I" } : Jvm.MethodName)) ∈ lw_all := lw_g (lw_at lw_m5 28 rfl) rfl
theorem q1036 : (Jvm.Cond.methodLink "FairFightLaw" (27 : Nat) ({ cls := "FairFightModel", name := "tune", desc := "(III)I" } : Jvm.MethodName)) ∈ lw_all := lw_g (lw_at lw_m5 37 rfl) rfl
theorem q1040 : (Jvm.Cond.methodLink "FairFightLaw" (32 : Nat) ({ cls := "FairFightModel", name := "side", desc := "(IIII)I" } : Jvm.MethodName)) ∈ lw_all := lw_g (lw_at lw_m5 41 rfl) rfl
theorem q1052 : (Jvm.Cond.methodLink "FairFightLaw" (36 : Nat) ({ cls := "FairFightModel", name := "at", desc := "(II)I" } : Jvm.MethodName)) ∈ lw_all := lw_g (lw_at lw_m5 53 rfl) rfl
theorem q1056 : (Jvm.Cond.methodLink "FairFightLaw" (40 : Nat) ({ cls := "FairFightModel", name := "laws", desc := "(III)I" } : Jvm.MethodName)) ∈ lw_all := lw_g (lw_at lw_m5 57 rfl) rfl
theorem q1060 : (Jvm.Cond.methodLink "FairFightLaw" (45 : Nat) ({ cls := "FairFightModel", name := "slots", desc := "()I" } : Jvm.MethodName)) ∈ lw_all := lw_g (lw_at lw_m5 61 rfl) rfl
theorem q1076 : (Jvm.Cond.methodLink "FairFightLaw" (50 : Nat) ({ cls := "FairFightModel", name := "all", desc := "()J" } : Jvm.MethodName)) ∈ lw_all := lw_g (lw_at lw_m5 77 rfl) rfl
theorem q1139 : (Jvm.Cond.methodLink "FairFightLaw" (55 : Nat) ({ cls := "FairFightModel", name := "ways", desc := "(I)J" } : Jvm.MethodName)) ∈ lw_all := lw_g (lw_at lw_m5 140 rfl) rfl
theorem q1143 : (Jvm.Cond.methodLink "FairFightLaw" (59 : Nat) ({ cls := "FairFightModel", name := "chance", desc := "()I" } : Jvm.MethodName)) ∈ lw_all := lw_g (lw_at lw_m5 144 rfl) rfl
theorem q1152 : (Jvm.Cond.methodLink "FairFightLaw" (64 : Nat) ({ cls := "FairFightModel", name := "left", desc := "(IIII)J" } : Jvm.MethodName)) ∈ lw_all := lw_g (lw_at lw_m5 153 rfl) rfl
theorem q1156 : (Jvm.Cond.methodLink "FairFightLaw" (68 : Nat) ({ cls := "FairFightModel", name := "states", desc := "()I" } : Jvm.MethodName)) ∈ lw_all := lw_g (lw_at lw_m5 157 rfl) rfl
theorem q1160 : (Jvm.Cond.methodLink "FairFightLaw" (72 : Nat) ({ cls := "FairFightModel", name := "ends", desc := "(I)J" } : Jvm.MethodName)) ∈ lw_all := lw_g (lw_at lw_m5 161 rfl) rfl
theorem q1164 : (Jvm.Cond.methodLink "FairFightLaw" (76 : Nat) ({ cls := "FairFightModel", name := "better", desc := "(II)I" } : Jvm.MethodName)) ∈ lw_all := lw_g (lw_at lw_m5 165 rfl) rfl
theorem q1171 : (Jvm.Cond.methodLink "FairFightLaw" (81 : Nat) ({ cls := "FairFightModel", name := "without", desc := "(I)I" } : Jvm.MethodName)) ∈ lw_all := lw_g (lw_at lw_m5 172 rfl) rfl
theorem q1175 : (Jvm.Cond.methodLink "FairFightLaw" (85 : Nat) ({ cls := "FairFightModel", name := "surprised", desc := "(I)I" } : Jvm.MethodName)) ∈ lw_all := lw_g (lw_at lw_m5 176 rfl) rfl
theorem q1179 : (Jvm.Cond.methodLink "FairFightLaw" (89 : Nat) ({ cls := "FairFightModel", name := "fight", desc := "(III)I" } : Jvm.MethodName)) ∈ lw_all := lw_g (lw_at lw_m5 180 rfl) rfl
theorem q1183 : (Jvm.Cond.methodLink "FairFightLaw" (93 : Nat) ({ cls := "FairFightModel", name := "rest", desc := "()I" } : Jvm.MethodName)) ∈ lw_all := lw_g (lw_at lw_m5 184 rfl) rfl
theorem q1187 : (Jvm.Cond.methodLink "FairFightLaw" (97 : Nat) ({ cls := "FairFightModel", name := "purse", desc := "(II)I" } : Jvm.MethodName)) ∈ lw_all := lw_g (lw_at lw_m5 188 rfl) rfl
theorem q1191 : (Jvm.Cond.methodLink "FairFightLaw" (101 : Nat) ({ cls := "FairFightModel", name := "day", desc := "()I" } : Jvm.MethodName)) ∈ lw_all := lw_g (lw_at lw_m5 192 rfl) rfl
theorem q1203 : (Jvm.Cond.methodLink "FairFightLaw" (105 : Nat) ({ cls := "FairFightModel", name := "use", desc := "()I" } : Jvm.MethodName)) ∈ lw_all := lw_g (lw_at lw_m5 204 rfl) rfl
theorem q1207 : (Jvm.Cond.methodLink "FairFightLaw" (109 : Nat) ({ cls := "FairFightModel", name := "odds", desc := "(II)I" } : Jvm.MethodName)) ∈ lw_all := lw_g (lw_at lw_m5 208 rfl) rfl
theorem q1211 : (Jvm.Cond.methodLink "FairFightLaw" (113 : Nat) ({ cls := "FairFightModel", name := "wish", desc := "(II)I" } : Jvm.MethodName)) ∈ lw_all := lw_g (lw_at lw_m5 212 rfl) rfl
theorem q1216 : (Jvm.Cond.methodLink "FairFightLaw" (117 : Nat) ({ cls := "FairFightModel", name := "band", desc := "(I)I" } : Jvm.MethodName)) ∈ lw_all := lw_g (lw_at lw_m5 217 rfl) rfl
theorem q1220 : (Jvm.Cond.methodLink "FairFightLaw" (121 : Nat) ({ cls := "FairFightModel", name := "play", desc := "(I)I" } : Jvm.MethodName)) ∈ lw_all := lw_g (lw_at lw_m5 221 rfl) rfl
theorem q1232 : (Jvm.Cond.methodLink "FairFightLaw" (125 : Nat) ({ cls := "FairFightModel", name := "played", desc := "(I)I" } : Jvm.MethodName)) ∈ lw_all := lw_g (lw_at lw_m5 233 rfl) rfl
theorem q1237 : (Jvm.Cond.methodLink "FairFightLaw" (129 : Nat) ({ cls := "FairFightModel", name := "sheet", desc := "(III)I" } : Jvm.MethodName)) ∈ lw_all := lw_g (lw_at lw_m5 238 rfl) rfl
theorem q1241 : (Jvm.Cond.methodLink "FairFightLaw" (133 : Nat) ({ cls := "FairFightModel", name := "lose", desc := "(I)I" } : Jvm.MethodName)) ∈ lw_all := lw_g (lw_at lw_m6 2 rfl) rfl
theorem q1245 : (Jvm.Cond.methodLink "FairFightLaw" (137 : Nat) ({ cls := "FairFightModel", name := "put", desc := "(IIII)I" } : Jvm.MethodName)) ∈ lw_all := lw_g (lw_at lw_m6 6 rfl) rfl
theorem q1253 : (Jvm.Cond.methodLink "FairFightLaw" (141 : Nat) ({ cls := "FairFightModel", name := "get", desc := "(III)I" } : Jvm.MethodName)) ∈ lw_all := lw_g (lw_at lw_m6 14 rfl) rfl
theorem q1257 : (Jvm.Cond.methodLink "FairFightLaw" (146 : Nat) ({ cls := "FairFightModel", name := "copy", desc := "(IIIII)I" } : Jvm.MethodName)) ∈ lw_all := lw_g (lw_at lw_m6 18 rfl) rfl
theorem q1261 : (Jvm.Cond.methodLink "FairFightLaw" (150 : Nat) ({ cls := "FairFightModel", name := "shake", desc := "(II)I" } : Jvm.MethodName)) ∈ lw_all := lw_g (lw_at lw_m6 22 rfl) rfl
theorem q1266 : (Jvm.Cond.methodLink "FairFightLaw" (154 : Nat) ({ cls := "FairFightModel", name := "count", desc := "(I)I" } : Jvm.MethodName)) ∈ lw_all := lw_g (lw_at lw_m6 27 rfl) rfl
theorem q1270 : (Jvm.Cond.methodLink "FairFightLaw" (158 : Nat) ({ cls := "FairFightModel", name := "digest", desc := "()J" } : Jvm.MethodName)) ∈ lw_all := lw_g (lw_at lw_m6 31 rfl) rfl
theorem q411 : (Jvm.Cond.declares ({ cls := "FairFight$Kind", name := "hits", desc := "(LFairFight$Fight;I)V" } : Jvm.MethodName)) ∈ lw_tbl := lw_at lw_m2 132 rfl
set_option maxRecDepth 100000
theorem q412 : (Jvm.Cond.sameMethod "FairFight$Kind" "FairFight$Kind" "hits" "(LFairFight$Fight;I)V") ∈ lw_all := lw_g (lw_at lw_m2 133 rfl) rfl
theorem q1284 : (Jvm.Cond.castable "FairFight$Kind" "java/lang/Object") ∈ lw_tbl := lw_at lw_m6 45 rfl
theorem q1312 : (Jvm.Cond.castable "[B" "java/lang/Object") ∈ lw_tbl := lw_at lw_m6 73 rfl
set_option maxRecDepth 100000
theorem q1306 : (Jvm.Cond.castable "[I" "java/lang/Object") ∈ lw_tbl := lw_at lw_m6 67 rfl
set_option maxRecDepth 100000
theorem q1307 : (Jvm.Cond.castable "[J" "java/lang/Object") ∈ lw_tbl := lw_at lw_m6 68 rfl
set_option maxRecDepth 100000
theorem q1304 : (Jvm.Cond.castable "[LFairFight$Fighter;" "java/lang/Object") ∈ lw_tbl := lw_at lw_m6 65 rfl
set_option maxRecDepth 100000
theorem q1314 : (Jvm.Cond.castable "[LFairFight$Kind;" "java/lang/Object") ∈ lw_tbl := lw_at lw_m6 75 rfl
set_option maxRecDepth 100000
theorem q1308 : (Jvm.Cond.castable "[LFairFight$Sheet;" "java/lang/Object") ∈ lw_tbl := lw_at lw_m6 69 rfl
set_option maxRecDepth 100000
theorem q1301 : (Jvm.Cond.sameMethod "[Ljava/lang/Object;" "java/lang/Object" "getClass" "()Ljava/lang/Class;") ∈ lw_all := lw_g (lw_at lw_m6 62 rfl) rfl
set_option maxRecDepth 100000
theorem q1302 : (Jvm.Cond.selects "[Ljava/lang/Object;" ({ cls := "java/lang/Object", name := "getClass", desc := "()Ljava/lang/Class;" } : Jvm.MethodName) ({ cls := "java/lang/Object", name := "getClass", desc := "()Ljava/lang/Class;" } : Jvm.MethodName)) ∈ lw_all := lw_g (lw_at lw_m6 63 rfl) rfl
theorem q1311 : (Jvm.Cond.castable "[Ljava/lang/Object;" "java/lang/Object") ∈ lw_tbl := lw_at lw_m6 72 rfl
theorem q1313 : (Jvm.Cond.castable "[S" "java/lang/Object") ∈ lw_tbl := lw_at lw_m6 74 rfl
set_option maxRecDepth 100000
theorem q1309 : (Jvm.Cond.castable "[Z" "java/lang/Object") ∈ lw_tbl := lw_at lw_m6 70 rfl
set_option maxRecDepth 100000
theorem q1305 : (Jvm.Cond.castable "[[I" "java/lang/Object") ∈ lw_tbl := lw_at lw_m6 66 rfl
set_option maxRecDepth 100000
theorem q1310 : (Jvm.Cond.castable "[[J" "java/lang/Object") ∈ lw_tbl := lw_at lw_m6 71 rfl
set_option maxRecDepth 100000
theorem q58 : (Jvm.Cond.initialized "java/lang/Integer$IntegerCache") ∈ lw_all := lw_g (lw_at lw_m1 19 rfl) rfl
set_option maxRecDepth 100000
theorem q640 : (Jvm.Cond.laysStatic "java/lang/Integer$IntegerCache" "high" "I") ∈ lw_tbl := lw_at lw_m3 121 rfl
theorem q642 : (Jvm.Cond.laysStatic "java/lang/Integer$IntegerCache" "cache" "[Ljava/lang/Integer;") ∈ lw_tbl := lw_at lw_m3 123 rfl
theorem q51 : (Jvm.Cond.initialized "java/lang/System") ∈ lw_all := lw_g (lw_at lw_m1 12 rfl) rfl
set_option maxRecDepth 100000
theorem q510 : (Jvm.Cond.static ({ cls := "java/lang/System", name := "arraycopy", desc := "(Ljava/lang/Object;ILjava/lang/Object;II)V" } : Jvm.MethodName)) ∈ lw_all := lw_g (lw_at lw_m2 231 rfl) rfl
theorem q511 : (Jvm.Cond.native ({ cls := "java/lang/System", name := "arraycopy", desc := "(Ljava/lang/Object;ILjava/lang/Object;II)V" } : Jvm.MethodName)) ∈ lw_all := lw_g (lw_at lw_m2 232 rfl) rfl
theorem q77 : (Jvm.Cond.arrayOver (Jvm.ClassFile.FieldType.object "FairFight$Fighter")) ∈ lw_tbl := lw_at lw_m1 38 rfl
set_option maxRecDepth 100000
theorem q79 : (Jvm.Cond.arrayOver (Jvm.ClassFile.FieldType.array Jvm.ClassFile.FieldType.int)) ∈ lw_tbl := lw_at lw_m1 40 rfl
theorem q103 : (Jvm.Cond.arrayClass Jvm.ClassFile.FieldType.int) ∈ lw_all := lw_g (lw_at lw_m1 64 rfl) rfl
theorem q104 : (Jvm.Cond.arrayClass Jvm.ClassFile.FieldType.long) ∈ lw_all := lw_g (lw_at lw_m1 65 rfl) rfl
theorem q132 : (Jvm.Cond.arrayOver (Jvm.ClassFile.FieldType.object "FairFight$Sheet")) ∈ lw_tbl := lw_at lw_m1 93 rfl
theorem q351 : (Jvm.Cond.arrayClass Jvm.ClassFile.FieldType.boolean) ∈ lw_all := lw_g (lw_at lw_m2 72 rfl) rfl
theorem q357 : (Jvm.Cond.arrayOver (Jvm.ClassFile.FieldType.array Jvm.ClassFile.FieldType.long)) ∈ lw_tbl := lw_at lw_m2 78 rfl
theorem q575 : (Jvm.Cond.arrayOver (Jvm.ClassFile.FieldType.object "java/lang/Object")) ∈ lw_tbl := lw_at lw_m3 56 rfl
theorem q754 : (Jvm.Cond.arrayClass Jvm.ClassFile.FieldType.byte) ∈ lw_all := lw_g (lw_at lw_m3 235 rfl) rfl
theorem q799 : (Jvm.Cond.arrayClass Jvm.ClassFile.FieldType.short) ∈ lw_all := lw_g (lw_at lw_m4 40 rfl) rfl
/-! FairFightModel -/
set_option maxRecDepth 100000
def RX3 : String := "FairFightModel"
def TX3 : u_T := fun k => match k with
  | 0 => ("FairFightModel", "fighters", "I", false)
  | 1 => ("FairFightModel", "number", "[I", true)
  | 2 => ("FairFightModel", "side", "[I", true)
  | 3 => ("FairFightModel", "rounds", "I", false)
  | 4 => ("FairFightModel", "aim", "I", false)
  | 5 => ("FairFightModel", "surprise", "I", false)
  | 6 => ("FairFightModel", "who", "[I", true)
  | 7 => ("FairFightModel", "force", "[I", true)
  | 8 => ("FairFightModel", "startled", "I", false)
  | 9 => ("FairFightModel", "many", "I", false)
  | 10 => ("FairFightModel", "order", "[I", true)
  | 11 => ("FairFightModel", "life", "[I", true)
  | 12 => ("FairFightModel", "up", "[Z", true)
  | 13 => ("FairFightModel", "ahead", "I", false)
  | 14 => ("FairFightModel", "states", "[J", true)
  | 15 => ("FairFightModel", "ways", "[J", true)
  | 16 => ("FairFightModel", "behind", "I", false)
  | 17 => ("FairFightModel", "nextStates", "[J", true)
  | 18 => ("FairFightModel", "nextWays", "[J", true)
  | 19 => ("FairFightModel", "table", "[I", true)
  | 20 => ("FairFightModel", "ended", "[J", true)
  | 21 => ("FairFightModel", "endedIn", "[J", true)
  | 22 => ("FairFightModel", "lefts", "[J", true)
  | 23 => ("FairFightModel", "widest", "I", false)
  | 24 => ("FairFightModel", "powers", "[J", true)
  | 25 => ("FairFightModel", "fights", "I", false)
  | 26 => ("FairFightModel", "foes", "[I", true)
  | 27 => ("FairFightModel", "purse", "I", false)
  | 28 => ("FairFightModel", "bonus", "I", false)
  | 29 => ("FairFightModel", "chances", "[I", true)
  | 30 => ("FairFightModel", "bestUse", "I", false)
  | 31 => ("FairFightModel", "bands", "I", false)
  | 32 => ("FairFightModel", "band", "[I", true)
  | 33 => ("FairFightModel", "played", "[I", true)
  | 34 => ("FairFightModel", "playedWho", "[I", true)
  | 35 => ("FairFightModel", "playedLife", "[I", true)
  | 36 => ("FairFightModel", "forms", "[I", true)
  | 37 => ("FairFightModel", "sizes", "[I", true)
  | 38 => ("FairFightModel", "items", "[I", true)
  | 39 => ("FairFightModel", "moved", "[I", true)
  | _ => ("FairFightModel", "latest", "I", false)
def tyX3 : Nat → FieldType := fun k => match k with
  | 0 => .int
  | 1 => .array .int
  | 2 => .array .int
  | 3 => .int
  | 4 => .int
  | 5 => .int
  | 6 => .array .int
  | 7 => .array .int
  | 8 => .int
  | 9 => .int
  | 10 => .array .int
  | 11 => .array .int
  | 12 => .array .boolean
  | 13 => .int
  | 14 => .array .long
  | 15 => .array .long
  | 16 => .int
  | 17 => .array .long
  | 18 => .array .long
  | 19 => .array .int
  | 20 => .array .long
  | 21 => .array .long
  | 22 => .array .long
  | 23 => .int
  | 24 => .array .long
  | 25 => .int
  | 26 => .array .int
  | 27 => .int
  | 28 => .int
  | 29 => .array .int
  | 30 => .int
  | 31 => .int
  | 32 => .array .int
  | 33 => .array .int
  | 34 => .array .int
  | 35 => .array .int
  | 36 => .array .int
  | 37 => .array .int
  | 38 => .array .int
  | 39 => .array .int
  | _ => .int
abbrev wsX30 : List Cond := u_ws RX3 TX3 41
set_option maxRecDepth 100000 in
theorem nmX3 : ∀ a, a < 41 → ∀ b, b < 41 → a ≠ b → (TX3 a).2.1 ≠ (TX3 b).2.1 := by decide +kernel
set_option maxRecDepth 100000 in
theorem tyX3_ok : ∀ k, k < 41 → parseFieldDescriptor (TX3 k).2.2.1 = some (tyX3 k) := by decide +kernel
abbrev cX3_init : ByteArray := prog_12_method_1_code
def yX3_init : MethodName := ⟨RX3, "<init>", "()V"⟩
def dkwX3_init_12 : List UInt8 := [167, 255, 241, 177]
abbrev dktX3_init_12 : List UInt8 := dkwX3_init_12 ++ []
def dkwX3_init_11 : List UInt8 := [79, 132, 1, 1, 167, 255, 233, 3, 60, 27, 7, 162, 0, 16, 42, 180, 0, 91, 27, 2, 79, 132, 1, 1]
abbrev dktX3_init_11 : List UInt8 := dkwX3_init_11 ++ dktX3_init_12
def dkwX3_init_10 : List UInt8 := [181, 0, 100, 3, 60, 27, 16, 6, 162, 0, 23, 42, 180, 0, 13, 27, 2, 79, 42, 180, 0, 85, 27, 2]
abbrev dktX3_init_10 : List UInt8 := dkwX3_init_10 ++ dktX3_init_11
def dkwX3_init_9 : List UInt8 := [181, 0, 91, 42, 7, 188, 10, 181, 0, 94, 42, 17, 0, 240, 188, 10, 181, 0, 97, 42, 16, 60, 188, 10]
abbrev dktX3_init_9 : List UInt8 := dkwX3_init_9 ++ dktX3_init_10
def dkwX3_init_8 : List UInt8 := [181, 0, 82, 42, 16, 6, 188, 10, 181, 0, 85, 42, 16, 6, 188, 10, 181, 0, 88, 42, 7, 188, 10]
abbrev dktX3_init_8 : List UInt8 := dkwX3_init_8 ++ dktX3_init_9
def dkwX3_init_7 : List UInt8 := [181, 0, 73, 42, 16, 12, 188, 10, 181, 0, 76, 42, 16, 27, 188, 10, 181, 0, 79, 42, 6, 188, 10]
abbrev dktX3_init_7 : List UInt8 := dkwX3_init_7 ++ dktX3_init_8
def dkwX3_init_6 : List UInt8 := [16, 24, 188, 11, 181, 0, 64, 42, 16, 18, 188, 10, 181, 0, 67, 42, 4, 181, 0, 70, 42, 4]
abbrev dktX3_init_6 : List UInt8 := dkwX3_init_6 ++ dktX3_init_7
def dkwX3_init_5 : List UInt8 := [188, 11, 181, 0, 55, 42, 16, 7, 188, 11, 181, 0, 58, 42, 17, 0, 252, 188, 11, 181, 0, 61, 42]
abbrev dktX3_init_5 : List UInt8 := dkwX3_init_5 ++ dktX3_init_6
def dkwX3_init_4 : List UInt8 := [181, 0, 46, 42, 17, 3, 32, 188, 11, 181, 0, 49, 42, 17, 8, 0, 188, 10, 181, 0, 52, 42, 6]
abbrev dktX3_init_4 : List UInt8 := dkwX3_init_4 ++ dktX3_init_5
def dkwX3_init_3 : List UInt8 := [42, 17, 1, 144, 188, 11, 181, 0, 39, 42, 17, 1, 144, 188, 11, 181, 0, 43, 42, 17, 3, 32, 188, 11]
abbrev dktX3_init_3 : List UInt8 := dkwX3_init_3 ++ dktX3_init_4
def dkwX3_init_2 : List UInt8 := [42, 16, 6, 188, 10, 181, 0, 29, 42, 16, 6, 188, 10, 181, 0, 32, 42, 16, 6, 188, 4, 181, 0, 35]
abbrev dktX3_init_2 : List UInt8 := dkwX3_init_2 ++ dktX3_init_3
def dkwX3_init_1 : List UInt8 := [181, 0, 16, 42, 2, 181, 0, 20, 42, 16, 6, 188, 10, 181, 0, 23, 42, 16, 6, 188, 10, 181, 0, 26]
abbrev dktX3_init_1 : List UInt8 := dkwX3_init_1 ++ dktX3_init_2
def dkwX3_init_0 : List UInt8 := [42, 183, 0, 1, 42, 16, 96, 188, 10, 181, 0, 7, 42, 16, 6, 188, 10, 181, 0, 13, 42, 6]
abbrev dktX3_init_0 : List UInt8 := dkwX3_init_0 ++ dktX3_init_1
theorem dksX3_init_0 : cX3_init.data.toList.drop 0 = dktX3_init_0 := by decide +kernel
theorem dksX3_init_1 : cX3_init.data.toList.drop 22 = dktX3_init_1 := dk_seg dksX3_init_0 22 rfl rfl
theorem dksX3_init_2 : cX3_init.data.toList.drop 46 = dktX3_init_2 := dk_seg dksX3_init_1 24 rfl rfl
theorem dksX3_init_3 : cX3_init.data.toList.drop 70 = dktX3_init_3 := dk_seg dksX3_init_2 24 rfl rfl
theorem dksX3_init_4 : cX3_init.data.toList.drop 94 = dktX3_init_4 := dk_seg dksX3_init_3 24 rfl rfl
theorem dksX3_init_5 : cX3_init.data.toList.drop 117 = dktX3_init_5 := dk_seg dksX3_init_4 23 rfl rfl
theorem dksX3_init_6 : cX3_init.data.toList.drop 140 = dktX3_init_6 := dk_seg dksX3_init_5 23 rfl rfl
theorem dksX3_init_7 : cX3_init.data.toList.drop 162 = dktX3_init_7 := dk_seg dksX3_init_6 22 rfl rfl
theorem dksX3_init_8 : cX3_init.data.toList.drop 185 = dktX3_init_8 := dk_seg dksX3_init_7 23 rfl rfl
theorem dksX3_init_9 : cX3_init.data.toList.drop 208 = dktX3_init_9 := dk_seg dksX3_init_8 23 rfl rfl
theorem dksX3_init_10 : cX3_init.data.toList.drop 232 = dktX3_init_10 := dk_seg dksX3_init_9 24 rfl rfl
theorem dksX3_init_11 : cX3_init.data.toList.drop 256 = dktX3_init_11 := dk_seg dksX3_init_10 24 rfl rfl
theorem dksX3_init_12 : cX3_init.data.toList.drop 280 = dktX3_init_12 := dk_seg dksX3_init_11 24 rfl rfl
theorem dX3_init_0 : decode cX3_init 0 = .ok (.aload_n 0, 1) := dk_42 (dk_at dksX3_init_0 0 rfl rfl)
theorem dX3_init_1 : decode cX3_init 1 = .ok (.invokespecial 1, 3) := dk_183 0 1 (dk_at dksX3_init_0 1 rfl rfl)
theorem dX3_init_4 : decode cX3_init 4 = .ok (.aload_n 0, 1) := dk_42 (dk_at dksX3_init_0 4 rfl rfl)
theorem dX3_init_5 : decode cX3_init 5 = .ok (.bipush 96, 2) := dk_16 96 (dk_at dksX3_init_0 5 rfl rfl)
theorem dX3_init_7 : decode cX3_init 7 = .ok (.newarray .int, 2) := dk_188_10 (dk_at dksX3_init_0 7 rfl rfl)
theorem dX3_init_9 : decode cX3_init 9 = .ok (.putfield 7, 3) := dk_181 0 7 (dk_at dksX3_init_0 9 rfl rfl)
theorem dX3_init_12 : decode cX3_init 12 = .ok (.aload_n 0, 1) := dk_42 (dk_at dksX3_init_0 12 rfl rfl)
theorem dX3_init_13 : decode cX3_init 13 = .ok (.bipush 6, 2) := dk_16 6 (dk_at dksX3_init_0 13 rfl rfl)
theorem dX3_init_15 : decode cX3_init 15 = .ok (.newarray .int, 2) := dk_188_10 (dk_at dksX3_init_0 15 rfl rfl)
theorem dX3_init_17 : decode cX3_init 17 = .ok (.putfield 13, 3) := dk_181 0 13 (dk_at dksX3_init_0 17 rfl rfl)
theorem dX3_init_20 : decode cX3_init 20 = .ok (.aload_n 0, 1) := dk_42 (dk_at dksX3_init_0 20 rfl rfl)
theorem dX3_init_21 : decode cX3_init 21 = .ok (.iconst 3, 1) := dk_6 (dk_at dksX3_init_0 21 rfl rfl)
theorem dX3_init_22 : decode cX3_init 22 = .ok (.putfield 16, 3) := dk_181 0 16 (dk_at dksX3_init_1 0 rfl rfl)
theorem dX3_init_25 : decode cX3_init 25 = .ok (.aload_n 0, 1) := dk_42 (dk_at dksX3_init_1 3 rfl rfl)
theorem dX3_init_26 : decode cX3_init 26 = .ok (.iconst (-1), 1) := dk_2 (dk_at dksX3_init_1 4 rfl rfl)
theorem dX3_init_27 : decode cX3_init 27 = .ok (.putfield 20, 3) := dk_181 0 20 (dk_at dksX3_init_1 5 rfl rfl)
theorem dX3_init_30 : decode cX3_init 30 = .ok (.aload_n 0, 1) := dk_42 (dk_at dksX3_init_1 8 rfl rfl)
theorem dX3_init_31 : decode cX3_init 31 = .ok (.bipush 6, 2) := dk_16 6 (dk_at dksX3_init_1 9 rfl rfl)
theorem dX3_init_33 : decode cX3_init 33 = .ok (.newarray .int, 2) := dk_188_10 (dk_at dksX3_init_1 11 rfl rfl)
theorem dX3_init_35 : decode cX3_init 35 = .ok (.putfield 23, 3) := dk_181 0 23 (dk_at dksX3_init_1 13 rfl rfl)
theorem dX3_init_38 : decode cX3_init 38 = .ok (.aload_n 0, 1) := dk_42 (dk_at dksX3_init_1 16 rfl rfl)
theorem dX3_init_39 : decode cX3_init 39 = .ok (.bipush 6, 2) := dk_16 6 (dk_at dksX3_init_1 17 rfl rfl)
theorem dX3_init_41 : decode cX3_init 41 = .ok (.newarray .int, 2) := dk_188_10 (dk_at dksX3_init_1 19 rfl rfl)
theorem dX3_init_43 : decode cX3_init 43 = .ok (.putfield 26, 3) := dk_181 0 26 (dk_at dksX3_init_1 21 rfl rfl)
theorem dX3_init_46 : decode cX3_init 46 = .ok (.aload_n 0, 1) := dk_42 (dk_at dksX3_init_2 0 rfl rfl)
theorem dX3_init_47 : decode cX3_init 47 = .ok (.bipush 6, 2) := dk_16 6 (dk_at dksX3_init_2 1 rfl rfl)
theorem dX3_init_49 : decode cX3_init 49 = .ok (.newarray .int, 2) := dk_188_10 (dk_at dksX3_init_2 3 rfl rfl)
theorem dX3_init_51 : decode cX3_init 51 = .ok (.putfield 29, 3) := dk_181 0 29 (dk_at dksX3_init_2 5 rfl rfl)
theorem dX3_init_54 : decode cX3_init 54 = .ok (.aload_n 0, 1) := dk_42 (dk_at dksX3_init_2 8 rfl rfl)
theorem dX3_init_55 : decode cX3_init 55 = .ok (.bipush 6, 2) := dk_16 6 (dk_at dksX3_init_2 9 rfl rfl)
theorem dX3_init_57 : decode cX3_init 57 = .ok (.newarray .int, 2) := dk_188_10 (dk_at dksX3_init_2 11 rfl rfl)
theorem dX3_init_59 : decode cX3_init 59 = .ok (.putfield 32, 3) := dk_181 0 32 (dk_at dksX3_init_2 13 rfl rfl)
theorem dX3_init_62 : decode cX3_init 62 = .ok (.aload_n 0, 1) := dk_42 (dk_at dksX3_init_2 16 rfl rfl)
theorem dX3_init_63 : decode cX3_init 63 = .ok (.bipush 6, 2) := dk_16 6 (dk_at dksX3_init_2 17 rfl rfl)
theorem dX3_init_65 : decode cX3_init 65 = .ok (.newarray .boolean, 2) := dk_188_4 (dk_at dksX3_init_2 19 rfl rfl)
theorem dX3_init_67 : decode cX3_init 67 = .ok (.putfield 35, 3) := dk_181 0 35 (dk_at dksX3_init_2 21 rfl rfl)
theorem dX3_init_70 : decode cX3_init 70 = .ok (.aload_n 0, 1) := dk_42 (dk_at dksX3_init_3 0 rfl rfl)
theorem dX3_init_71 : decode cX3_init 71 = .ok (.sipush 400, 3) := dk_17 1 144 (dk_at dksX3_init_3 1 rfl rfl)
theorem dX3_init_74 : decode cX3_init 74 = .ok (.newarray .long, 2) := dk_188_11 (dk_at dksX3_init_3 4 rfl rfl)
theorem dX3_init_76 : decode cX3_init 76 = .ok (.putfield 39, 3) := dk_181 0 39 (dk_at dksX3_init_3 6 rfl rfl)
theorem dX3_init_79 : decode cX3_init 79 = .ok (.aload_n 0, 1) := dk_42 (dk_at dksX3_init_3 9 rfl rfl)
theorem dX3_init_80 : decode cX3_init 80 = .ok (.sipush 400, 3) := dk_17 1 144 (dk_at dksX3_init_3 10 rfl rfl)
theorem dX3_init_83 : decode cX3_init 83 = .ok (.newarray .long, 2) := dk_188_11 (dk_at dksX3_init_3 13 rfl rfl)
theorem dX3_init_85 : decode cX3_init 85 = .ok (.putfield 43, 3) := dk_181 0 43 (dk_at dksX3_init_3 15 rfl rfl)
theorem dX3_init_88 : decode cX3_init 88 = .ok (.aload_n 0, 1) := dk_42 (dk_at dksX3_init_3 18 rfl rfl)
theorem dX3_init_89 : decode cX3_init 89 = .ok (.sipush 800, 3) := dk_17 3 32 (dk_at dksX3_init_3 19 rfl rfl)
theorem dX3_init_92 : decode cX3_init 92 = .ok (.newarray .long, 2) := dk_188_11 (dk_at dksX3_init_3 22 rfl rfl)
theorem dX3_init_94 : decode cX3_init 94 = .ok (.putfield 46, 3) := dk_181 0 46 (dk_at dksX3_init_4 0 rfl rfl)
theorem dX3_init_97 : decode cX3_init 97 = .ok (.aload_n 0, 1) := dk_42 (dk_at dksX3_init_4 3 rfl rfl)
theorem dX3_init_98 : decode cX3_init 98 = .ok (.sipush 800, 3) := dk_17 3 32 (dk_at dksX3_init_4 4 rfl rfl)
theorem dX3_init_101 : decode cX3_init 101 = .ok (.newarray .long, 2) := dk_188_11 (dk_at dksX3_init_4 7 rfl rfl)
theorem dX3_init_103 : decode cX3_init 103 = .ok (.putfield 49, 3) := dk_181 0 49 (dk_at dksX3_init_4 9 rfl rfl)
theorem dX3_init_106 : decode cX3_init 106 = .ok (.aload_n 0, 1) := dk_42 (dk_at dksX3_init_4 12 rfl rfl)
theorem dX3_init_107 : decode cX3_init 107 = .ok (.sipush 2048, 3) := dk_17 8 0 (dk_at dksX3_init_4 13 rfl rfl)
theorem dX3_init_110 : decode cX3_init 110 = .ok (.newarray .int, 2) := dk_188_10 (dk_at dksX3_init_4 16 rfl rfl)
theorem dX3_init_112 : decode cX3_init 112 = .ok (.putfield 52, 3) := dk_181 0 52 (dk_at dksX3_init_4 18 rfl rfl)
theorem dX3_init_115 : decode cX3_init 115 = .ok (.aload_n 0, 1) := dk_42 (dk_at dksX3_init_4 21 rfl rfl)
theorem dX3_init_116 : decode cX3_init 116 = .ok (.iconst 3, 1) := dk_6 (dk_at dksX3_init_4 22 rfl rfl)
theorem dX3_init_117 : decode cX3_init 117 = .ok (.newarray .long, 2) := dk_188_11 (dk_at dksX3_init_5 0 rfl rfl)
theorem dX3_init_119 : decode cX3_init 119 = .ok (.putfield 55, 3) := dk_181 0 55 (dk_at dksX3_init_5 2 rfl rfl)
theorem dX3_init_122 : decode cX3_init 122 = .ok (.aload_n 0, 1) := dk_42 (dk_at dksX3_init_5 5 rfl rfl)
theorem dX3_init_123 : decode cX3_init 123 = .ok (.bipush 7, 2) := dk_16 7 (dk_at dksX3_init_5 6 rfl rfl)
theorem dX3_init_125 : decode cX3_init 125 = .ok (.newarray .long, 2) := dk_188_11 (dk_at dksX3_init_5 8 rfl rfl)
theorem dX3_init_127 : decode cX3_init 127 = .ok (.putfield 58, 3) := dk_181 0 58 (dk_at dksX3_init_5 10 rfl rfl)
theorem dX3_init_130 : decode cX3_init 130 = .ok (.aload_n 0, 1) := dk_42 (dk_at dksX3_init_5 13 rfl rfl)
theorem dX3_init_131 : decode cX3_init 131 = .ok (.sipush 252, 3) := dk_17 0 252 (dk_at dksX3_init_5 14 rfl rfl)
theorem dX3_init_134 : decode cX3_init 134 = .ok (.newarray .long, 2) := dk_188_11 (dk_at dksX3_init_5 17 rfl rfl)
theorem dX3_init_136 : decode cX3_init 136 = .ok (.putfield 61, 3) := dk_181 0 61 (dk_at dksX3_init_5 19 rfl rfl)
theorem dX3_init_139 : decode cX3_init 139 = .ok (.aload_n 0, 1) := dk_42 (dk_at dksX3_init_5 22 rfl rfl)
theorem dX3_init_140 : decode cX3_init 140 = .ok (.bipush 24, 2) := dk_16 24 (dk_at dksX3_init_6 0 rfl rfl)
theorem dX3_init_142 : decode cX3_init 142 = .ok (.newarray .long, 2) := dk_188_11 (dk_at dksX3_init_6 2 rfl rfl)
theorem dX3_init_144 : decode cX3_init 144 = .ok (.putfield 64, 3) := dk_181 0 64 (dk_at dksX3_init_6 4 rfl rfl)
theorem dX3_init_147 : decode cX3_init 147 = .ok (.aload_n 0, 1) := dk_42 (dk_at dksX3_init_6 7 rfl rfl)
theorem dX3_init_148 : decode cX3_init 148 = .ok (.bipush 18, 2) := dk_16 18 (dk_at dksX3_init_6 8 rfl rfl)
theorem dX3_init_150 : decode cX3_init 150 = .ok (.newarray .int, 2) := dk_188_10 (dk_at dksX3_init_6 10 rfl rfl)
theorem dX3_init_152 : decode cX3_init 152 = .ok (.putfield 67, 3) := dk_181 0 67 (dk_at dksX3_init_6 12 rfl rfl)
theorem dX3_init_155 : decode cX3_init 155 = .ok (.aload_n 0, 1) := dk_42 (dk_at dksX3_init_6 15 rfl rfl)
theorem dX3_init_156 : decode cX3_init 156 = .ok (.iconst 1, 1) := dk_4 (dk_at dksX3_init_6 16 rfl rfl)
theorem dX3_init_157 : decode cX3_init 157 = .ok (.putfield 70, 3) := dk_181 0 70 (dk_at dksX3_init_6 17 rfl rfl)
theorem dX3_init_160 : decode cX3_init 160 = .ok (.aload_n 0, 1) := dk_42 (dk_at dksX3_init_6 20 rfl rfl)
theorem dX3_init_161 : decode cX3_init 161 = .ok (.iconst 1, 1) := dk_4 (dk_at dksX3_init_6 21 rfl rfl)
theorem dX3_init_162 : decode cX3_init 162 = .ok (.putfield 73, 3) := dk_181 0 73 (dk_at dksX3_init_7 0 rfl rfl)
theorem dX3_init_165 : decode cX3_init 165 = .ok (.aload_n 0, 1) := dk_42 (dk_at dksX3_init_7 3 rfl rfl)
theorem dX3_init_166 : decode cX3_init 166 = .ok (.bipush 12, 2) := dk_16 12 (dk_at dksX3_init_7 4 rfl rfl)
theorem dX3_init_168 : decode cX3_init 168 = .ok (.newarray .int, 2) := dk_188_10 (dk_at dksX3_init_7 6 rfl rfl)
theorem dX3_init_170 : decode cX3_init 170 = .ok (.putfield 76, 3) := dk_181 0 76 (dk_at dksX3_init_7 8 rfl rfl)
theorem dX3_init_173 : decode cX3_init 173 = .ok (.aload_n 0, 1) := dk_42 (dk_at dksX3_init_7 11 rfl rfl)
theorem dX3_init_174 : decode cX3_init 174 = .ok (.bipush 27, 2) := dk_16 27 (dk_at dksX3_init_7 12 rfl rfl)
theorem dX3_init_176 : decode cX3_init 176 = .ok (.newarray .int, 2) := dk_188_10 (dk_at dksX3_init_7 14 rfl rfl)
theorem dX3_init_178 : decode cX3_init 178 = .ok (.putfield 79, 3) := dk_181 0 79 (dk_at dksX3_init_7 16 rfl rfl)
theorem dX3_init_181 : decode cX3_init 181 = .ok (.aload_n 0, 1) := dk_42 (dk_at dksX3_init_7 19 rfl rfl)
theorem dX3_init_182 : decode cX3_init 182 = .ok (.iconst 3, 1) := dk_6 (dk_at dksX3_init_7 20 rfl rfl)
theorem dX3_init_183 : decode cX3_init 183 = .ok (.newarray .int, 2) := dk_188_10 (dk_at dksX3_init_7 21 rfl rfl)
theorem dX3_init_185 : decode cX3_init 185 = .ok (.putfield 82, 3) := dk_181 0 82 (dk_at dksX3_init_8 0 rfl rfl)
theorem dX3_init_188 : decode cX3_init 188 = .ok (.aload_n 0, 1) := dk_42 (dk_at dksX3_init_8 3 rfl rfl)
theorem dX3_init_189 : decode cX3_init 189 = .ok (.bipush 6, 2) := dk_16 6 (dk_at dksX3_init_8 4 rfl rfl)
theorem dX3_init_191 : decode cX3_init 191 = .ok (.newarray .int, 2) := dk_188_10 (dk_at dksX3_init_8 6 rfl rfl)
theorem dX3_init_193 : decode cX3_init 193 = .ok (.putfield 85, 3) := dk_181 0 85 (dk_at dksX3_init_8 8 rfl rfl)
theorem dX3_init_196 : decode cX3_init 196 = .ok (.aload_n 0, 1) := dk_42 (dk_at dksX3_init_8 11 rfl rfl)
theorem dX3_init_197 : decode cX3_init 197 = .ok (.bipush 6, 2) := dk_16 6 (dk_at dksX3_init_8 12 rfl rfl)
theorem dX3_init_199 : decode cX3_init 199 = .ok (.newarray .int, 2) := dk_188_10 (dk_at dksX3_init_8 14 rfl rfl)
theorem dX3_init_201 : decode cX3_init 201 = .ok (.putfield 88, 3) := dk_181 0 88 (dk_at dksX3_init_8 16 rfl rfl)
theorem dX3_init_204 : decode cX3_init 204 = .ok (.aload_n 0, 1) := dk_42 (dk_at dksX3_init_8 19 rfl rfl)
theorem dX3_init_205 : decode cX3_init 205 = .ok (.iconst 4, 1) := dk_7 (dk_at dksX3_init_8 20 rfl rfl)
theorem dX3_init_206 : decode cX3_init 206 = .ok (.newarray .int, 2) := dk_188_10 (dk_at dksX3_init_8 21 rfl rfl)
theorem dX3_init_208 : decode cX3_init 208 = .ok (.putfield 91, 3) := dk_181 0 91 (dk_at dksX3_init_9 0 rfl rfl)
theorem dX3_init_211 : decode cX3_init 211 = .ok (.aload_n 0, 1) := dk_42 (dk_at dksX3_init_9 3 rfl rfl)
theorem dX3_init_212 : decode cX3_init 212 = .ok (.iconst 4, 1) := dk_7 (dk_at dksX3_init_9 4 rfl rfl)
theorem dX3_init_213 : decode cX3_init 213 = .ok (.newarray .int, 2) := dk_188_10 (dk_at dksX3_init_9 5 rfl rfl)
theorem dX3_init_215 : decode cX3_init 215 = .ok (.putfield 94, 3) := dk_181 0 94 (dk_at dksX3_init_9 7 rfl rfl)
theorem dX3_init_218 : decode cX3_init 218 = .ok (.aload_n 0, 1) := dk_42 (dk_at dksX3_init_9 10 rfl rfl)
theorem dX3_init_219 : decode cX3_init 219 = .ok (.sipush 240, 3) := dk_17 0 240 (dk_at dksX3_init_9 11 rfl rfl)
theorem dX3_init_222 : decode cX3_init 222 = .ok (.newarray .int, 2) := dk_188_10 (dk_at dksX3_init_9 14 rfl rfl)
theorem dX3_init_224 : decode cX3_init 224 = .ok (.putfield 97, 3) := dk_181 0 97 (dk_at dksX3_init_9 16 rfl rfl)
theorem dX3_init_227 : decode cX3_init 227 = .ok (.aload_n 0, 1) := dk_42 (dk_at dksX3_init_9 19 rfl rfl)
theorem dX3_init_228 : decode cX3_init 228 = .ok (.bipush 60, 2) := dk_16 60 (dk_at dksX3_init_9 20 rfl rfl)
theorem dX3_init_230 : decode cX3_init 230 = .ok (.newarray .int, 2) := dk_188_10 (dk_at dksX3_init_9 22 rfl rfl)
theorem dX3_init_232 : decode cX3_init 232 = .ok (.putfield 100, 3) := dk_181 0 100 (dk_at dksX3_init_10 0 rfl rfl)
theorem dX3_init_235 : decode cX3_init 235 = .ok (.iconst 0, 1) := dk_3 (dk_at dksX3_init_10 3 rfl rfl)
theorem dX3_init_236 : decode cX3_init 236 = .ok (.istore_n 1, 1) := dk_60 (dk_at dksX3_init_10 4 rfl rfl)
theorem dX3_init_237 : decode cX3_init 237 = .ok (.iload_n 1, 1) := dk_27 (dk_at dksX3_init_10 5 rfl rfl)
theorem dX3_init_238 : decode cX3_init 238 = .ok (.bipush 6, 2) := dk_16 6 (dk_at dksX3_init_10 6 rfl rfl)
theorem dX3_init_240 : decode cX3_init 240 = .ok (.if_icmp .ge 23, 3) := dk_162 0 23 (dk_at dksX3_init_10 8 rfl rfl)
theorem dX3_init_243 : decode cX3_init 243 = .ok (.aload_n 0, 1) := dk_42 (dk_at dksX3_init_10 11 rfl rfl)
theorem dX3_init_244 : decode cX3_init 244 = .ok (.getfield 13, 3) := dk_180 0 13 (dk_at dksX3_init_10 12 rfl rfl)
theorem dX3_init_247 : decode cX3_init 247 = .ok (.iload_n 1, 1) := dk_27 (dk_at dksX3_init_10 15 rfl rfl)
theorem dX3_init_248 : decode cX3_init 248 = .ok (.iconst (-1), 1) := dk_2 (dk_at dksX3_init_10 16 rfl rfl)
theorem dX3_init_249 : decode cX3_init 249 = .ok (.iastore, 1) := dk_79 (dk_at dksX3_init_10 17 rfl rfl)
theorem dX3_init_250 : decode cX3_init 250 = .ok (.aload_n 0, 1) := dk_42 (dk_at dksX3_init_10 18 rfl rfl)
theorem dX3_init_251 : decode cX3_init 251 = .ok (.getfield 85, 3) := dk_180 0 85 (dk_at dksX3_init_10 19 rfl rfl)
theorem dX3_init_254 : decode cX3_init 254 = .ok (.iload_n 1, 1) := dk_27 (dk_at dksX3_init_10 22 rfl rfl)
theorem dX3_init_255 : decode cX3_init 255 = .ok (.iconst (-1), 1) := dk_2 (dk_at dksX3_init_10 23 rfl rfl)
theorem dX3_init_256 : decode cX3_init 256 = .ok (.iastore, 1) := dk_79 (dk_at dksX3_init_11 0 rfl rfl)
theorem dX3_init_257 : decode cX3_init 257 = .ok (.iinc 1 1, 3) := dk_132 1 1 (dk_at dksX3_init_11 1 rfl rfl)
theorem dX3_init_260 : decode cX3_init 260 = .ok (.goto (-23), 3) := dk_167 255 233 (dk_at dksX3_init_11 4 rfl rfl)
theorem dX3_init_263 : decode cX3_init 263 = .ok (.iconst 0, 1) := dk_3 (dk_at dksX3_init_11 7 rfl rfl)
theorem dX3_init_264 : decode cX3_init 264 = .ok (.istore_n 1, 1) := dk_60 (dk_at dksX3_init_11 8 rfl rfl)
theorem dX3_init_265 : decode cX3_init 265 = .ok (.iload_n 1, 1) := dk_27 (dk_at dksX3_init_11 9 rfl rfl)
theorem dX3_init_266 : decode cX3_init 266 = .ok (.iconst 4, 1) := dk_7 (dk_at dksX3_init_11 10 rfl rfl)
theorem dX3_init_267 : decode cX3_init 267 = .ok (.if_icmp .ge 16, 3) := dk_162 0 16 (dk_at dksX3_init_11 11 rfl rfl)
theorem dX3_init_270 : decode cX3_init 270 = .ok (.aload_n 0, 1) := dk_42 (dk_at dksX3_init_11 14 rfl rfl)
theorem dX3_init_271 : decode cX3_init 271 = .ok (.getfield 91, 3) := dk_180 0 91 (dk_at dksX3_init_11 15 rfl rfl)
theorem dX3_init_274 : decode cX3_init 274 = .ok (.iload_n 1, 1) := dk_27 (dk_at dksX3_init_11 18 rfl rfl)
theorem dX3_init_275 : decode cX3_init 275 = .ok (.iconst (-1), 1) := dk_2 (dk_at dksX3_init_11 19 rfl rfl)
theorem dX3_init_276 : decode cX3_init 276 = .ok (.iastore, 1) := dk_79 (dk_at dksX3_init_11 20 rfl rfl)
theorem dX3_init_277 : decode cX3_init 277 = .ok (.iinc 1 1, 3) := dk_132 1 1 (dk_at dksX3_init_11 21 rfl rfl)
theorem dX3_init_280 : decode cX3_init 280 = .ok (.goto (-15), 3) := dk_167 255 241 (dk_at dksX3_init_12 0 rfl rfl)
theorem dX3_init_283 : decode cX3_init 283 = .ok (.return_, 1) := dk_177 (dk_at dksX3_init_12 3 rfl rfl)
abbrev cX3_fighter : ByteArray := prog_12_method_7_code
def yX3_fighter : MethodName := ⟨RX3, "fighter", "(IIIIII)I"⟩
def dkwX3_fighter_6 : List UInt8 := [96, 181, 0, 119, 42, 180, 0, 119, 4, 100, 172]
abbrev dktX3_fighter_6 : List UInt8 := dkwX3_fighter_6 ++ []
def dkwX3_fighter_5 : List UInt8 := [21, 7, 7, 96, 21, 5, 79, 42, 180, 0, 7, 21, 7, 8, 96, 21, 6, 79, 42, 89, 180, 0, 119, 4]
abbrev dktX3_fighter_5 : List UInt8 := dkwX3_fighter_5 ++ dktX3_fighter_6
def dkwX3_fighter_4 : List UInt8 := [180, 0, 7, 21, 7, 5, 96, 29, 79, 42, 180, 0, 7, 21, 7, 6, 96, 21, 4, 79, 42, 180, 0, 7]
abbrev dktX3_fighter_4 : List UInt8 := dkwX3_fighter_4 ++ dktX3_fighter_5
def dkwX3_fighter_3 : List UInt8 := [104, 54, 7, 42, 180, 0, 7, 21, 7, 27, 79, 42, 180, 0, 7, 21, 7, 4, 96, 28, 79, 42]
abbrev dktX3_fighter_3 : List UInt8 := dkwX3_fighter_3 ++ dktX3_fighter_4
def dkwX3_fighter_2 : List UInt8 := [154, 0, 6, 16, 254, 172, 42, 180, 0, 119, 16, 16, 160, 0, 6, 16, 252, 172, 16, 6, 42, 180, 0, 119]
abbrev dktX3_fighter_2 : List UInt8 := dkwX3_fighter_2 ++ dktX3_fighter_3
def dkwX3_fighter_1 : List UInt8 := [6, 21, 4, 184, 0, 122, 153, 0, 21, 7, 21, 5, 184, 0, 122, 153, 0, 12, 8, 21, 6, 184, 0, 122]
abbrev dktX3_fighter_1 : List UInt8 := dkwX3_fighter_1 ++ dktX3_fighter_2
def dkwX3_fighter_0 : List UInt8 := [3, 27, 184, 0, 122, 153, 0, 46, 4, 28, 184, 0, 122, 153, 0, 38, 5, 29, 184, 0, 122, 153, 0, 30]
abbrev dktX3_fighter_0 : List UInt8 := dkwX3_fighter_0 ++ dktX3_fighter_1
theorem dksX3_fighter_0 : cX3_fighter.data.toList.drop 0 = dktX3_fighter_0 := by decide +kernel
theorem dksX3_fighter_1 : cX3_fighter.data.toList.drop 24 = dktX3_fighter_1 := dk_seg dksX3_fighter_0 24 rfl rfl
theorem dksX3_fighter_2 : cX3_fighter.data.toList.drop 48 = dktX3_fighter_2 := dk_seg dksX3_fighter_1 24 rfl rfl
theorem dksX3_fighter_3 : cX3_fighter.data.toList.drop 72 = dktX3_fighter_3 := dk_seg dksX3_fighter_2 24 rfl rfl
theorem dksX3_fighter_4 : cX3_fighter.data.toList.drop 94 = dktX3_fighter_4 := dk_seg dksX3_fighter_3 22 rfl rfl
theorem dksX3_fighter_5 : cX3_fighter.data.toList.drop 118 = dktX3_fighter_5 := dk_seg dksX3_fighter_4 24 rfl rfl
theorem dksX3_fighter_6 : cX3_fighter.data.toList.drop 142 = dktX3_fighter_6 := dk_seg dksX3_fighter_5 24 rfl rfl
theorem dX3_fighter_0 : decode cX3_fighter 0 = .ok (.iconst 0, 1) := dk_3 (dk_at dksX3_fighter_0 0 rfl rfl)
theorem dX3_fighter_1 : decode cX3_fighter 1 = .ok (.iload_n 1, 1) := dk_27 (dk_at dksX3_fighter_0 1 rfl rfl)
theorem dX3_fighter_2 : decode cX3_fighter 2 = .ok (.invokestatic 122, 3) := dk_184 0 122 (dk_at dksX3_fighter_0 2 rfl rfl)
theorem dX3_fighter_5 : decode cX3_fighter 5 = .ok (.ifCond .eq 46, 3) := dk_153 0 46 (dk_at dksX3_fighter_0 5 rfl rfl)
theorem dX3_fighter_8 : decode cX3_fighter 8 = .ok (.iconst 1, 1) := dk_4 (dk_at dksX3_fighter_0 8 rfl rfl)
theorem dX3_fighter_9 : decode cX3_fighter 9 = .ok (.iload_n 2, 1) := dk_28 (dk_at dksX3_fighter_0 9 rfl rfl)
theorem dX3_fighter_10 : decode cX3_fighter 10 = .ok (.invokestatic 122, 3) := dk_184 0 122 (dk_at dksX3_fighter_0 10 rfl rfl)
theorem dX3_fighter_13 : decode cX3_fighter 13 = .ok (.ifCond .eq 38, 3) := dk_153 0 38 (dk_at dksX3_fighter_0 13 rfl rfl)
theorem dX3_fighter_16 : decode cX3_fighter 16 = .ok (.iconst 2, 1) := dk_5 (dk_at dksX3_fighter_0 16 rfl rfl)
theorem dX3_fighter_17 : decode cX3_fighter 17 = .ok (.iload_n 3, 1) := dk_29 (dk_at dksX3_fighter_0 17 rfl rfl)
theorem dX3_fighter_18 : decode cX3_fighter 18 = .ok (.invokestatic 122, 3) := dk_184 0 122 (dk_at dksX3_fighter_0 18 rfl rfl)
theorem dX3_fighter_21 : decode cX3_fighter 21 = .ok (.ifCond .eq 30, 3) := dk_153 0 30 (dk_at dksX3_fighter_0 21 rfl rfl)
theorem dX3_fighter_24 : decode cX3_fighter 24 = .ok (.iconst 3, 1) := dk_6 (dk_at dksX3_fighter_1 0 rfl rfl)
theorem dX3_fighter_25 : decode cX3_fighter 25 = .ok (.iload 4, 2) := dk_21 4 (dk_at dksX3_fighter_1 1 rfl rfl)
theorem dX3_fighter_27 : decode cX3_fighter 27 = .ok (.invokestatic 122, 3) := dk_184 0 122 (dk_at dksX3_fighter_1 3 rfl rfl)
theorem dX3_fighter_30 : decode cX3_fighter 30 = .ok (.ifCond .eq 21, 3) := dk_153 0 21 (dk_at dksX3_fighter_1 6 rfl rfl)
theorem dX3_fighter_33 : decode cX3_fighter 33 = .ok (.iconst 4, 1) := dk_7 (dk_at dksX3_fighter_1 9 rfl rfl)
theorem dX3_fighter_34 : decode cX3_fighter 34 = .ok (.iload 5, 2) := dk_21 5 (dk_at dksX3_fighter_1 10 rfl rfl)
theorem dX3_fighter_36 : decode cX3_fighter 36 = .ok (.invokestatic 122, 3) := dk_184 0 122 (dk_at dksX3_fighter_1 12 rfl rfl)
theorem dX3_fighter_39 : decode cX3_fighter 39 = .ok (.ifCond .eq 12, 3) := dk_153 0 12 (dk_at dksX3_fighter_1 15 rfl rfl)
theorem dX3_fighter_42 : decode cX3_fighter 42 = .ok (.iconst 5, 1) := dk_8 (dk_at dksX3_fighter_1 18 rfl rfl)
theorem dX3_fighter_43 : decode cX3_fighter 43 = .ok (.iload 6, 2) := dk_21 6 (dk_at dksX3_fighter_1 19 rfl rfl)
theorem dX3_fighter_45 : decode cX3_fighter 45 = .ok (.invokestatic 122, 3) := dk_184 0 122 (dk_at dksX3_fighter_1 21 rfl rfl)
theorem dX3_fighter_48 : decode cX3_fighter 48 = .ok (.ifCond .ne 6, 3) := dk_154 0 6 (dk_at dksX3_fighter_2 0 rfl rfl)
theorem dX3_fighter_51 : decode cX3_fighter 51 = .ok (.bipush (-2), 2) := dk_16 254 (dk_at dksX3_fighter_2 3 rfl rfl)
theorem dX3_fighter_53 : decode cX3_fighter 53 = .ok (.ireturn, 1) := dk_172 (dk_at dksX3_fighter_2 5 rfl rfl)
theorem dX3_fighter_54 : decode cX3_fighter 54 = .ok (.aload_n 0, 1) := dk_42 (dk_at dksX3_fighter_2 6 rfl rfl)
theorem dX3_fighter_55 : decode cX3_fighter 55 = .ok (.getfield 119, 3) := dk_180 0 119 (dk_at dksX3_fighter_2 7 rfl rfl)
theorem dX3_fighter_58 : decode cX3_fighter 58 = .ok (.bipush 16, 2) := dk_16 16 (dk_at dksX3_fighter_2 10 rfl rfl)
theorem dX3_fighter_60 : decode cX3_fighter 60 = .ok (.if_icmp .ne 6, 3) := dk_160 0 6 (dk_at dksX3_fighter_2 12 rfl rfl)
theorem dX3_fighter_63 : decode cX3_fighter 63 = .ok (.bipush (-4), 2) := dk_16 252 (dk_at dksX3_fighter_2 15 rfl rfl)
theorem dX3_fighter_65 : decode cX3_fighter 65 = .ok (.ireturn, 1) := dk_172 (dk_at dksX3_fighter_2 17 rfl rfl)
theorem dX3_fighter_66 : decode cX3_fighter 66 = .ok (.bipush 6, 2) := dk_16 6 (dk_at dksX3_fighter_2 18 rfl rfl)
theorem dX3_fighter_68 : decode cX3_fighter 68 = .ok (.aload_n 0, 1) := dk_42 (dk_at dksX3_fighter_2 20 rfl rfl)
theorem dX3_fighter_69 : decode cX3_fighter 69 = .ok (.getfield 119, 3) := dk_180 0 119 (dk_at dksX3_fighter_2 21 rfl rfl)
theorem dX3_fighter_72 : decode cX3_fighter 72 = .ok (.imul, 1) := dk_104 (dk_at dksX3_fighter_3 0 rfl rfl)
theorem dX3_fighter_73 : decode cX3_fighter 73 = .ok (.istore 7, 2) := dk_54 7 (dk_at dksX3_fighter_3 1 rfl rfl)
theorem dX3_fighter_75 : decode cX3_fighter 75 = .ok (.aload_n 0, 1) := dk_42 (dk_at dksX3_fighter_3 3 rfl rfl)
theorem dX3_fighter_76 : decode cX3_fighter 76 = .ok (.getfield 7, 3) := dk_180 0 7 (dk_at dksX3_fighter_3 4 rfl rfl)
theorem dX3_fighter_79 : decode cX3_fighter 79 = .ok (.iload 7, 2) := dk_21 7 (dk_at dksX3_fighter_3 7 rfl rfl)
theorem dX3_fighter_81 : decode cX3_fighter 81 = .ok (.iload_n 1, 1) := dk_27 (dk_at dksX3_fighter_3 9 rfl rfl)
theorem dX3_fighter_82 : decode cX3_fighter 82 = .ok (.iastore, 1) := dk_79 (dk_at dksX3_fighter_3 10 rfl rfl)
theorem dX3_fighter_83 : decode cX3_fighter 83 = .ok (.aload_n 0, 1) := dk_42 (dk_at dksX3_fighter_3 11 rfl rfl)
theorem dX3_fighter_84 : decode cX3_fighter 84 = .ok (.getfield 7, 3) := dk_180 0 7 (dk_at dksX3_fighter_3 12 rfl rfl)
theorem dX3_fighter_87 : decode cX3_fighter 87 = .ok (.iload 7, 2) := dk_21 7 (dk_at dksX3_fighter_3 15 rfl rfl)
theorem dX3_fighter_89 : decode cX3_fighter 89 = .ok (.iconst 1, 1) := dk_4 (dk_at dksX3_fighter_3 17 rfl rfl)
theorem dX3_fighter_90 : decode cX3_fighter 90 = .ok (.iadd, 1) := dk_96 (dk_at dksX3_fighter_3 18 rfl rfl)
theorem dX3_fighter_91 : decode cX3_fighter 91 = .ok (.iload_n 2, 1) := dk_28 (dk_at dksX3_fighter_3 19 rfl rfl)
theorem dX3_fighter_92 : decode cX3_fighter 92 = .ok (.iastore, 1) := dk_79 (dk_at dksX3_fighter_3 20 rfl rfl)
theorem dX3_fighter_93 : decode cX3_fighter 93 = .ok (.aload_n 0, 1) := dk_42 (dk_at dksX3_fighter_3 21 rfl rfl)
theorem dX3_fighter_94 : decode cX3_fighter 94 = .ok (.getfield 7, 3) := dk_180 0 7 (dk_at dksX3_fighter_4 0 rfl rfl)
theorem dX3_fighter_97 : decode cX3_fighter 97 = .ok (.iload 7, 2) := dk_21 7 (dk_at dksX3_fighter_4 3 rfl rfl)
theorem dX3_fighter_99 : decode cX3_fighter 99 = .ok (.iconst 2, 1) := dk_5 (dk_at dksX3_fighter_4 5 rfl rfl)
theorem dX3_fighter_100 : decode cX3_fighter 100 = .ok (.iadd, 1) := dk_96 (dk_at dksX3_fighter_4 6 rfl rfl)
theorem dX3_fighter_101 : decode cX3_fighter 101 = .ok (.iload_n 3, 1) := dk_29 (dk_at dksX3_fighter_4 7 rfl rfl)
theorem dX3_fighter_102 : decode cX3_fighter 102 = .ok (.iastore, 1) := dk_79 (dk_at dksX3_fighter_4 8 rfl rfl)
theorem dX3_fighter_103 : decode cX3_fighter 103 = .ok (.aload_n 0, 1) := dk_42 (dk_at dksX3_fighter_4 9 rfl rfl)
theorem dX3_fighter_104 : decode cX3_fighter 104 = .ok (.getfield 7, 3) := dk_180 0 7 (dk_at dksX3_fighter_4 10 rfl rfl)
theorem dX3_fighter_107 : decode cX3_fighter 107 = .ok (.iload 7, 2) := dk_21 7 (dk_at dksX3_fighter_4 13 rfl rfl)
theorem dX3_fighter_109 : decode cX3_fighter 109 = .ok (.iconst 3, 1) := dk_6 (dk_at dksX3_fighter_4 15 rfl rfl)
theorem dX3_fighter_110 : decode cX3_fighter 110 = .ok (.iadd, 1) := dk_96 (dk_at dksX3_fighter_4 16 rfl rfl)
theorem dX3_fighter_111 : decode cX3_fighter 111 = .ok (.iload 4, 2) := dk_21 4 (dk_at dksX3_fighter_4 17 rfl rfl)
theorem dX3_fighter_113 : decode cX3_fighter 113 = .ok (.iastore, 1) := dk_79 (dk_at dksX3_fighter_4 19 rfl rfl)
theorem dX3_fighter_114 : decode cX3_fighter 114 = .ok (.aload_n 0, 1) := dk_42 (dk_at dksX3_fighter_4 20 rfl rfl)
theorem dX3_fighter_115 : decode cX3_fighter 115 = .ok (.getfield 7, 3) := dk_180 0 7 (dk_at dksX3_fighter_4 21 rfl rfl)
theorem dX3_fighter_118 : decode cX3_fighter 118 = .ok (.iload 7, 2) := dk_21 7 (dk_at dksX3_fighter_5 0 rfl rfl)
theorem dX3_fighter_120 : decode cX3_fighter 120 = .ok (.iconst 4, 1) := dk_7 (dk_at dksX3_fighter_5 2 rfl rfl)
theorem dX3_fighter_121 : decode cX3_fighter 121 = .ok (.iadd, 1) := dk_96 (dk_at dksX3_fighter_5 3 rfl rfl)
theorem dX3_fighter_122 : decode cX3_fighter 122 = .ok (.iload 5, 2) := dk_21 5 (dk_at dksX3_fighter_5 4 rfl rfl)
theorem dX3_fighter_124 : decode cX3_fighter 124 = .ok (.iastore, 1) := dk_79 (dk_at dksX3_fighter_5 6 rfl rfl)
theorem dX3_fighter_125 : decode cX3_fighter 125 = .ok (.aload_n 0, 1) := dk_42 (dk_at dksX3_fighter_5 7 rfl rfl)
theorem dX3_fighter_126 : decode cX3_fighter 126 = .ok (.getfield 7, 3) := dk_180 0 7 (dk_at dksX3_fighter_5 8 rfl rfl)
theorem dX3_fighter_129 : decode cX3_fighter 129 = .ok (.iload 7, 2) := dk_21 7 (dk_at dksX3_fighter_5 11 rfl rfl)
theorem dX3_fighter_131 : decode cX3_fighter 131 = .ok (.iconst 5, 1) := dk_8 (dk_at dksX3_fighter_5 13 rfl rfl)
theorem dX3_fighter_132 : decode cX3_fighter 132 = .ok (.iadd, 1) := dk_96 (dk_at dksX3_fighter_5 14 rfl rfl)
theorem dX3_fighter_133 : decode cX3_fighter 133 = .ok (.iload 6, 2) := dk_21 6 (dk_at dksX3_fighter_5 15 rfl rfl)
theorem dX3_fighter_135 : decode cX3_fighter 135 = .ok (.iastore, 1) := dk_79 (dk_at dksX3_fighter_5 17 rfl rfl)
theorem dX3_fighter_136 : decode cX3_fighter 136 = .ok (.aload_n 0, 1) := dk_42 (dk_at dksX3_fighter_5 18 rfl rfl)
theorem dX3_fighter_137 : decode cX3_fighter 137 = .ok (.dup, 1) := dk_89 (dk_at dksX3_fighter_5 19 rfl rfl)
theorem dX3_fighter_138 : decode cX3_fighter 138 = .ok (.getfield 119, 3) := dk_180 0 119 (dk_at dksX3_fighter_5 20 rfl rfl)
theorem dX3_fighter_141 : decode cX3_fighter 141 = .ok (.iconst 1, 1) := dk_4 (dk_at dksX3_fighter_5 23 rfl rfl)
theorem dX3_fighter_142 : decode cX3_fighter 142 = .ok (.iadd, 1) := dk_96 (dk_at dksX3_fighter_6 0 rfl rfl)
theorem dX3_fighter_143 : decode cX3_fighter 143 = .ok (.putfield 119, 3) := dk_181 0 119 (dk_at dksX3_fighter_6 1 rfl rfl)
theorem dX3_fighter_146 : decode cX3_fighter 146 = .ok (.aload_n 0, 1) := dk_42 (dk_at dksX3_fighter_6 4 rfl rfl)
theorem dX3_fighter_147 : decode cX3_fighter 147 = .ok (.getfield 119, 3) := dk_180 0 119 (dk_at dksX3_fighter_6 5 rfl rfl)
theorem dX3_fighter_150 : decode cX3_fighter 150 = .ok (.iconst 1, 1) := dk_4 (dk_at dksX3_fighter_6 8 rfl rfl)
theorem dX3_fighter_151 : decode cX3_fighter 151 = .ok (.isub, 1) := dk_100 (dk_at dksX3_fighter_6 9 rfl rfl)
theorem dX3_fighter_152 : decode cX3_fighter 152 = .ok (.ireturn, 1) := dk_172 (dk_at dksX3_fighter_6 10 rfl rfl)
abbrev cX3_isNumber : ByteArray := prog_12_method_5_code
def yX3_isNumber : MethodName := ⟨RX3, "isNumber", "(II)Z"⟩
def dkwX3_isNumber_4 : List UInt8 := [184, 0, 107, 172, 27, 133, 9, 20, 0, 115, 184, 0, 107, 172]
abbrev dktX3_isNumber_4 : List UInt8 := dkwX3_isNumber_4 ++ []
def dkwX3_isNumber_3 : List UInt8 := [20, 0, 113, 184, 0, 107, 172, 27, 133, 10, 20, 0, 115, 184, 0, 107, 172, 27, 133, 9, 20, 0, 117]
abbrev dktX3_isNumber_3 : List UInt8 := dkwX3_isNumber_3 ++ dktX3_isNumber_4
def dkwX3_isNumber_2 : List UInt8 := [27, 133, 9, 20, 0, 105, 184, 0, 107, 172, 27, 133, 10, 20, 0, 111, 184, 0, 107, 172, 27, 133, 9]
abbrev dktX3_isNumber_2 : List UInt8 := dkwX3_isNumber_2 ++ dktX3_isNumber_3
def dkwX3_isNumber_1 : List UInt8 := [170, 0, 0, 0, 0, 0, 85, 0, 0, 0, 0, 0, 0, 0, 4, 0, 0, 0, 35, 0, 0, 0, 45, 0, 0, 0, 55, 0, 0, 0, 65, 0, 0, 0, 75]
abbrev dktX3_isNumber_1 : List UInt8 := dkwX3_isNumber_1 ++ dktX3_isNumber_2
def dkwX3_isNumber_0 : List UInt8 := [26]
abbrev dktX3_isNumber_0 : List UInt8 := dkwX3_isNumber_0 ++ dktX3_isNumber_1
theorem dksX3_isNumber_0 : cX3_isNumber.data.toList.drop 0 = dktX3_isNumber_0 := by decide +kernel
theorem dksX3_isNumber_1 : cX3_isNumber.data.toList.drop 1 = dktX3_isNumber_1 := dk_seg dksX3_isNumber_0 1 rfl rfl
theorem dksX3_isNumber_2 : cX3_isNumber.data.toList.drop 36 = dktX3_isNumber_2 := dk_seg dksX3_isNumber_1 35 rfl rfl
theorem dksX3_isNumber_3 : cX3_isNumber.data.toList.drop 59 = dktX3_isNumber_3 := dk_seg dksX3_isNumber_2 23 rfl rfl
theorem dksX3_isNumber_4 : cX3_isNumber.data.toList.drop 82 = dktX3_isNumber_4 := dk_seg dksX3_isNumber_3 23 rfl rfl
theorem dX3_isNumber_0 : decode cX3_isNumber 0 = .ok (.iload_n 0, 1) := dk_26 (dk_at dksX3_isNumber_0 0 rfl rfl)
theorem dX3_isNumber_1 : decode cX3_isNumber 1 = .ok (.tableswitch 85 0 4 #[35, 45, 55, 65, 75], 35) := by decide +kernel
theorem dX3_isNumber_36 : decode cX3_isNumber 36 = .ok (.iload_n 1, 1) := dk_27 (dk_at dksX3_isNumber_2 0 rfl rfl)
theorem dX3_isNumber_37 : decode cX3_isNumber 37 = .ok (.i2l, 1) := dk_133 (dk_at dksX3_isNumber_2 1 rfl rfl)
theorem dX3_isNumber_38 : decode cX3_isNumber 38 = .ok (.lconst 0, 1) := dk_9 (dk_at dksX3_isNumber_2 2 rfl rfl)
theorem dX3_isNumber_39 : decode cX3_isNumber 39 = .ok (.ldc2_w 105, 3) := dk_20 0 105 (dk_at dksX3_isNumber_2 3 rfl rfl)
theorem dX3_isNumber_42 : decode cX3_isNumber 42 = .ok (.invokestatic 107, 3) := dk_184 0 107 (dk_at dksX3_isNumber_2 6 rfl rfl)
theorem dX3_isNumber_45 : decode cX3_isNumber 45 = .ok (.ireturn, 1) := dk_172 (dk_at dksX3_isNumber_2 9 rfl rfl)
theorem dX3_isNumber_46 : decode cX3_isNumber 46 = .ok (.iload_n 1, 1) := dk_27 (dk_at dksX3_isNumber_2 10 rfl rfl)
theorem dX3_isNumber_47 : decode cX3_isNumber 47 = .ok (.i2l, 1) := dk_133 (dk_at dksX3_isNumber_2 11 rfl rfl)
theorem dX3_isNumber_48 : decode cX3_isNumber 48 = .ok (.lconst 1, 1) := dk_10 (dk_at dksX3_isNumber_2 12 rfl rfl)
theorem dX3_isNumber_49 : decode cX3_isNumber 49 = .ok (.ldc2_w 111, 3) := dk_20 0 111 (dk_at dksX3_isNumber_2 13 rfl rfl)
theorem dX3_isNumber_52 : decode cX3_isNumber 52 = .ok (.invokestatic 107, 3) := dk_184 0 107 (dk_at dksX3_isNumber_2 16 rfl rfl)
theorem dX3_isNumber_55 : decode cX3_isNumber 55 = .ok (.ireturn, 1) := dk_172 (dk_at dksX3_isNumber_2 19 rfl rfl)
theorem dX3_isNumber_56 : decode cX3_isNumber 56 = .ok (.iload_n 1, 1) := dk_27 (dk_at dksX3_isNumber_2 20 rfl rfl)
theorem dX3_isNumber_57 : decode cX3_isNumber 57 = .ok (.i2l, 1) := dk_133 (dk_at dksX3_isNumber_2 21 rfl rfl)
theorem dX3_isNumber_58 : decode cX3_isNumber 58 = .ok (.lconst 0, 1) := dk_9 (dk_at dksX3_isNumber_2 22 rfl rfl)
theorem dX3_isNumber_59 : decode cX3_isNumber 59 = .ok (.ldc2_w 113, 3) := dk_20 0 113 (dk_at dksX3_isNumber_3 0 rfl rfl)
theorem dX3_isNumber_62 : decode cX3_isNumber 62 = .ok (.invokestatic 107, 3) := dk_184 0 107 (dk_at dksX3_isNumber_3 3 rfl rfl)
theorem dX3_isNumber_65 : decode cX3_isNumber 65 = .ok (.ireturn, 1) := dk_172 (dk_at dksX3_isNumber_3 6 rfl rfl)
theorem dX3_isNumber_66 : decode cX3_isNumber 66 = .ok (.iload_n 1, 1) := dk_27 (dk_at dksX3_isNumber_3 7 rfl rfl)
theorem dX3_isNumber_67 : decode cX3_isNumber 67 = .ok (.i2l, 1) := dk_133 (dk_at dksX3_isNumber_3 8 rfl rfl)
theorem dX3_isNumber_68 : decode cX3_isNumber 68 = .ok (.lconst 1, 1) := dk_10 (dk_at dksX3_isNumber_3 9 rfl rfl)
theorem dX3_isNumber_69 : decode cX3_isNumber 69 = .ok (.ldc2_w 115, 3) := dk_20 0 115 (dk_at dksX3_isNumber_3 10 rfl rfl)
theorem dX3_isNumber_72 : decode cX3_isNumber 72 = .ok (.invokestatic 107, 3) := dk_184 0 107 (dk_at dksX3_isNumber_3 13 rfl rfl)
theorem dX3_isNumber_75 : decode cX3_isNumber 75 = .ok (.ireturn, 1) := dk_172 (dk_at dksX3_isNumber_3 16 rfl rfl)
theorem dX3_isNumber_76 : decode cX3_isNumber 76 = .ok (.iload_n 1, 1) := dk_27 (dk_at dksX3_isNumber_3 17 rfl rfl)
theorem dX3_isNumber_77 : decode cX3_isNumber 77 = .ok (.i2l, 1) := dk_133 (dk_at dksX3_isNumber_3 18 rfl rfl)
theorem dX3_isNumber_78 : decode cX3_isNumber 78 = .ok (.lconst 0, 1) := dk_9 (dk_at dksX3_isNumber_3 19 rfl rfl)
theorem dX3_isNumber_79 : decode cX3_isNumber 79 = .ok (.ldc2_w 117, 3) := dk_20 0 117 (dk_at dksX3_isNumber_3 20 rfl rfl)
theorem dX3_isNumber_82 : decode cX3_isNumber 82 = .ok (.invokestatic 107, 3) := dk_184 0 107 (dk_at dksX3_isNumber_4 0 rfl rfl)
theorem dX3_isNumber_85 : decode cX3_isNumber 85 = .ok (.ireturn, 1) := dk_172 (dk_at dksX3_isNumber_4 3 rfl rfl)
theorem dX3_isNumber_86 : decode cX3_isNumber 86 = .ok (.iload_n 1, 1) := dk_27 (dk_at dksX3_isNumber_4 4 rfl rfl)
theorem dX3_isNumber_87 : decode cX3_isNumber 87 = .ok (.i2l, 1) := dk_133 (dk_at dksX3_isNumber_4 5 rfl rfl)
theorem dX3_isNumber_88 : decode cX3_isNumber 88 = .ok (.lconst 0, 1) := dk_9 (dk_at dksX3_isNumber_4 6 rfl rfl)
theorem dX3_isNumber_89 : decode cX3_isNumber 89 = .ok (.ldc2_w 115, 3) := dk_20 0 115 (dk_at dksX3_isNumber_4 7 rfl rfl)
theorem dX3_isNumber_92 : decode cX3_isNumber 92 = .ok (.invokestatic 107, 3) := dk_184 0 107 (dk_at dksX3_isNumber_4 10 rfl rfl)
theorem dX3_isNumber_95 : decode cX3_isNumber 95 = .ok (.ireturn, 1) := dk_172 (dk_at dksX3_isNumber_4 13 rfl rfl)
abbrev cX3_in : ByteArray := prog_12_method_3_code
def yX3_in : MethodName := ⟨RX3, "in", "(JJJ)Z"⟩
def dkwX3_in_0 : List UInt8 := [30, 32, 148, 155, 0, 14, 30, 22, 4, 148, 157, 0, 7, 4, 167, 0, 4, 3, 172]
abbrev dktX3_in_0 : List UInt8 := dkwX3_in_0 ++ []
theorem dksX3_in_0 : cX3_in.data.toList.drop 0 = dktX3_in_0 := by decide +kernel
theorem dX3_in_0 : decode cX3_in 0 = .ok (.lload_n 0, 1) := dk_30 (dk_at dksX3_in_0 0 rfl rfl)
theorem dX3_in_1 : decode cX3_in 1 = .ok (.lload_n 2, 1) := dk_32 (dk_at dksX3_in_0 1 rfl rfl)
theorem dX3_in_2 : decode cX3_in 2 = .ok (.lcmp, 1) := dk_148 (dk_at dksX3_in_0 2 rfl rfl)
theorem dX3_in_3 : decode cX3_in 3 = .ok (.ifCond .lt 14, 3) := dk_155 0 14 (dk_at dksX3_in_0 3 rfl rfl)
theorem dX3_in_6 : decode cX3_in 6 = .ok (.lload_n 0, 1) := dk_30 (dk_at dksX3_in_0 6 rfl rfl)
theorem dX3_in_7 : decode cX3_in 7 = .ok (.lload 4, 2) := dk_22 4 (dk_at dksX3_in_0 7 rfl rfl)
theorem dX3_in_9 : decode cX3_in 9 = .ok (.lcmp, 1) := dk_148 (dk_at dksX3_in_0 9 rfl rfl)
theorem dX3_in_10 : decode cX3_in 10 = .ok (.ifCond .gt 7, 3) := dk_157 0 7 (dk_at dksX3_in_0 10 rfl rfl)
theorem dX3_in_13 : decode cX3_in 13 = .ok (.iconst 1, 1) := dk_4 (dk_at dksX3_in_0 13 rfl rfl)
theorem dX3_in_14 : decode cX3_in 14 = .ok (.goto 4, 3) := dk_167 0 4 (dk_at dksX3_in_0 14 rfl rfl)
theorem dX3_in_17 : decode cX3_in 17 = .ok (.iconst 0, 1) := dk_3 (dk_at dksX3_in_0 17 rfl rfl)
theorem dX3_in_18 : decode cX3_in 18 = .ok (.ireturn, 1) := dk_172 (dk_at dksX3_in_0 18 rfl rfl)
abbrev cX3_about : ByteArray := prog_12_method_8_code
def yX3_about : MethodName := ⟨RX3, "about", "(II)I"⟩
def dkwX3_about_1 : List UInt8 := [16, 6, 27, 104, 28, 96, 46, 167, 0, 5, 16, 254, 172]
abbrev dktX3_about_1 : List UInt8 := dkwX3_about_1 ++ []
def dkwX3_about_0 : List UInt8 := [42, 27, 182, 0, 126, 153, 0, 29, 28, 133, 9, 20, 0, 130, 184, 0, 107, 153, 0, 17, 42, 180, 0, 7]
abbrev dktX3_about_0 : List UInt8 := dkwX3_about_0 ++ dktX3_about_1
theorem dksX3_about_0 : cX3_about.data.toList.drop 0 = dktX3_about_0 := by decide +kernel
theorem dksX3_about_1 : cX3_about.data.toList.drop 24 = dktX3_about_1 := dk_seg dksX3_about_0 24 rfl rfl
theorem dX3_about_0 : decode cX3_about 0 = .ok (.aload_n 0, 1) := dk_42 (dk_at dksX3_about_0 0 rfl rfl)
theorem dX3_about_1 : decode cX3_about 1 = .ok (.iload_n 1, 1) := dk_27 (dk_at dksX3_about_0 1 rfl rfl)
theorem dX3_about_2 : decode cX3_about 2 = .ok (.invokevirtual 126, 3) := dk_182 0 126 (dk_at dksX3_about_0 2 rfl rfl)
theorem dX3_about_5 : decode cX3_about 5 = .ok (.ifCond .eq 29, 3) := dk_153 0 29 (dk_at dksX3_about_0 5 rfl rfl)
theorem dX3_about_8 : decode cX3_about 8 = .ok (.iload_n 2, 1) := dk_28 (dk_at dksX3_about_0 8 rfl rfl)
theorem dX3_about_9 : decode cX3_about 9 = .ok (.i2l, 1) := dk_133 (dk_at dksX3_about_0 9 rfl rfl)
theorem dX3_about_10 : decode cX3_about 10 = .ok (.lconst 0, 1) := dk_9 (dk_at dksX3_about_0 10 rfl rfl)
theorem dX3_about_11 : decode cX3_about 11 = .ok (.ldc2_w 130, 3) := dk_20 0 130 (dk_at dksX3_about_0 11 rfl rfl)
theorem dX3_about_14 : decode cX3_about 14 = .ok (.invokestatic 107, 3) := dk_184 0 107 (dk_at dksX3_about_0 14 rfl rfl)
theorem dX3_about_17 : decode cX3_about 17 = .ok (.ifCond .eq 17, 3) := dk_153 0 17 (dk_at dksX3_about_0 17 rfl rfl)
theorem dX3_about_20 : decode cX3_about 20 = .ok (.aload_n 0, 1) := dk_42 (dk_at dksX3_about_0 20 rfl rfl)
theorem dX3_about_21 : decode cX3_about 21 = .ok (.getfield 7, 3) := dk_180 0 7 (dk_at dksX3_about_0 21 rfl rfl)
theorem dX3_about_24 : decode cX3_about 24 = .ok (.bipush 6, 2) := dk_16 6 (dk_at dksX3_about_1 0 rfl rfl)
theorem dX3_about_26 : decode cX3_about 26 = .ok (.iload_n 1, 1) := dk_27 (dk_at dksX3_about_1 2 rfl rfl)
theorem dX3_about_27 : decode cX3_about 27 = .ok (.imul, 1) := dk_104 (dk_at dksX3_about_1 3 rfl rfl)
theorem dX3_about_28 : decode cX3_about 28 = .ok (.iload_n 2, 1) := dk_28 (dk_at dksX3_about_1 4 rfl rfl)
theorem dX3_about_29 : decode cX3_about 29 = .ok (.iadd, 1) := dk_96 (dk_at dksX3_about_1 5 rfl rfl)
theorem dX3_about_30 : decode cX3_about 30 = .ok (.iaload, 1) := dk_46 (dk_at dksX3_about_1 6 rfl rfl)
theorem dX3_about_31 : decode cX3_about 31 = .ok (.goto 5, 3) := dk_167 0 5 (dk_at dksX3_about_1 7 rfl rfl)
theorem dX3_about_34 : decode cX3_about 34 = .ok (.bipush (-2), 2) := dk_16 254 (dk_at dksX3_about_1 10 rfl rfl)
theorem dX3_about_36 : decode cX3_about 36 = .ok (.ireturn, 1) := dk_172 (dk_at dksX3_about_1 12 rfl rfl)
abbrev cX3_isFighter : ByteArray := prog_12_method_6_code
def yX3_isFighter : MethodName := ⟨RX3, "isFighter", "(I)Z"⟩
def dkwX3_isFighter_0 : List UInt8 := [27, 133, 9, 42, 180, 0, 119, 4, 100, 133, 184, 0, 107, 172]
abbrev dktX3_isFighter_0 : List UInt8 := dkwX3_isFighter_0 ++ []
theorem dksX3_isFighter_0 : cX3_isFighter.data.toList.drop 0 = dktX3_isFighter_0 := by decide +kernel
theorem dX3_isFighter_0 : decode cX3_isFighter 0 = .ok (.iload_n 1, 1) := dk_27 (dk_at dksX3_isFighter_0 0 rfl rfl)
theorem dX3_isFighter_1 : decode cX3_isFighter 1 = .ok (.i2l, 1) := dk_133 (dk_at dksX3_isFighter_0 1 rfl rfl)
theorem dX3_isFighter_2 : decode cX3_isFighter 2 = .ok (.lconst 0, 1) := dk_9 (dk_at dksX3_isFighter_0 2 rfl rfl)
theorem dX3_isFighter_3 : decode cX3_isFighter 3 = .ok (.aload_n 0, 1) := dk_42 (dk_at dksX3_isFighter_0 3 rfl rfl)
theorem dX3_isFighter_4 : decode cX3_isFighter 4 = .ok (.getfield 119, 3) := dk_180 0 119 (dk_at dksX3_isFighter_0 4 rfl rfl)
theorem dX3_isFighter_7 : decode cX3_isFighter 7 = .ok (.iconst 1, 1) := dk_4 (dk_at dksX3_isFighter_0 7 rfl rfl)
theorem dX3_isFighter_8 : decode cX3_isFighter 8 = .ok (.isub, 1) := dk_100 (dk_at dksX3_isFighter_0 8 rfl rfl)
theorem dX3_isFighter_9 : decode cX3_isFighter 9 = .ok (.i2l, 1) := dk_133 (dk_at dksX3_isFighter_0 9 rfl rfl)
theorem dX3_isFighter_10 : decode cX3_isFighter 10 = .ok (.invokestatic 107, 3) := dk_184 0 107 (dk_at dksX3_isFighter_0 10 rfl rfl)
theorem dX3_isFighter_13 : decode cX3_isFighter 13 = .ok (.ireturn, 1) := dk_172 (dk_at dksX3_isFighter_0 13 rfl rfl)
abbrev cX3_tune : ByteArray := prog_12_method_9_code
def yX3_tune : MethodName := ⟨RX3, "tune", "(III)I"⟩
def dkwX3_tune_2 : List UInt8 := [180, 0, 7, 16, 6, 27, 104, 28, 96, 29, 79, 21, 4, 172]
abbrev dktX3_tune_2 : List UInt8 := dkwX3_tune_2 ++ []
def dkwX3_tune_1 : List UInt8 := [184, 0, 122, 154, 0, 6, 16, 254, 172, 42, 180, 0, 7, 16, 6, 27, 104, 28, 96, 46, 54, 4, 42]
abbrev dktX3_tune_1 : List UInt8 := dkwX3_tune_1 ++ dktX3_tune_2
def dkwX3_tune_0 : List UInt8 := [42, 27, 182, 0, 126, 153, 0, 23, 28, 133, 10, 20, 0, 130, 184, 0, 107, 153, 0, 11, 28, 29]
abbrev dktX3_tune_0 : List UInt8 := dkwX3_tune_0 ++ dktX3_tune_1
theorem dksX3_tune_0 : cX3_tune.data.toList.drop 0 = dktX3_tune_0 := by decide +kernel
theorem dksX3_tune_1 : cX3_tune.data.toList.drop 22 = dktX3_tune_1 := dk_seg dksX3_tune_0 22 rfl rfl
theorem dksX3_tune_2 : cX3_tune.data.toList.drop 45 = dktX3_tune_2 := dk_seg dksX3_tune_1 23 rfl rfl
theorem dX3_tune_0 : decode cX3_tune 0 = .ok (.aload_n 0, 1) := dk_42 (dk_at dksX3_tune_0 0 rfl rfl)
theorem dX3_tune_1 : decode cX3_tune 1 = .ok (.iload_n 1, 1) := dk_27 (dk_at dksX3_tune_0 1 rfl rfl)
theorem dX3_tune_2 : decode cX3_tune 2 = .ok (.invokevirtual 126, 3) := dk_182 0 126 (dk_at dksX3_tune_0 2 rfl rfl)
theorem dX3_tune_5 : decode cX3_tune 5 = .ok (.ifCond .eq 23, 3) := dk_153 0 23 (dk_at dksX3_tune_0 5 rfl rfl)
theorem dX3_tune_8 : decode cX3_tune 8 = .ok (.iload_n 2, 1) := dk_28 (dk_at dksX3_tune_0 8 rfl rfl)
theorem dX3_tune_9 : decode cX3_tune 9 = .ok (.i2l, 1) := dk_133 (dk_at dksX3_tune_0 9 rfl rfl)
theorem dX3_tune_10 : decode cX3_tune 10 = .ok (.lconst 1, 1) := dk_10 (dk_at dksX3_tune_0 10 rfl rfl)
theorem dX3_tune_11 : decode cX3_tune 11 = .ok (.ldc2_w 130, 3) := dk_20 0 130 (dk_at dksX3_tune_0 11 rfl rfl)
theorem dX3_tune_14 : decode cX3_tune 14 = .ok (.invokestatic 107, 3) := dk_184 0 107 (dk_at dksX3_tune_0 14 rfl rfl)
theorem dX3_tune_17 : decode cX3_tune 17 = .ok (.ifCond .eq 11, 3) := dk_153 0 11 (dk_at dksX3_tune_0 17 rfl rfl)
theorem dX3_tune_20 : decode cX3_tune 20 = .ok (.iload_n 2, 1) := dk_28 (dk_at dksX3_tune_0 20 rfl rfl)
theorem dX3_tune_21 : decode cX3_tune 21 = .ok (.iload_n 3, 1) := dk_29 (dk_at dksX3_tune_0 21 rfl rfl)
theorem dX3_tune_22 : decode cX3_tune 22 = .ok (.invokestatic 122, 3) := dk_184 0 122 (dk_at dksX3_tune_1 0 rfl rfl)
theorem dX3_tune_25 : decode cX3_tune 25 = .ok (.ifCond .ne 6, 3) := dk_154 0 6 (dk_at dksX3_tune_1 3 rfl rfl)
theorem dX3_tune_28 : decode cX3_tune 28 = .ok (.bipush (-2), 2) := dk_16 254 (dk_at dksX3_tune_1 6 rfl rfl)
theorem dX3_tune_30 : decode cX3_tune 30 = .ok (.ireturn, 1) := dk_172 (dk_at dksX3_tune_1 8 rfl rfl)
theorem dX3_tune_31 : decode cX3_tune 31 = .ok (.aload_n 0, 1) := dk_42 (dk_at dksX3_tune_1 9 rfl rfl)
theorem dX3_tune_32 : decode cX3_tune 32 = .ok (.getfield 7, 3) := dk_180 0 7 (dk_at dksX3_tune_1 10 rfl rfl)
theorem dX3_tune_35 : decode cX3_tune 35 = .ok (.bipush 6, 2) := dk_16 6 (dk_at dksX3_tune_1 13 rfl rfl)
theorem dX3_tune_37 : decode cX3_tune 37 = .ok (.iload_n 1, 1) := dk_27 (dk_at dksX3_tune_1 15 rfl rfl)
theorem dX3_tune_38 : decode cX3_tune 38 = .ok (.imul, 1) := dk_104 (dk_at dksX3_tune_1 16 rfl rfl)
theorem dX3_tune_39 : decode cX3_tune 39 = .ok (.iload_n 2, 1) := dk_28 (dk_at dksX3_tune_1 17 rfl rfl)
theorem dX3_tune_40 : decode cX3_tune 40 = .ok (.iadd, 1) := dk_96 (dk_at dksX3_tune_1 18 rfl rfl)
theorem dX3_tune_41 : decode cX3_tune 41 = .ok (.iaload, 1) := dk_46 (dk_at dksX3_tune_1 19 rfl rfl)
theorem dX3_tune_42 : decode cX3_tune 42 = .ok (.istore 4, 2) := dk_54 4 (dk_at dksX3_tune_1 20 rfl rfl)
theorem dX3_tune_44 : decode cX3_tune 44 = .ok (.aload_n 0, 1) := dk_42 (dk_at dksX3_tune_1 22 rfl rfl)
theorem dX3_tune_45 : decode cX3_tune 45 = .ok (.getfield 7, 3) := dk_180 0 7 (dk_at dksX3_tune_2 0 rfl rfl)
theorem dX3_tune_48 : decode cX3_tune 48 = .ok (.bipush 6, 2) := dk_16 6 (dk_at dksX3_tune_2 3 rfl rfl)
theorem dX3_tune_50 : decode cX3_tune 50 = .ok (.iload_n 1, 1) := dk_27 (dk_at dksX3_tune_2 5 rfl rfl)
theorem dX3_tune_51 : decode cX3_tune 51 = .ok (.imul, 1) := dk_104 (dk_at dksX3_tune_2 6 rfl rfl)
theorem dX3_tune_52 : decode cX3_tune 52 = .ok (.iload_n 2, 1) := dk_28 (dk_at dksX3_tune_2 7 rfl rfl)
theorem dX3_tune_53 : decode cX3_tune 53 = .ok (.iadd, 1) := dk_96 (dk_at dksX3_tune_2 8 rfl rfl)
theorem dX3_tune_54 : decode cX3_tune 54 = .ok (.iload_n 3, 1) := dk_29 (dk_at dksX3_tune_2 9 rfl rfl)
theorem dX3_tune_55 : decode cX3_tune 55 = .ok (.iastore, 1) := dk_79 (dk_at dksX3_tune_2 10 rfl rfl)
theorem dX3_tune_56 : decode cX3_tune 56 = .ok (.iload 4, 2) := dk_21 4 (dk_at dksX3_tune_2 11 rfl rfl)
theorem dX3_tune_58 : decode cX3_tune 58 = .ok (.ireturn, 1) := dk_172 (dk_at dksX3_tune_2 13 rfl rfl)
abbrev cX3_side : ByteArray := prog_12_method_12_code
def yX3_side : MethodName := ⟨RX3, "side", "(IIII)I"⟩
def dkwX3_side_2 : List UInt8 := [6, 27, 104, 5, 96, 21, 4, 79, 28, 29, 21, 4, 184, 0, 138, 172]
abbrev dktX3_side_2 : List UInt8 := dkwX3_side_2 ++ []
def dkwX3_side_1 : List UInt8 := [42, 180, 0, 13, 6, 27, 104, 28, 79, 42, 180, 0, 13, 6, 27, 104, 4, 96, 29, 79, 42, 180, 0, 13]
abbrev dktX3_side_1 : List UInt8 := dkwX3_side_1 ++ dktX3_side_2
def dkwX3_side_0 : List UInt8 := [27, 133, 9, 10, 184, 0, 107, 153, 0, 14, 42, 28, 29, 21, 4, 182, 0, 134, 154, 0, 6, 16, 254, 172]
abbrev dktX3_side_0 : List UInt8 := dkwX3_side_0 ++ dktX3_side_1
theorem dksX3_side_0 : cX3_side.data.toList.drop 0 = dktX3_side_0 := by decide +kernel
theorem dksX3_side_1 : cX3_side.data.toList.drop 24 = dktX3_side_1 := dk_seg dksX3_side_0 24 rfl rfl
theorem dksX3_side_2 : cX3_side.data.toList.drop 48 = dktX3_side_2 := dk_seg dksX3_side_1 24 rfl rfl
theorem dX3_side_0 : decode cX3_side 0 = .ok (.iload_n 1, 1) := dk_27 (dk_at dksX3_side_0 0 rfl rfl)
theorem dX3_side_1 : decode cX3_side 1 = .ok (.i2l, 1) := dk_133 (dk_at dksX3_side_0 1 rfl rfl)
theorem dX3_side_2 : decode cX3_side 2 = .ok (.lconst 0, 1) := dk_9 (dk_at dksX3_side_0 2 rfl rfl)
theorem dX3_side_3 : decode cX3_side 3 = .ok (.lconst 1, 1) := dk_10 (dk_at dksX3_side_0 3 rfl rfl)
theorem dX3_side_4 : decode cX3_side 4 = .ok (.invokestatic 107, 3) := dk_184 0 107 (dk_at dksX3_side_0 4 rfl rfl)
theorem dX3_side_7 : decode cX3_side 7 = .ok (.ifCond .eq 14, 3) := dk_153 0 14 (dk_at dksX3_side_0 7 rfl rfl)
theorem dX3_side_10 : decode cX3_side 10 = .ok (.aload_n 0, 1) := dk_42 (dk_at dksX3_side_0 10 rfl rfl)
theorem dX3_side_11 : decode cX3_side 11 = .ok (.iload_n 2, 1) := dk_28 (dk_at dksX3_side_0 11 rfl rfl)
theorem dX3_side_12 : decode cX3_side 12 = .ok (.iload_n 3, 1) := dk_29 (dk_at dksX3_side_0 12 rfl rfl)
theorem dX3_side_13 : decode cX3_side 13 = .ok (.iload 4, 2) := dk_21 4 (dk_at dksX3_side_0 13 rfl rfl)
theorem dX3_side_15 : decode cX3_side 15 = .ok (.invokevirtual 134, 3) := dk_182 0 134 (dk_at dksX3_side_0 15 rfl rfl)
theorem dX3_side_18 : decode cX3_side 18 = .ok (.ifCond .ne 6, 3) := dk_154 0 6 (dk_at dksX3_side_0 18 rfl rfl)
theorem dX3_side_21 : decode cX3_side 21 = .ok (.bipush (-2), 2) := dk_16 254 (dk_at dksX3_side_0 21 rfl rfl)
theorem dX3_side_23 : decode cX3_side 23 = .ok (.ireturn, 1) := dk_172 (dk_at dksX3_side_0 23 rfl rfl)
theorem dX3_side_24 : decode cX3_side 24 = .ok (.aload_n 0, 1) := dk_42 (dk_at dksX3_side_1 0 rfl rfl)
theorem dX3_side_25 : decode cX3_side 25 = .ok (.getfield 13, 3) := dk_180 0 13 (dk_at dksX3_side_1 1 rfl rfl)
theorem dX3_side_28 : decode cX3_side 28 = .ok (.iconst 3, 1) := dk_6 (dk_at dksX3_side_1 4 rfl rfl)
theorem dX3_side_29 : decode cX3_side 29 = .ok (.iload_n 1, 1) := dk_27 (dk_at dksX3_side_1 5 rfl rfl)
theorem dX3_side_30 : decode cX3_side 30 = .ok (.imul, 1) := dk_104 (dk_at dksX3_side_1 6 rfl rfl)
theorem dX3_side_31 : decode cX3_side 31 = .ok (.iload_n 2, 1) := dk_28 (dk_at dksX3_side_1 7 rfl rfl)
theorem dX3_side_32 : decode cX3_side 32 = .ok (.iastore, 1) := dk_79 (dk_at dksX3_side_1 8 rfl rfl)
theorem dX3_side_33 : decode cX3_side 33 = .ok (.aload_n 0, 1) := dk_42 (dk_at dksX3_side_1 9 rfl rfl)
theorem dX3_side_34 : decode cX3_side 34 = .ok (.getfield 13, 3) := dk_180 0 13 (dk_at dksX3_side_1 10 rfl rfl)
theorem dX3_side_37 : decode cX3_side 37 = .ok (.iconst 3, 1) := dk_6 (dk_at dksX3_side_1 13 rfl rfl)
theorem dX3_side_38 : decode cX3_side 38 = .ok (.iload_n 1, 1) := dk_27 (dk_at dksX3_side_1 14 rfl rfl)
theorem dX3_side_39 : decode cX3_side 39 = .ok (.imul, 1) := dk_104 (dk_at dksX3_side_1 15 rfl rfl)
theorem dX3_side_40 : decode cX3_side 40 = .ok (.iconst 1, 1) := dk_4 (dk_at dksX3_side_1 16 rfl rfl)
theorem dX3_side_41 : decode cX3_side 41 = .ok (.iadd, 1) := dk_96 (dk_at dksX3_side_1 17 rfl rfl)
theorem dX3_side_42 : decode cX3_side 42 = .ok (.iload_n 3, 1) := dk_29 (dk_at dksX3_side_1 18 rfl rfl)
theorem dX3_side_43 : decode cX3_side 43 = .ok (.iastore, 1) := dk_79 (dk_at dksX3_side_1 19 rfl rfl)
theorem dX3_side_44 : decode cX3_side 44 = .ok (.aload_n 0, 1) := dk_42 (dk_at dksX3_side_1 20 rfl rfl)
theorem dX3_side_45 : decode cX3_side 45 = .ok (.getfield 13, 3) := dk_180 0 13 (dk_at dksX3_side_1 21 rfl rfl)
theorem dX3_side_48 : decode cX3_side 48 = .ok (.iconst 3, 1) := dk_6 (dk_at dksX3_side_2 0 rfl rfl)
theorem dX3_side_49 : decode cX3_side 49 = .ok (.iload_n 1, 1) := dk_27 (dk_at dksX3_side_2 1 rfl rfl)
theorem dX3_side_50 : decode cX3_side 50 = .ok (.imul, 1) := dk_104 (dk_at dksX3_side_2 2 rfl rfl)
theorem dX3_side_51 : decode cX3_side 51 = .ok (.iconst 2, 1) := dk_5 (dk_at dksX3_side_2 3 rfl rfl)
theorem dX3_side_52 : decode cX3_side 52 = .ok (.iadd, 1) := dk_96 (dk_at dksX3_side_2 4 rfl rfl)
theorem dX3_side_53 : decode cX3_side 53 = .ok (.iload 4, 2) := dk_21 4 (dk_at dksX3_side_2 5 rfl rfl)
theorem dX3_side_55 : decode cX3_side 55 = .ok (.iastore, 1) := dk_79 (dk_at dksX3_side_2 7 rfl rfl)
theorem dX3_side_56 : decode cX3_side 56 = .ok (.iload_n 2, 1) := dk_28 (dk_at dksX3_side_2 8 rfl rfl)
theorem dX3_side_57 : decode cX3_side 57 = .ok (.iload_n 3, 1) := dk_29 (dk_at dksX3_side_2 9 rfl rfl)
theorem dX3_side_58 : decode cX3_side 58 = .ok (.iload 4, 2) := dk_21 4 (dk_at dksX3_side_2 10 rfl rfl)
theorem dX3_side_60 : decode cX3_side 60 = .ok (.invokestatic 138, 3) := dk_184 0 138 (dk_at dksX3_side_2 12 rfl rfl)
theorem dX3_side_63 : decode cX3_side 63 = .ok (.ireturn, 1) := dk_172 (dk_at dksX3_side_2 15 rfl rfl)
abbrev cX3_isRow : ByteArray := prog_12_method_10_code
def yX3_isRow : MethodName := ⟨RX3, "isRow", "(III)Z"⟩
def dkwX3_isRow_3 : List UInt8 := [2, 160, 0, 17, 28, 2, 160, 0, 8, 29, 2, 160, 0, 7, 4, 167, 0, 4, 3, 172]
abbrev dktX3_isRow_3 : List UInt8 := dkwX3_isRow_3 ++ []
def dkwX3_isRow_2 : List UInt8 := [184, 0, 107, 153, 0, 7, 4, 167, 0, 4, 3, 54, 4, 21, 4, 153, 0, 27, 27, 2, 160, 0, 8, 28]
abbrev dktX3_isRow_2 : List UInt8 := dkwX3_isRow_2 ++ dktX3_isRow_3
def dkwX3_isRow_1 : List UInt8 := [180, 0, 119, 4, 100, 133, 184, 0, 107, 153, 0, 25, 29, 133, 20, 0, 132, 42, 180, 0, 119, 4, 100, 133]
abbrev dktX3_isRow_1 : List UInt8 := dkwX3_isRow_1 ++ dktX3_isRow_2
def dkwX3_isRow_0 : List UInt8 := [27, 133, 20, 0, 132, 42, 180, 0, 119, 4, 100, 133, 184, 0, 107, 153, 0, 43, 28, 133, 20, 0, 132, 42]
abbrev dktX3_isRow_0 : List UInt8 := dkwX3_isRow_0 ++ dktX3_isRow_1
theorem dksX3_isRow_0 : cX3_isRow.data.toList.drop 0 = dktX3_isRow_0 := by decide +kernel
theorem dksX3_isRow_1 : cX3_isRow.data.toList.drop 24 = dktX3_isRow_1 := dk_seg dksX3_isRow_0 24 rfl rfl
theorem dksX3_isRow_2 : cX3_isRow.data.toList.drop 48 = dktX3_isRow_2 := dk_seg dksX3_isRow_1 24 rfl rfl
theorem dksX3_isRow_3 : cX3_isRow.data.toList.drop 72 = dktX3_isRow_3 := dk_seg dksX3_isRow_2 24 rfl rfl
theorem dX3_isRow_0 : decode cX3_isRow 0 = .ok (.iload_n 1, 1) := dk_27 (dk_at dksX3_isRow_0 0 rfl rfl)
theorem dX3_isRow_1 : decode cX3_isRow 1 = .ok (.i2l, 1) := dk_133 (dk_at dksX3_isRow_0 1 rfl rfl)
theorem dX3_isRow_2 : decode cX3_isRow 2 = .ok (.ldc2_w 132, 3) := dk_20 0 132 (dk_at dksX3_isRow_0 2 rfl rfl)
theorem dX3_isRow_5 : decode cX3_isRow 5 = .ok (.aload_n 0, 1) := dk_42 (dk_at dksX3_isRow_0 5 rfl rfl)
theorem dX3_isRow_6 : decode cX3_isRow 6 = .ok (.getfield 119, 3) := dk_180 0 119 (dk_at dksX3_isRow_0 6 rfl rfl)
theorem dX3_isRow_9 : decode cX3_isRow 9 = .ok (.iconst 1, 1) := dk_4 (dk_at dksX3_isRow_0 9 rfl rfl)
theorem dX3_isRow_10 : decode cX3_isRow 10 = .ok (.isub, 1) := dk_100 (dk_at dksX3_isRow_0 10 rfl rfl)
theorem dX3_isRow_11 : decode cX3_isRow 11 = .ok (.i2l, 1) := dk_133 (dk_at dksX3_isRow_0 11 rfl rfl)
theorem dX3_isRow_12 : decode cX3_isRow 12 = .ok (.invokestatic 107, 3) := dk_184 0 107 (dk_at dksX3_isRow_0 12 rfl rfl)
theorem dX3_isRow_15 : decode cX3_isRow 15 = .ok (.ifCond .eq 43, 3) := dk_153 0 43 (dk_at dksX3_isRow_0 15 rfl rfl)
theorem dX3_isRow_18 : decode cX3_isRow 18 = .ok (.iload_n 2, 1) := dk_28 (dk_at dksX3_isRow_0 18 rfl rfl)
theorem dX3_isRow_19 : decode cX3_isRow 19 = .ok (.i2l, 1) := dk_133 (dk_at dksX3_isRow_0 19 rfl rfl)
theorem dX3_isRow_20 : decode cX3_isRow 20 = .ok (.ldc2_w 132, 3) := dk_20 0 132 (dk_at dksX3_isRow_0 20 rfl rfl)
theorem dX3_isRow_23 : decode cX3_isRow 23 = .ok (.aload_n 0, 1) := dk_42 (dk_at dksX3_isRow_0 23 rfl rfl)
theorem dX3_isRow_24 : decode cX3_isRow 24 = .ok (.getfield 119, 3) := dk_180 0 119 (dk_at dksX3_isRow_1 0 rfl rfl)
theorem dX3_isRow_27 : decode cX3_isRow 27 = .ok (.iconst 1, 1) := dk_4 (dk_at dksX3_isRow_1 3 rfl rfl)
theorem dX3_isRow_28 : decode cX3_isRow 28 = .ok (.isub, 1) := dk_100 (dk_at dksX3_isRow_1 4 rfl rfl)
theorem dX3_isRow_29 : decode cX3_isRow 29 = .ok (.i2l, 1) := dk_133 (dk_at dksX3_isRow_1 5 rfl rfl)
theorem dX3_isRow_30 : decode cX3_isRow 30 = .ok (.invokestatic 107, 3) := dk_184 0 107 (dk_at dksX3_isRow_1 6 rfl rfl)
theorem dX3_isRow_33 : decode cX3_isRow 33 = .ok (.ifCond .eq 25, 3) := dk_153 0 25 (dk_at dksX3_isRow_1 9 rfl rfl)
theorem dX3_isRow_36 : decode cX3_isRow 36 = .ok (.iload_n 3, 1) := dk_29 (dk_at dksX3_isRow_1 12 rfl rfl)
theorem dX3_isRow_37 : decode cX3_isRow 37 = .ok (.i2l, 1) := dk_133 (dk_at dksX3_isRow_1 13 rfl rfl)
theorem dX3_isRow_38 : decode cX3_isRow 38 = .ok (.ldc2_w 132, 3) := dk_20 0 132 (dk_at dksX3_isRow_1 14 rfl rfl)
theorem dX3_isRow_41 : decode cX3_isRow 41 = .ok (.aload_n 0, 1) := dk_42 (dk_at dksX3_isRow_1 17 rfl rfl)
theorem dX3_isRow_42 : decode cX3_isRow 42 = .ok (.getfield 119, 3) := dk_180 0 119 (dk_at dksX3_isRow_1 18 rfl rfl)
theorem dX3_isRow_45 : decode cX3_isRow 45 = .ok (.iconst 1, 1) := dk_4 (dk_at dksX3_isRow_1 21 rfl rfl)
theorem dX3_isRow_46 : decode cX3_isRow 46 = .ok (.isub, 1) := dk_100 (dk_at dksX3_isRow_1 22 rfl rfl)
theorem dX3_isRow_47 : decode cX3_isRow 47 = .ok (.i2l, 1) := dk_133 (dk_at dksX3_isRow_1 23 rfl rfl)
theorem dX3_isRow_48 : decode cX3_isRow 48 = .ok (.invokestatic 107, 3) := dk_184 0 107 (dk_at dksX3_isRow_2 0 rfl rfl)
theorem dX3_isRow_51 : decode cX3_isRow 51 = .ok (.ifCond .eq 7, 3) := dk_153 0 7 (dk_at dksX3_isRow_2 3 rfl rfl)
theorem dX3_isRow_54 : decode cX3_isRow 54 = .ok (.iconst 1, 1) := dk_4 (dk_at dksX3_isRow_2 6 rfl rfl)
theorem dX3_isRow_55 : decode cX3_isRow 55 = .ok (.goto 4, 3) := dk_167 0 4 (dk_at dksX3_isRow_2 7 rfl rfl)
theorem dX3_isRow_58 : decode cX3_isRow 58 = .ok (.iconst 0, 1) := dk_3 (dk_at dksX3_isRow_2 10 rfl rfl)
theorem dX3_isRow_59 : decode cX3_isRow 59 = .ok (.istore 4, 2) := dk_54 4 (dk_at dksX3_isRow_2 11 rfl rfl)
theorem dX3_isRow_61 : decode cX3_isRow 61 = .ok (.iload 4, 2) := dk_21 4 (dk_at dksX3_isRow_2 13 rfl rfl)
theorem dX3_isRow_63 : decode cX3_isRow 63 = .ok (.ifCond .eq 27, 3) := dk_153 0 27 (dk_at dksX3_isRow_2 15 rfl rfl)
theorem dX3_isRow_66 : decode cX3_isRow 66 = .ok (.iload_n 1, 1) := dk_27 (dk_at dksX3_isRow_2 18 rfl rfl)
theorem dX3_isRow_67 : decode cX3_isRow 67 = .ok (.iconst (-1), 1) := dk_2 (dk_at dksX3_isRow_2 19 rfl rfl)
theorem dX3_isRow_68 : decode cX3_isRow 68 = .ok (.if_icmp .ne 8, 3) := dk_160 0 8 (dk_at dksX3_isRow_2 20 rfl rfl)
theorem dX3_isRow_71 : decode cX3_isRow 71 = .ok (.iload_n 2, 1) := dk_28 (dk_at dksX3_isRow_2 23 rfl rfl)
theorem dX3_isRow_72 : decode cX3_isRow 72 = .ok (.iconst (-1), 1) := dk_2 (dk_at dksX3_isRow_3 0 rfl rfl)
theorem dX3_isRow_73 : decode cX3_isRow 73 = .ok (.if_icmp .ne 17, 3) := dk_160 0 17 (dk_at dksX3_isRow_3 1 rfl rfl)
theorem dX3_isRow_76 : decode cX3_isRow 76 = .ok (.iload_n 2, 1) := dk_28 (dk_at dksX3_isRow_3 4 rfl rfl)
theorem dX3_isRow_77 : decode cX3_isRow 77 = .ok (.iconst (-1), 1) := dk_2 (dk_at dksX3_isRow_3 5 rfl rfl)
theorem dX3_isRow_78 : decode cX3_isRow 78 = .ok (.if_icmp .ne 8, 3) := dk_160 0 8 (dk_at dksX3_isRow_3 6 rfl rfl)
theorem dX3_isRow_81 : decode cX3_isRow 81 = .ok (.iload_n 3, 1) := dk_29 (dk_at dksX3_isRow_3 9 rfl rfl)
theorem dX3_isRow_82 : decode cX3_isRow 82 = .ok (.iconst (-1), 1) := dk_2 (dk_at dksX3_isRow_3 10 rfl rfl)
theorem dX3_isRow_83 : decode cX3_isRow 83 = .ok (.if_icmp .ne 7, 3) := dk_160 0 7 (dk_at dksX3_isRow_3 11 rfl rfl)
theorem dX3_isRow_86 : decode cX3_isRow 86 = .ok (.iconst 1, 1) := dk_4 (dk_at dksX3_isRow_3 14 rfl rfl)
theorem dX3_isRow_87 : decode cX3_isRow 87 = .ok (.goto 4, 3) := dk_167 0 4 (dk_at dksX3_isRow_3 15 rfl rfl)
theorem dX3_isRow_90 : decode cX3_isRow 90 = .ok (.iconst 0, 1) := dk_3 (dk_at dksX3_isRow_3 18 rfl rfl)
theorem dX3_isRow_91 : decode cX3_isRow 91 = .ok (.ireturn, 1) := dk_172 (dk_at dksX3_isRow_3 19 rfl rfl)
abbrev cX3_manyOf : ByteArray := prog_12_method_11_code
def yX3_manyOf : MethodName := ⟨RX3, "manyOf", "(III)I"⟩
def dkwX3_manyOf_1 : List UInt8 := [160, 0, 7, 3, 167, 0, 4, 4, 96, 172]
abbrev dktX3_manyOf_1 : List UInt8 := dkwX3_manyOf_1 ++ []
def dkwX3_manyOf_0 : List UInt8 := [26, 2, 160, 0, 7, 3, 167, 0, 4, 4, 27, 2, 160, 0, 7, 3, 167, 0, 4, 4, 96, 28, 2]
abbrev dktX3_manyOf_0 : List UInt8 := dkwX3_manyOf_0 ++ dktX3_manyOf_1
theorem dksX3_manyOf_0 : cX3_manyOf.data.toList.drop 0 = dktX3_manyOf_0 := by decide +kernel
theorem dksX3_manyOf_1 : cX3_manyOf.data.toList.drop 23 = dktX3_manyOf_1 := dk_seg dksX3_manyOf_0 23 rfl rfl
theorem dX3_manyOf_0 : decode cX3_manyOf 0 = .ok (.iload_n 0, 1) := dk_26 (dk_at dksX3_manyOf_0 0 rfl rfl)
theorem dX3_manyOf_1 : decode cX3_manyOf 1 = .ok (.iconst (-1), 1) := dk_2 (dk_at dksX3_manyOf_0 1 rfl rfl)
theorem dX3_manyOf_2 : decode cX3_manyOf 2 = .ok (.if_icmp .ne 7, 3) := dk_160 0 7 (dk_at dksX3_manyOf_0 2 rfl rfl)
theorem dX3_manyOf_5 : decode cX3_manyOf 5 = .ok (.iconst 0, 1) := dk_3 (dk_at dksX3_manyOf_0 5 rfl rfl)
theorem dX3_manyOf_6 : decode cX3_manyOf 6 = .ok (.goto 4, 3) := dk_167 0 4 (dk_at dksX3_manyOf_0 6 rfl rfl)
theorem dX3_manyOf_9 : decode cX3_manyOf 9 = .ok (.iconst 1, 1) := dk_4 (dk_at dksX3_manyOf_0 9 rfl rfl)
theorem dX3_manyOf_10 : decode cX3_manyOf 10 = .ok (.iload_n 1, 1) := dk_27 (dk_at dksX3_manyOf_0 10 rfl rfl)
theorem dX3_manyOf_11 : decode cX3_manyOf 11 = .ok (.iconst (-1), 1) := dk_2 (dk_at dksX3_manyOf_0 11 rfl rfl)
theorem dX3_manyOf_12 : decode cX3_manyOf 12 = .ok (.if_icmp .ne 7, 3) := dk_160 0 7 (dk_at dksX3_manyOf_0 12 rfl rfl)
theorem dX3_manyOf_15 : decode cX3_manyOf 15 = .ok (.iconst 0, 1) := dk_3 (dk_at dksX3_manyOf_0 15 rfl rfl)
theorem dX3_manyOf_16 : decode cX3_manyOf 16 = .ok (.goto 4, 3) := dk_167 0 4 (dk_at dksX3_manyOf_0 16 rfl rfl)
theorem dX3_manyOf_19 : decode cX3_manyOf 19 = .ok (.iconst 1, 1) := dk_4 (dk_at dksX3_manyOf_0 19 rfl rfl)
theorem dX3_manyOf_20 : decode cX3_manyOf 20 = .ok (.iadd, 1) := dk_96 (dk_at dksX3_manyOf_0 20 rfl rfl)
theorem dX3_manyOf_21 : decode cX3_manyOf 21 = .ok (.iload_n 2, 1) := dk_28 (dk_at dksX3_manyOf_0 21 rfl rfl)
theorem dX3_manyOf_22 : decode cX3_manyOf 22 = .ok (.iconst (-1), 1) := dk_2 (dk_at dksX3_manyOf_0 22 rfl rfl)
theorem dX3_manyOf_23 : decode cX3_manyOf 23 = .ok (.if_icmp .ne 7, 3) := dk_160 0 7 (dk_at dksX3_manyOf_1 0 rfl rfl)
theorem dX3_manyOf_26 : decode cX3_manyOf 26 = .ok (.iconst 0, 1) := dk_3 (dk_at dksX3_manyOf_1 3 rfl rfl)
theorem dX3_manyOf_27 : decode cX3_manyOf 27 = .ok (.goto 4, 3) := dk_167 0 4 (dk_at dksX3_manyOf_1 4 rfl rfl)
theorem dX3_manyOf_30 : decode cX3_manyOf 30 = .ok (.iconst 1, 1) := dk_4 (dk_at dksX3_manyOf_1 7 rfl rfl)
theorem dX3_manyOf_31 : decode cX3_manyOf 31 = .ok (.iadd, 1) := dk_96 (dk_at dksX3_manyOf_1 8 rfl rfl)
theorem dX3_manyOf_32 : decode cX3_manyOf 32 = .ok (.ireturn, 1) := dk_172 (dk_at dksX3_manyOf_1 9 rfl rfl)
abbrev cX3_at : ByteArray := prog_12_method_13_code
def yX3_at : MethodName := ⟨RX3, "at", "(II)I"⟩
def dkwX3_at_1 : List UInt8 := [180, 0, 13, 6, 27, 104, 28, 96, 46, 167, 0, 5, 16, 254, 172]
abbrev dktX3_at_1 : List UInt8 := dkwX3_at_1 ++ []
def dkwX3_at_0 : List UInt8 := [27, 133, 9, 10, 184, 0, 107, 153, 0, 28, 28, 133, 9, 20, 0, 105, 184, 0, 107, 153, 0, 16, 42]
abbrev dktX3_at_0 : List UInt8 := dkwX3_at_0 ++ dktX3_at_1
theorem dksX3_at_0 : cX3_at.data.toList.drop 0 = dktX3_at_0 := by decide +kernel
theorem dksX3_at_1 : cX3_at.data.toList.drop 23 = dktX3_at_1 := dk_seg dksX3_at_0 23 rfl rfl
theorem dX3_at_0 : decode cX3_at 0 = .ok (.iload_n 1, 1) := dk_27 (dk_at dksX3_at_0 0 rfl rfl)
theorem dX3_at_1 : decode cX3_at 1 = .ok (.i2l, 1) := dk_133 (dk_at dksX3_at_0 1 rfl rfl)
theorem dX3_at_2 : decode cX3_at 2 = .ok (.lconst 0, 1) := dk_9 (dk_at dksX3_at_0 2 rfl rfl)
theorem dX3_at_3 : decode cX3_at 3 = .ok (.lconst 1, 1) := dk_10 (dk_at dksX3_at_0 3 rfl rfl)
theorem dX3_at_4 : decode cX3_at 4 = .ok (.invokestatic 107, 3) := dk_184 0 107 (dk_at dksX3_at_0 4 rfl rfl)
theorem dX3_at_7 : decode cX3_at 7 = .ok (.ifCond .eq 28, 3) := dk_153 0 28 (dk_at dksX3_at_0 7 rfl rfl)
theorem dX3_at_10 : decode cX3_at 10 = .ok (.iload_n 2, 1) := dk_28 (dk_at dksX3_at_0 10 rfl rfl)
theorem dX3_at_11 : decode cX3_at 11 = .ok (.i2l, 1) := dk_133 (dk_at dksX3_at_0 11 rfl rfl)
theorem dX3_at_12 : decode cX3_at 12 = .ok (.lconst 0, 1) := dk_9 (dk_at dksX3_at_0 12 rfl rfl)
theorem dX3_at_13 : decode cX3_at 13 = .ok (.ldc2_w 105, 3) := dk_20 0 105 (dk_at dksX3_at_0 13 rfl rfl)
theorem dX3_at_16 : decode cX3_at 16 = .ok (.invokestatic 107, 3) := dk_184 0 107 (dk_at dksX3_at_0 16 rfl rfl)
theorem dX3_at_19 : decode cX3_at 19 = .ok (.ifCond .eq 16, 3) := dk_153 0 16 (dk_at dksX3_at_0 19 rfl rfl)
theorem dX3_at_22 : decode cX3_at 22 = .ok (.aload_n 0, 1) := dk_42 (dk_at dksX3_at_0 22 rfl rfl)
theorem dX3_at_23 : decode cX3_at 23 = .ok (.getfield 13, 3) := dk_180 0 13 (dk_at dksX3_at_1 0 rfl rfl)
theorem dX3_at_26 : decode cX3_at 26 = .ok (.iconst 3, 1) := dk_6 (dk_at dksX3_at_1 3 rfl rfl)
theorem dX3_at_27 : decode cX3_at 27 = .ok (.iload_n 1, 1) := dk_27 (dk_at dksX3_at_1 4 rfl rfl)
theorem dX3_at_28 : decode cX3_at 28 = .ok (.imul, 1) := dk_104 (dk_at dksX3_at_1 5 rfl rfl)
theorem dX3_at_29 : decode cX3_at 29 = .ok (.iload_n 2, 1) := dk_28 (dk_at dksX3_at_1 6 rfl rfl)
theorem dX3_at_30 : decode cX3_at 30 = .ok (.iadd, 1) := dk_96 (dk_at dksX3_at_1 7 rfl rfl)
theorem dX3_at_31 : decode cX3_at 31 = .ok (.iaload, 1) := dk_46 (dk_at dksX3_at_1 8 rfl rfl)
theorem dX3_at_32 : decode cX3_at 32 = .ok (.goto 5, 3) := dk_167 0 5 (dk_at dksX3_at_1 9 rfl rfl)
theorem dX3_at_35 : decode cX3_at 35 = .ok (.bipush (-2), 2) := dk_16 254 (dk_at dksX3_at_1 12 rfl rfl)
theorem dX3_at_37 : decode cX3_at 37 = .ok (.ireturn, 1) := dk_172 (dk_at dksX3_at_1 14 rfl rfl)
abbrev cX3_laws : ByteArray := prog_12_method_14_code
def yX3_laws : MethodName := ⟨RX3, "laws", "(III)I"⟩
def dkwX3_laws_2 : List UInt8 := [29, 181, 0, 20, 4, 172]
abbrev dktX3_laws_2 : List UInt8 := dkwX3_laws_2 ++ []
def dkwX3_laws_1 : List UInt8 := [20, 0, 132, 10, 184, 0, 107, 154, 0, 6, 16, 254, 172, 42, 27, 181, 0, 16, 42, 28, 181, 0, 142, 42]
abbrev dktX3_laws_1 : List UInt8 := dkwX3_laws_1 ++ dktX3_laws_2
def dkwX3_laws_0 : List UInt8 := [27, 133, 10, 20, 0, 113, 184, 0, 107, 153, 0, 25, 28, 133, 9, 10, 184, 0, 107, 153, 0, 15, 29, 133]
abbrev dktX3_laws_0 : List UInt8 := dkwX3_laws_0 ++ dktX3_laws_1
theorem dksX3_laws_0 : cX3_laws.data.toList.drop 0 = dktX3_laws_0 := by decide +kernel
theorem dksX3_laws_1 : cX3_laws.data.toList.drop 24 = dktX3_laws_1 := dk_seg dksX3_laws_0 24 rfl rfl
theorem dksX3_laws_2 : cX3_laws.data.toList.drop 48 = dktX3_laws_2 := dk_seg dksX3_laws_1 24 rfl rfl
theorem dX3_laws_0 : decode cX3_laws 0 = .ok (.iload_n 1, 1) := dk_27 (dk_at dksX3_laws_0 0 rfl rfl)
theorem dX3_laws_1 : decode cX3_laws 1 = .ok (.i2l, 1) := dk_133 (dk_at dksX3_laws_0 1 rfl rfl)
theorem dX3_laws_2 : decode cX3_laws 2 = .ok (.lconst 1, 1) := dk_10 (dk_at dksX3_laws_0 2 rfl rfl)
theorem dX3_laws_3 : decode cX3_laws 3 = .ok (.ldc2_w 113, 3) := dk_20 0 113 (dk_at dksX3_laws_0 3 rfl rfl)
theorem dX3_laws_6 : decode cX3_laws 6 = .ok (.invokestatic 107, 3) := dk_184 0 107 (dk_at dksX3_laws_0 6 rfl rfl)
theorem dX3_laws_9 : decode cX3_laws 9 = .ok (.ifCond .eq 25, 3) := dk_153 0 25 (dk_at dksX3_laws_0 9 rfl rfl)
theorem dX3_laws_12 : decode cX3_laws 12 = .ok (.iload_n 2, 1) := dk_28 (dk_at dksX3_laws_0 12 rfl rfl)
theorem dX3_laws_13 : decode cX3_laws 13 = .ok (.i2l, 1) := dk_133 (dk_at dksX3_laws_0 13 rfl rfl)
theorem dX3_laws_14 : decode cX3_laws 14 = .ok (.lconst 0, 1) := dk_9 (dk_at dksX3_laws_0 14 rfl rfl)
theorem dX3_laws_15 : decode cX3_laws 15 = .ok (.lconst 1, 1) := dk_10 (dk_at dksX3_laws_0 15 rfl rfl)
theorem dX3_laws_16 : decode cX3_laws 16 = .ok (.invokestatic 107, 3) := dk_184 0 107 (dk_at dksX3_laws_0 16 rfl rfl)
theorem dX3_laws_19 : decode cX3_laws 19 = .ok (.ifCond .eq 15, 3) := dk_153 0 15 (dk_at dksX3_laws_0 19 rfl rfl)
theorem dX3_laws_22 : decode cX3_laws 22 = .ok (.iload_n 3, 1) := dk_29 (dk_at dksX3_laws_0 22 rfl rfl)
theorem dX3_laws_23 : decode cX3_laws 23 = .ok (.i2l, 1) := dk_133 (dk_at dksX3_laws_0 23 rfl rfl)
theorem dX3_laws_24 : decode cX3_laws 24 = .ok (.ldc2_w 132, 3) := dk_20 0 132 (dk_at dksX3_laws_1 0 rfl rfl)
theorem dX3_laws_27 : decode cX3_laws 27 = .ok (.lconst 1, 1) := dk_10 (dk_at dksX3_laws_1 3 rfl rfl)
theorem dX3_laws_28 : decode cX3_laws 28 = .ok (.invokestatic 107, 3) := dk_184 0 107 (dk_at dksX3_laws_1 4 rfl rfl)
theorem dX3_laws_31 : decode cX3_laws 31 = .ok (.ifCond .ne 6, 3) := dk_154 0 6 (dk_at dksX3_laws_1 7 rfl rfl)
theorem dX3_laws_34 : decode cX3_laws 34 = .ok (.bipush (-2), 2) := dk_16 254 (dk_at dksX3_laws_1 10 rfl rfl)
theorem dX3_laws_36 : decode cX3_laws 36 = .ok (.ireturn, 1) := dk_172 (dk_at dksX3_laws_1 12 rfl rfl)
theorem dX3_laws_37 : decode cX3_laws 37 = .ok (.aload_n 0, 1) := dk_42 (dk_at dksX3_laws_1 13 rfl rfl)
theorem dX3_laws_38 : decode cX3_laws 38 = .ok (.iload_n 1, 1) := dk_27 (dk_at dksX3_laws_1 14 rfl rfl)
theorem dX3_laws_39 : decode cX3_laws 39 = .ok (.putfield 16, 3) := dk_181 0 16 (dk_at dksX3_laws_1 15 rfl rfl)
theorem dX3_laws_42 : decode cX3_laws 42 = .ok (.aload_n 0, 1) := dk_42 (dk_at dksX3_laws_1 18 rfl rfl)
theorem dX3_laws_43 : decode cX3_laws 43 = .ok (.iload_n 2, 1) := dk_28 (dk_at dksX3_laws_1 19 rfl rfl)
theorem dX3_laws_44 : decode cX3_laws 44 = .ok (.putfield 142, 3) := dk_181 0 142 (dk_at dksX3_laws_1 20 rfl rfl)
theorem dX3_laws_47 : decode cX3_laws 47 = .ok (.aload_n 0, 1) := dk_42 (dk_at dksX3_laws_1 23 rfl rfl)
theorem dX3_laws_48 : decode cX3_laws 48 = .ok (.iload_n 3, 1) := dk_29 (dk_at dksX3_laws_2 0 rfl rfl)
theorem dX3_laws_49 : decode cX3_laws 49 = .ok (.putfield 20, 3) := dk_181 0 20 (dk_at dksX3_laws_2 1 rfl rfl)
theorem dX3_laws_52 : decode cX3_laws 52 = .ok (.iconst 1, 1) := dk_4 (dk_at dksX3_laws_2 4 rfl rfl)
theorem dX3_laws_53 : decode cX3_laws 53 = .ok (.ireturn, 1) := dk_172 (dk_at dksX3_laws_2 5 rfl rfl)
abbrev cX3_slots : ByteArray := prog_12_method_32_code
def yX3_slots : MethodName := ⟨RX3, "slots", "()I"⟩
def dkwX3_slots_0 : List UInt8 := [42, 3, 182, 0, 213, 42, 182, 0, 184, 42, 182, 0, 190, 172]
abbrev dktX3_slots_0 : List UInt8 := dkwX3_slots_0 ++ []
theorem dksX3_slots_0 : cX3_slots.data.toList.drop 0 = dktX3_slots_0 := by decide +kernel
theorem dX3_slots_0 : decode cX3_slots 0 = .ok (.aload_n 0, 1) := dk_42 (dk_at dksX3_slots_0 0 rfl rfl)
theorem dX3_slots_1 : decode cX3_slots 1 = .ok (.iconst 0, 1) := dk_3 (dk_at dksX3_slots_0 1 rfl rfl)
theorem dX3_slots_2 : decode cX3_slots 2 = .ok (.invokevirtual 213, 3) := dk_182 0 213 (dk_at dksX3_slots_0 2 rfl rfl)
theorem dX3_slots_5 : decode cX3_slots 5 = .ok (.aload_n 0, 1) := dk_42 (dk_at dksX3_slots_0 5 rfl rfl)
theorem dX3_slots_6 : decode cX3_slots 6 = .ok (.invokevirtual 184, 3) := dk_182 0 184 (dk_at dksX3_slots_0 6 rfl rfl)
theorem dX3_slots_9 : decode cX3_slots 9 = .ok (.aload_n 0, 1) := dk_42 (dk_at dksX3_slots_0 9 rfl rfl)
theorem dX3_slots_10 : decode cX3_slots 10 = .ok (.invokevirtual 190, 3) := dk_182 0 190 (dk_at dksX3_slots_0 10 rfl rfl)
theorem dX3_slots_13 : decode cX3_slots 13 = .ok (.ireturn, 1) := dk_172 (dk_at dksX3_slots_0 13 rfl rfl)
abbrev cX3_sets : ByteArray := prog_12_method_15_code
def yX3_sets : MethodName := ⟨RX3, "sets", "(I)V"⟩
def dkwX3_sets_2 : List UInt8 := [181, 0, 145, 177]
abbrev dktX3_sets_2 : List UInt8 := dkwX3_sets_2 ++ []
def dkwX3_sets_1 : List UInt8 := [28, 28, 6, 162, 0, 7, 27, 167, 0, 4, 3, 79, 132, 2, 1, 167, 255, 219, 42, 42, 180, 0, 20]
abbrev dktX3_sets_1 : List UInt8 := dkwX3_sets_1 ++ dktX3_sets_2
def dkwX3_sets_0 : List UInt8 := [3, 61, 28, 16, 6, 162, 0, 37, 42, 180, 0, 23, 28, 42, 180, 0, 13, 28, 46, 79, 42, 180, 0, 26]
abbrev dktX3_sets_0 : List UInt8 := dkwX3_sets_0 ++ dktX3_sets_1
theorem dksX3_sets_0 : cX3_sets.data.toList.drop 0 = dktX3_sets_0 := by decide +kernel
theorem dksX3_sets_1 : cX3_sets.data.toList.drop 24 = dktX3_sets_1 := dk_seg dksX3_sets_0 24 rfl rfl
theorem dksX3_sets_2 : cX3_sets.data.toList.drop 47 = dktX3_sets_2 := dk_seg dksX3_sets_1 23 rfl rfl
theorem dX3_sets_0 : decode cX3_sets 0 = .ok (.iconst 0, 1) := dk_3 (dk_at dksX3_sets_0 0 rfl rfl)
theorem dX3_sets_1 : decode cX3_sets 1 = .ok (.istore_n 2, 1) := dk_61 (dk_at dksX3_sets_0 1 rfl rfl)
theorem dX3_sets_2 : decode cX3_sets 2 = .ok (.iload_n 2, 1) := dk_28 (dk_at dksX3_sets_0 2 rfl rfl)
theorem dX3_sets_3 : decode cX3_sets 3 = .ok (.bipush 6, 2) := dk_16 6 (dk_at dksX3_sets_0 3 rfl rfl)
theorem dX3_sets_5 : decode cX3_sets 5 = .ok (.if_icmp .ge 37, 3) := dk_162 0 37 (dk_at dksX3_sets_0 5 rfl rfl)
theorem dX3_sets_8 : decode cX3_sets 8 = .ok (.aload_n 0, 1) := dk_42 (dk_at dksX3_sets_0 8 rfl rfl)
theorem dX3_sets_9 : decode cX3_sets 9 = .ok (.getfield 23, 3) := dk_180 0 23 (dk_at dksX3_sets_0 9 rfl rfl)
theorem dX3_sets_12 : decode cX3_sets 12 = .ok (.iload_n 2, 1) := dk_28 (dk_at dksX3_sets_0 12 rfl rfl)
theorem dX3_sets_13 : decode cX3_sets 13 = .ok (.aload_n 0, 1) := dk_42 (dk_at dksX3_sets_0 13 rfl rfl)
theorem dX3_sets_14 : decode cX3_sets 14 = .ok (.getfield 13, 3) := dk_180 0 13 (dk_at dksX3_sets_0 14 rfl rfl)
theorem dX3_sets_17 : decode cX3_sets 17 = .ok (.iload_n 2, 1) := dk_28 (dk_at dksX3_sets_0 17 rfl rfl)
theorem dX3_sets_18 : decode cX3_sets 18 = .ok (.iaload, 1) := dk_46 (dk_at dksX3_sets_0 18 rfl rfl)
theorem dX3_sets_19 : decode cX3_sets 19 = .ok (.iastore, 1) := dk_79 (dk_at dksX3_sets_0 19 rfl rfl)
theorem dX3_sets_20 : decode cX3_sets 20 = .ok (.aload_n 0, 1) := dk_42 (dk_at dksX3_sets_0 20 rfl rfl)
theorem dX3_sets_21 : decode cX3_sets 21 = .ok (.getfield 26, 3) := dk_180 0 26 (dk_at dksX3_sets_0 21 rfl rfl)
theorem dX3_sets_24 : decode cX3_sets 24 = .ok (.iload_n 2, 1) := dk_28 (dk_at dksX3_sets_1 0 rfl rfl)
theorem dX3_sets_25 : decode cX3_sets 25 = .ok (.iload_n 2, 1) := dk_28 (dk_at dksX3_sets_1 1 rfl rfl)
theorem dX3_sets_26 : decode cX3_sets 26 = .ok (.iconst 3, 1) := dk_6 (dk_at dksX3_sets_1 2 rfl rfl)
theorem dX3_sets_27 : decode cX3_sets 27 = .ok (.if_icmp .ge 7, 3) := dk_162 0 7 (dk_at dksX3_sets_1 3 rfl rfl)
theorem dX3_sets_30 : decode cX3_sets 30 = .ok (.iload_n 1, 1) := dk_27 (dk_at dksX3_sets_1 6 rfl rfl)
theorem dX3_sets_31 : decode cX3_sets 31 = .ok (.goto 4, 3) := dk_167 0 4 (dk_at dksX3_sets_1 7 rfl rfl)
theorem dX3_sets_34 : decode cX3_sets 34 = .ok (.iconst 0, 1) := dk_3 (dk_at dksX3_sets_1 10 rfl rfl)
theorem dX3_sets_35 : decode cX3_sets 35 = .ok (.iastore, 1) := dk_79 (dk_at dksX3_sets_1 11 rfl rfl)
theorem dX3_sets_36 : decode cX3_sets 36 = .ok (.iinc 2 1, 3) := dk_132 2 1 (dk_at dksX3_sets_1 12 rfl rfl)
theorem dX3_sets_39 : decode cX3_sets 39 = .ok (.goto (-37), 3) := dk_167 255 219 (dk_at dksX3_sets_1 15 rfl rfl)
theorem dX3_sets_42 : decode cX3_sets 42 = .ok (.aload_n 0, 1) := dk_42 (dk_at dksX3_sets_1 18 rfl rfl)
theorem dX3_sets_43 : decode cX3_sets 43 = .ok (.aload_n 0, 1) := dk_42 (dk_at dksX3_sets_1 19 rfl rfl)
theorem dX3_sets_44 : decode cX3_sets 44 = .ok (.getfield 20, 3) := dk_180 0 20 (dk_at dksX3_sets_1 20 rfl rfl)
theorem dX3_sets_47 : decode cX3_sets 47 = .ok (.putfield 145, 3) := dk_181 0 145 (dk_at dksX3_sets_2 0 rfl rfl)
theorem dX3_sets_50 : decode cX3_sets 50 = .ok (.return_, 1) := dk_177 (dk_at dksX3_sets_2 3 rfl rfl)
abbrev cX3_begins : ByteArray := prog_12_method_16_code
def yX3_begins : MethodName := ⟨RX3, "begins", "()V"⟩
def dkwX3_begins_7 : List UInt8 := [27, 42, 180, 0, 23, 27, 46, 2, 159, 0, 7, 4, 167, 0, 4, 3, 84, 132, 1, 1, 167, 255, 190, 177]
abbrev dktX3_begins_7 : List UInt8 := dkwX3_begins_7 ++ []
def dkwX3_begins_6 : List UInt8 := [167, 0, 19, 42, 180, 0, 7, 16, 6, 42, 180, 0, 23, 27, 46, 104, 4, 96, 46, 79, 42, 180, 0, 35]
abbrev dktX3_begins_6 : List UInt8 := dkwX3_begins_6 ++ dktX3_begins_7
def dkwX3_begins_5 : List UInt8 := [27, 16, 6, 162, 0, 66, 42, 180, 0, 32, 27, 42, 180, 0, 23, 27, 46, 2, 160, 0, 7, 3]
abbrev dktX3_begins_5 : List UInt8 := dkwX3_begins_5 ++ dktX3_begins_6
def dkwX3_begins_4 : List UInt8 := [180, 0, 29, 28, 27, 79, 42, 89, 180, 0, 148, 4, 96, 181, 0, 148, 132, 1, 1, 167, 255, 149, 3, 60]
abbrev dktX3_begins_4 : List UInt8 := dkwX3_begins_4 ++ dktX3_begins_5
def dkwX3_begins_3 : List UInt8 := [162, 0, 23, 42, 180, 0, 29, 28, 42, 180, 0, 29, 28, 4, 100, 46, 79, 132, 2, 255, 167, 255, 193, 42]
abbrev dktX3_begins_3 : List UInt8 := dkwX3_begins_3 ++ dktX3_begins_4
def dkwX3_begins_2 : List UInt8 := [100, 46, 46, 104, 8, 96, 46, 42, 180, 0, 7, 16, 6, 42, 180, 0, 23, 27, 46, 104, 8, 96, 46]
abbrev dktX3_begins_2 : List UInt8 := dkwX3_begins_2 ++ dktX3_begins_3
def dkwX3_begins_1 : List UInt8 := [180, 0, 148, 61, 28, 158, 0, 65, 42, 180, 0, 7, 16, 6, 42, 180, 0, 23, 42, 180, 0, 29, 28, 4]
abbrev dktX3_begins_1 : List UInt8 := dkwX3_begins_1 ++ dktX3_begins_2
def dkwX3_begins_0 : List UInt8 := [42, 3, 181, 0, 148, 3, 60, 27, 16, 6, 162, 0, 107, 42, 180, 0, 23, 27, 46, 2, 159, 0, 91, 42]
abbrev dktX3_begins_0 : List UInt8 := dkwX3_begins_0 ++ dktX3_begins_1
theorem dksX3_begins_0 : cX3_begins.data.toList.drop 0 = dktX3_begins_0 := by decide +kernel
theorem dksX3_begins_1 : cX3_begins.data.toList.drop 24 = dktX3_begins_1 := dk_seg dksX3_begins_0 24 rfl rfl
theorem dksX3_begins_2 : cX3_begins.data.toList.drop 48 = dktX3_begins_2 := dk_seg dksX3_begins_1 24 rfl rfl
theorem dksX3_begins_3 : cX3_begins.data.toList.drop 71 = dktX3_begins_3 := dk_seg dksX3_begins_2 23 rfl rfl
theorem dksX3_begins_4 : cX3_begins.data.toList.drop 95 = dktX3_begins_4 := dk_seg dksX3_begins_3 24 rfl rfl
theorem dksX3_begins_5 : cX3_begins.data.toList.drop 119 = dktX3_begins_5 := dk_seg dksX3_begins_4 24 rfl rfl
theorem dksX3_begins_6 : cX3_begins.data.toList.drop 141 = dktX3_begins_6 := dk_seg dksX3_begins_5 22 rfl rfl
theorem dksX3_begins_7 : cX3_begins.data.toList.drop 165 = dktX3_begins_7 := dk_seg dksX3_begins_6 24 rfl rfl
theorem dX3_begins_0 : decode cX3_begins 0 = .ok (.aload_n 0, 1) := dk_42 (dk_at dksX3_begins_0 0 rfl rfl)
theorem dX3_begins_1 : decode cX3_begins 1 = .ok (.iconst 0, 1) := dk_3 (dk_at dksX3_begins_0 1 rfl rfl)
theorem dX3_begins_2 : decode cX3_begins 2 = .ok (.putfield 148, 3) := dk_181 0 148 (dk_at dksX3_begins_0 2 rfl rfl)
theorem dX3_begins_5 : decode cX3_begins 5 = .ok (.iconst 0, 1) := dk_3 (dk_at dksX3_begins_0 5 rfl rfl)
theorem dX3_begins_6 : decode cX3_begins 6 = .ok (.istore_n 1, 1) := dk_60 (dk_at dksX3_begins_0 6 rfl rfl)
theorem dX3_begins_7 : decode cX3_begins 7 = .ok (.iload_n 1, 1) := dk_27 (dk_at dksX3_begins_0 7 rfl rfl)
theorem dX3_begins_8 : decode cX3_begins 8 = .ok (.bipush 6, 2) := dk_16 6 (dk_at dksX3_begins_0 8 rfl rfl)
theorem dX3_begins_10 : decode cX3_begins 10 = .ok (.if_icmp .ge 107, 3) := dk_162 0 107 (dk_at dksX3_begins_0 10 rfl rfl)
theorem dX3_begins_13 : decode cX3_begins 13 = .ok (.aload_n 0, 1) := dk_42 (dk_at dksX3_begins_0 13 rfl rfl)
theorem dX3_begins_14 : decode cX3_begins 14 = .ok (.getfield 23, 3) := dk_180 0 23 (dk_at dksX3_begins_0 14 rfl rfl)
theorem dX3_begins_17 : decode cX3_begins 17 = .ok (.iload_n 1, 1) := dk_27 (dk_at dksX3_begins_0 17 rfl rfl)
theorem dX3_begins_18 : decode cX3_begins 18 = .ok (.iaload, 1) := dk_46 (dk_at dksX3_begins_0 18 rfl rfl)
theorem dX3_begins_19 : decode cX3_begins 19 = .ok (.iconst (-1), 1) := dk_2 (dk_at dksX3_begins_0 19 rfl rfl)
theorem dX3_begins_20 : decode cX3_begins 20 = .ok (.if_icmp .eq 91, 3) := dk_159 0 91 (dk_at dksX3_begins_0 20 rfl rfl)
theorem dX3_begins_23 : decode cX3_begins 23 = .ok (.aload_n 0, 1) := dk_42 (dk_at dksX3_begins_0 23 rfl rfl)
theorem dX3_begins_24 : decode cX3_begins 24 = .ok (.getfield 148, 3) := dk_180 0 148 (dk_at dksX3_begins_1 0 rfl rfl)
theorem dX3_begins_27 : decode cX3_begins 27 = .ok (.istore_n 2, 1) := dk_61 (dk_at dksX3_begins_1 3 rfl rfl)
theorem dX3_begins_28 : decode cX3_begins 28 = .ok (.iload_n 2, 1) := dk_28 (dk_at dksX3_begins_1 4 rfl rfl)
theorem dX3_begins_29 : decode cX3_begins 29 = .ok (.ifCond .le 65, 3) := dk_158 0 65 (dk_at dksX3_begins_1 5 rfl rfl)
theorem dX3_begins_32 : decode cX3_begins 32 = .ok (.aload_n 0, 1) := dk_42 (dk_at dksX3_begins_1 8 rfl rfl)
theorem dX3_begins_33 : decode cX3_begins 33 = .ok (.getfield 7, 3) := dk_180 0 7 (dk_at dksX3_begins_1 9 rfl rfl)
theorem dX3_begins_36 : decode cX3_begins 36 = .ok (.bipush 6, 2) := dk_16 6 (dk_at dksX3_begins_1 12 rfl rfl)
theorem dX3_begins_38 : decode cX3_begins 38 = .ok (.aload_n 0, 1) := dk_42 (dk_at dksX3_begins_1 14 rfl rfl)
theorem dX3_begins_39 : decode cX3_begins 39 = .ok (.getfield 23, 3) := dk_180 0 23 (dk_at dksX3_begins_1 15 rfl rfl)
theorem dX3_begins_42 : decode cX3_begins 42 = .ok (.aload_n 0, 1) := dk_42 (dk_at dksX3_begins_1 18 rfl rfl)
theorem dX3_begins_43 : decode cX3_begins 43 = .ok (.getfield 29, 3) := dk_180 0 29 (dk_at dksX3_begins_1 19 rfl rfl)
theorem dX3_begins_46 : decode cX3_begins 46 = .ok (.iload_n 2, 1) := dk_28 (dk_at dksX3_begins_1 22 rfl rfl)
theorem dX3_begins_47 : decode cX3_begins 47 = .ok (.iconst 1, 1) := dk_4 (dk_at dksX3_begins_1 23 rfl rfl)
theorem dX3_begins_48 : decode cX3_begins 48 = .ok (.isub, 1) := dk_100 (dk_at dksX3_begins_2 0 rfl rfl)
theorem dX3_begins_49 : decode cX3_begins 49 = .ok (.iaload, 1) := dk_46 (dk_at dksX3_begins_2 1 rfl rfl)
theorem dX3_begins_50 : decode cX3_begins 50 = .ok (.iaload, 1) := dk_46 (dk_at dksX3_begins_2 2 rfl rfl)
theorem dX3_begins_51 : decode cX3_begins 51 = .ok (.imul, 1) := dk_104 (dk_at dksX3_begins_2 3 rfl rfl)
theorem dX3_begins_52 : decode cX3_begins 52 = .ok (.iconst 5, 1) := dk_8 (dk_at dksX3_begins_2 4 rfl rfl)
theorem dX3_begins_53 : decode cX3_begins 53 = .ok (.iadd, 1) := dk_96 (dk_at dksX3_begins_2 5 rfl rfl)
theorem dX3_begins_54 : decode cX3_begins 54 = .ok (.iaload, 1) := dk_46 (dk_at dksX3_begins_2 6 rfl rfl)
theorem dX3_begins_55 : decode cX3_begins 55 = .ok (.aload_n 0, 1) := dk_42 (dk_at dksX3_begins_2 7 rfl rfl)
theorem dX3_begins_56 : decode cX3_begins 56 = .ok (.getfield 7, 3) := dk_180 0 7 (dk_at dksX3_begins_2 8 rfl rfl)
theorem dX3_begins_59 : decode cX3_begins 59 = .ok (.bipush 6, 2) := dk_16 6 (dk_at dksX3_begins_2 11 rfl rfl)
theorem dX3_begins_61 : decode cX3_begins 61 = .ok (.aload_n 0, 1) := dk_42 (dk_at dksX3_begins_2 13 rfl rfl)
theorem dX3_begins_62 : decode cX3_begins 62 = .ok (.getfield 23, 3) := dk_180 0 23 (dk_at dksX3_begins_2 14 rfl rfl)
theorem dX3_begins_65 : decode cX3_begins 65 = .ok (.iload_n 1, 1) := dk_27 (dk_at dksX3_begins_2 17 rfl rfl)
theorem dX3_begins_66 : decode cX3_begins 66 = .ok (.iaload, 1) := dk_46 (dk_at dksX3_begins_2 18 rfl rfl)
theorem dX3_begins_67 : decode cX3_begins 67 = .ok (.imul, 1) := dk_104 (dk_at dksX3_begins_2 19 rfl rfl)
theorem dX3_begins_68 : decode cX3_begins 68 = .ok (.iconst 5, 1) := dk_8 (dk_at dksX3_begins_2 20 rfl rfl)
theorem dX3_begins_69 : decode cX3_begins 69 = .ok (.iadd, 1) := dk_96 (dk_at dksX3_begins_2 21 rfl rfl)
theorem dX3_begins_70 : decode cX3_begins 70 = .ok (.iaload, 1) := dk_46 (dk_at dksX3_begins_2 22 rfl rfl)
theorem dX3_begins_71 : decode cX3_begins 71 = .ok (.if_icmp .ge 23, 3) := dk_162 0 23 (dk_at dksX3_begins_3 0 rfl rfl)
theorem dX3_begins_74 : decode cX3_begins 74 = .ok (.aload_n 0, 1) := dk_42 (dk_at dksX3_begins_3 3 rfl rfl)
theorem dX3_begins_75 : decode cX3_begins 75 = .ok (.getfield 29, 3) := dk_180 0 29 (dk_at dksX3_begins_3 4 rfl rfl)
theorem dX3_begins_78 : decode cX3_begins 78 = .ok (.iload_n 2, 1) := dk_28 (dk_at dksX3_begins_3 7 rfl rfl)
theorem dX3_begins_79 : decode cX3_begins 79 = .ok (.aload_n 0, 1) := dk_42 (dk_at dksX3_begins_3 8 rfl rfl)
theorem dX3_begins_80 : decode cX3_begins 80 = .ok (.getfield 29, 3) := dk_180 0 29 (dk_at dksX3_begins_3 9 rfl rfl)
theorem dX3_begins_83 : decode cX3_begins 83 = .ok (.iload_n 2, 1) := dk_28 (dk_at dksX3_begins_3 12 rfl rfl)
theorem dX3_begins_84 : decode cX3_begins 84 = .ok (.iconst 1, 1) := dk_4 (dk_at dksX3_begins_3 13 rfl rfl)
theorem dX3_begins_85 : decode cX3_begins 85 = .ok (.isub, 1) := dk_100 (dk_at dksX3_begins_3 14 rfl rfl)
theorem dX3_begins_86 : decode cX3_begins 86 = .ok (.iaload, 1) := dk_46 (dk_at dksX3_begins_3 15 rfl rfl)
theorem dX3_begins_87 : decode cX3_begins 87 = .ok (.iastore, 1) := dk_79 (dk_at dksX3_begins_3 16 rfl rfl)
theorem dX3_begins_88 : decode cX3_begins 88 = .ok (.iinc 2 (-1), 3) := dk_132 2 255 (dk_at dksX3_begins_3 17 rfl rfl)
theorem dX3_begins_91 : decode cX3_begins 91 = .ok (.goto (-63), 3) := dk_167 255 193 (dk_at dksX3_begins_3 20 rfl rfl)
theorem dX3_begins_94 : decode cX3_begins 94 = .ok (.aload_n 0, 1) := dk_42 (dk_at dksX3_begins_3 23 rfl rfl)
theorem dX3_begins_95 : decode cX3_begins 95 = .ok (.getfield 29, 3) := dk_180 0 29 (dk_at dksX3_begins_4 0 rfl rfl)
theorem dX3_begins_98 : decode cX3_begins 98 = .ok (.iload_n 2, 1) := dk_28 (dk_at dksX3_begins_4 3 rfl rfl)
theorem dX3_begins_99 : decode cX3_begins 99 = .ok (.iload_n 1, 1) := dk_27 (dk_at dksX3_begins_4 4 rfl rfl)
theorem dX3_begins_100 : decode cX3_begins 100 = .ok (.iastore, 1) := dk_79 (dk_at dksX3_begins_4 5 rfl rfl)
theorem dX3_begins_101 : decode cX3_begins 101 = .ok (.aload_n 0, 1) := dk_42 (dk_at dksX3_begins_4 6 rfl rfl)
theorem dX3_begins_102 : decode cX3_begins 102 = .ok (.dup, 1) := dk_89 (dk_at dksX3_begins_4 7 rfl rfl)
theorem dX3_begins_103 : decode cX3_begins 103 = .ok (.getfield 148, 3) := dk_180 0 148 (dk_at dksX3_begins_4 8 rfl rfl)
theorem dX3_begins_106 : decode cX3_begins 106 = .ok (.iconst 1, 1) := dk_4 (dk_at dksX3_begins_4 11 rfl rfl)
theorem dX3_begins_107 : decode cX3_begins 107 = .ok (.iadd, 1) := dk_96 (dk_at dksX3_begins_4 12 rfl rfl)
theorem dX3_begins_108 : decode cX3_begins 108 = .ok (.putfield 148, 3) := dk_181 0 148 (dk_at dksX3_begins_4 13 rfl rfl)
theorem dX3_begins_111 : decode cX3_begins 111 = .ok (.iinc 1 1, 3) := dk_132 1 1 (dk_at dksX3_begins_4 16 rfl rfl)
theorem dX3_begins_114 : decode cX3_begins 114 = .ok (.goto (-107), 3) := dk_167 255 149 (dk_at dksX3_begins_4 19 rfl rfl)
theorem dX3_begins_117 : decode cX3_begins 117 = .ok (.iconst 0, 1) := dk_3 (dk_at dksX3_begins_4 22 rfl rfl)
theorem dX3_begins_118 : decode cX3_begins 118 = .ok (.istore_n 1, 1) := dk_60 (dk_at dksX3_begins_4 23 rfl rfl)
theorem dX3_begins_119 : decode cX3_begins 119 = .ok (.iload_n 1, 1) := dk_27 (dk_at dksX3_begins_5 0 rfl rfl)
theorem dX3_begins_120 : decode cX3_begins 120 = .ok (.bipush 6, 2) := dk_16 6 (dk_at dksX3_begins_5 1 rfl rfl)
theorem dX3_begins_122 : decode cX3_begins 122 = .ok (.if_icmp .ge 66, 3) := dk_162 0 66 (dk_at dksX3_begins_5 3 rfl rfl)
theorem dX3_begins_125 : decode cX3_begins 125 = .ok (.aload_n 0, 1) := dk_42 (dk_at dksX3_begins_5 6 rfl rfl)
theorem dX3_begins_126 : decode cX3_begins 126 = .ok (.getfield 32, 3) := dk_180 0 32 (dk_at dksX3_begins_5 7 rfl rfl)
theorem dX3_begins_129 : decode cX3_begins 129 = .ok (.iload_n 1, 1) := dk_27 (dk_at dksX3_begins_5 10 rfl rfl)
theorem dX3_begins_130 : decode cX3_begins 130 = .ok (.aload_n 0, 1) := dk_42 (dk_at dksX3_begins_5 11 rfl rfl)
theorem dX3_begins_131 : decode cX3_begins 131 = .ok (.getfield 23, 3) := dk_180 0 23 (dk_at dksX3_begins_5 12 rfl rfl)
theorem dX3_begins_134 : decode cX3_begins 134 = .ok (.iload_n 1, 1) := dk_27 (dk_at dksX3_begins_5 15 rfl rfl)
theorem dX3_begins_135 : decode cX3_begins 135 = .ok (.iaload, 1) := dk_46 (dk_at dksX3_begins_5 16 rfl rfl)
theorem dX3_begins_136 : decode cX3_begins 136 = .ok (.iconst (-1), 1) := dk_2 (dk_at dksX3_begins_5 17 rfl rfl)
theorem dX3_begins_137 : decode cX3_begins 137 = .ok (.if_icmp .ne 7, 3) := dk_160 0 7 (dk_at dksX3_begins_5 18 rfl rfl)
theorem dX3_begins_140 : decode cX3_begins 140 = .ok (.iconst 0, 1) := dk_3 (dk_at dksX3_begins_5 21 rfl rfl)
theorem dX3_begins_141 : decode cX3_begins 141 = .ok (.goto 19, 3) := dk_167 0 19 (dk_at dksX3_begins_6 0 rfl rfl)
theorem dX3_begins_144 : decode cX3_begins 144 = .ok (.aload_n 0, 1) := dk_42 (dk_at dksX3_begins_6 3 rfl rfl)
theorem dX3_begins_145 : decode cX3_begins 145 = .ok (.getfield 7, 3) := dk_180 0 7 (dk_at dksX3_begins_6 4 rfl rfl)
theorem dX3_begins_148 : decode cX3_begins 148 = .ok (.bipush 6, 2) := dk_16 6 (dk_at dksX3_begins_6 7 rfl rfl)
theorem dX3_begins_150 : decode cX3_begins 150 = .ok (.aload_n 0, 1) := dk_42 (dk_at dksX3_begins_6 9 rfl rfl)
theorem dX3_begins_151 : decode cX3_begins 151 = .ok (.getfield 23, 3) := dk_180 0 23 (dk_at dksX3_begins_6 10 rfl rfl)
theorem dX3_begins_154 : decode cX3_begins 154 = .ok (.iload_n 1, 1) := dk_27 (dk_at dksX3_begins_6 13 rfl rfl)
theorem dX3_begins_155 : decode cX3_begins 155 = .ok (.iaload, 1) := dk_46 (dk_at dksX3_begins_6 14 rfl rfl)
theorem dX3_begins_156 : decode cX3_begins 156 = .ok (.imul, 1) := dk_104 (dk_at dksX3_begins_6 15 rfl rfl)
theorem dX3_begins_157 : decode cX3_begins 157 = .ok (.iconst 1, 1) := dk_4 (dk_at dksX3_begins_6 16 rfl rfl)
theorem dX3_begins_158 : decode cX3_begins 158 = .ok (.iadd, 1) := dk_96 (dk_at dksX3_begins_6 17 rfl rfl)
theorem dX3_begins_159 : decode cX3_begins 159 = .ok (.iaload, 1) := dk_46 (dk_at dksX3_begins_6 18 rfl rfl)
theorem dX3_begins_160 : decode cX3_begins 160 = .ok (.iastore, 1) := dk_79 (dk_at dksX3_begins_6 19 rfl rfl)
theorem dX3_begins_161 : decode cX3_begins 161 = .ok (.aload_n 0, 1) := dk_42 (dk_at dksX3_begins_6 20 rfl rfl)
theorem dX3_begins_162 : decode cX3_begins 162 = .ok (.getfield 35, 3) := dk_180 0 35 (dk_at dksX3_begins_6 21 rfl rfl)
theorem dX3_begins_165 : decode cX3_begins 165 = .ok (.iload_n 1, 1) := dk_27 (dk_at dksX3_begins_7 0 rfl rfl)
theorem dX3_begins_166 : decode cX3_begins 166 = .ok (.aload_n 0, 1) := dk_42 (dk_at dksX3_begins_7 1 rfl rfl)
theorem dX3_begins_167 : decode cX3_begins 167 = .ok (.getfield 23, 3) := dk_180 0 23 (dk_at dksX3_begins_7 2 rfl rfl)
theorem dX3_begins_170 : decode cX3_begins 170 = .ok (.iload_n 1, 1) := dk_27 (dk_at dksX3_begins_7 5 rfl rfl)
theorem dX3_begins_171 : decode cX3_begins 171 = .ok (.iaload, 1) := dk_46 (dk_at dksX3_begins_7 6 rfl rfl)
theorem dX3_begins_172 : decode cX3_begins 172 = .ok (.iconst (-1), 1) := dk_2 (dk_at dksX3_begins_7 7 rfl rfl)
theorem dX3_begins_173 : decode cX3_begins 173 = .ok (.if_icmp .eq 7, 3) := dk_159 0 7 (dk_at dksX3_begins_7 8 rfl rfl)
theorem dX3_begins_176 : decode cX3_begins 176 = .ok (.iconst 1, 1) := dk_4 (dk_at dksX3_begins_7 11 rfl rfl)
theorem dX3_begins_177 : decode cX3_begins 177 = .ok (.goto 4, 3) := dk_167 0 4 (dk_at dksX3_begins_7 12 rfl rfl)
theorem dX3_begins_180 : decode cX3_begins 180 = .ok (.iconst 0, 1) := dk_3 (dk_at dksX3_begins_7 15 rfl rfl)
theorem dX3_begins_181 : decode cX3_begins 181 = .ok (.bastore, 1) := dk_84 (dk_at dksX3_begins_7 16 rfl rfl)
theorem dX3_begins_182 : decode cX3_begins 182 = .ok (.iinc 1 1, 3) := dk_132 1 1 (dk_at dksX3_begins_7 17 rfl rfl)
theorem dX3_begins_185 : decode cX3_begins 185 = .ok (.goto (-66), 3) := dk_167 255 190 (dk_at dksX3_begins_7 20 rfl rfl)
theorem dX3_begins_188 : decode cX3_begins 188 = .ok (.return_, 1) := dk_177 (dk_at dksX3_begins_7 23 rfl rfl)
abbrev cX3_slotsNow : ByteArray := prog_12_method_28_code
def yX3_slotsNow : MethodName := ⟨RX3, "slotsNow", "()I"⟩
def dkwX3_slotsNow_0 : List UInt8 := [42, 180, 0, 16, 42, 180, 0, 148, 104, 172]
abbrev dktX3_slotsNow_0 : List UInt8 := dkwX3_slotsNow_0 ++ []
theorem dksX3_slotsNow_0 : cX3_slotsNow.data.toList.drop 0 = dktX3_slotsNow_0 := by decide +kernel
theorem dX3_slotsNow_0 : decode cX3_slotsNow 0 = .ok (.aload_n 0, 1) := dk_42 (dk_at dksX3_slotsNow_0 0 rfl rfl)
theorem dX3_slotsNow_1 : decode cX3_slotsNow 1 = .ok (.getfield 16, 3) := dk_180 0 16 (dk_at dksX3_slotsNow_0 1 rfl rfl)
theorem dX3_slotsNow_4 : decode cX3_slotsNow 4 = .ok (.aload_n 0, 1) := dk_42 (dk_at dksX3_slotsNow_0 4 rfl rfl)
theorem dX3_slotsNow_5 : decode cX3_slotsNow 5 = .ok (.getfield 148, 3) := dk_180 0 148 (dk_at dksX3_slotsNow_0 5 rfl rfl)
theorem dX3_slotsNow_8 : decode cX3_slotsNow 8 = .ok (.imul, 1) := dk_104 (dk_at dksX3_slotsNow_0 8 rfl rfl)
theorem dX3_slotsNow_9 : decode cX3_slotsNow 9 = .ok (.ireturn, 1) := dk_172 (dk_at dksX3_slotsNow_0 9 rfl rfl)
abbrev cX3_all : ByteArray := prog_12_method_33_code
def yX3_all : MethodName := ⟨RX3, "all", "()J"⟩
def dkwX3_all_1 : List UInt8 := [173]
abbrev dktX3_all_1 : List UInt8 := dkwX3_all_1 ++ []
def dkwX3_all_0 : List UInt8 := [42, 182, 0, 221, 153, 0, 11, 16, 251, 184, 0, 224, 167, 0, 12, 42, 180, 0, 64, 42, 182, 0, 190, 47]
abbrev dktX3_all_0 : List UInt8 := dkwX3_all_0 ++ dktX3_all_1
theorem dksX3_all_0 : cX3_all.data.toList.drop 0 = dktX3_all_0 := by decide +kernel
theorem dksX3_all_1 : cX3_all.data.toList.drop 24 = dktX3_all_1 := dk_seg dksX3_all_0 24 rfl rfl
theorem dX3_all_0 : decode cX3_all 0 = .ok (.aload_n 0, 1) := dk_42 (dk_at dksX3_all_0 0 rfl rfl)
theorem dX3_all_1 : decode cX3_all 1 = .ok (.invokevirtual 221, 3) := dk_182 0 221 (dk_at dksX3_all_0 1 rfl rfl)
theorem dX3_all_4 : decode cX3_all 4 = .ok (.ifCond .eq 11, 3) := dk_153 0 11 (dk_at dksX3_all_0 4 rfl rfl)
theorem dX3_all_7 : decode cX3_all 7 = .ok (.bipush (-5), 2) := dk_16 251 (dk_at dksX3_all_0 7 rfl rfl)
theorem dX3_all_9 : decode cX3_all 9 = .ok (.invokestatic 224, 3) := dk_184 0 224 (dk_at dksX3_all_0 9 rfl rfl)
theorem dX3_all_12 : decode cX3_all 12 = .ok (.goto 12, 3) := dk_167 0 12 (dk_at dksX3_all_0 12 rfl rfl)
theorem dX3_all_15 : decode cX3_all 15 = .ok (.aload_n 0, 1) := dk_42 (dk_at dksX3_all_0 15 rfl rfl)
theorem dX3_all_16 : decode cX3_all 16 = .ok (.getfield 64, 3) := dk_180 0 64 (dk_at dksX3_all_0 16 rfl rfl)
theorem dX3_all_19 : decode cX3_all 19 = .ok (.aload_n 0, 1) := dk_42 (dk_at dksX3_all_0 19 rfl rfl)
theorem dX3_all_20 : decode cX3_all 20 = .ok (.invokevirtual 190, 3) := dk_182 0 190 (dk_at dksX3_all_0 20 rfl rfl)
theorem dX3_all_23 : decode cX3_all 23 = .ok (.laload, 1) := dk_47 (dk_at dksX3_all_0 23 rfl rfl)
theorem dX3_all_24 : decode cX3_all 24 = .ok (.lreturn, 1) := dk_173 (dk_at dksX3_all_1 0 rfl rfl)
abbrev cX3_worksAsItIs : ByteArray := prog_12_method_30_code
def yX3_worksAsItIs : MethodName := ⟨RX3, "worksAsItIs", "()I"⟩
def dkwX3_worksAsItIs_0 : List UInt8 := [42, 3, 182, 0, 213, 42, 182, 0, 216, 172]
abbrev dktX3_worksAsItIs_0 : List UInt8 := dkwX3_worksAsItIs_0 ++ []
theorem dksX3_worksAsItIs_0 : cX3_worksAsItIs.data.toList.drop 0 = dktX3_worksAsItIs_0 := by decide +kernel
theorem dX3_worksAsItIs_0 : decode cX3_worksAsItIs 0 = .ok (.aload_n 0, 1) := dk_42 (dk_at dksX3_worksAsItIs_0 0 rfl rfl)
theorem dX3_worksAsItIs_1 : decode cX3_worksAsItIs 1 = .ok (.iconst 0, 1) := dk_3 (dk_at dksX3_worksAsItIs_0 1 rfl rfl)
theorem dX3_worksAsItIs_2 : decode cX3_worksAsItIs 2 = .ok (.invokevirtual 213, 3) := dk_182 0 213 (dk_at dksX3_worksAsItIs_0 2 rfl rfl)
theorem dX3_worksAsItIs_5 : decode cX3_worksAsItIs 5 = .ok (.aload_n 0, 1) := dk_42 (dk_at dksX3_worksAsItIs_0 5 rfl rfl)
theorem dX3_worksAsItIs_6 : decode cX3_worksAsItIs 6 = .ok (.invokevirtual 216, 3) := dk_182 0 216 (dk_at dksX3_worksAsItIs_0 6 rfl rfl)
theorem dX3_worksAsItIs_9 : decode cX3_worksAsItIs 9 = .ok (.ireturn, 1) := dk_172 (dk_at dksX3_worksAsItIs_0 9 rfl rfl)
abbrev cX3_works : ByteArray := prog_12_method_29_code
def yX3_works : MethodName := ⟨RX3, "works", "()I"⟩
def dkwX3_works_24 : List UInt8 := [167, 255, 220, 3, 172]
abbrev dktX3_works_24 : List UInt8 := dkwX3_works_24 ++ []
def dkwX3_works_23 : List UInt8 := [28, 47, 182, 0, 196, 42, 5, 42, 180, 0, 16, 42, 180, 0, 49, 28, 47, 182, 0, 176, 132, 2, 1]
abbrev dktX3_works_23 : List UInt8 := dkwX3_works_23 ++ dktX3_works_24
def dkwX3_works_22 : List UInt8 := [167, 255, 216, 132, 2, 1, 167, 254, 166, 3, 61, 28, 42, 180, 0, 169, 162, 0, 34, 42, 42, 180, 0, 46]
abbrev dktX3_works_22 : List UInt8 := dkwX3_works_22 ++ dktX3_works_23
def dkwX3_works_21 : List UInt8 := [180, 0, 46, 21, 7, 47, 80, 42, 180, 0, 43, 21, 7, 42, 180, 0, 49, 21, 7, 47, 80, 132, 7, 1]
abbrev dktX3_works_21 : List UInt8 := dkwX3_works_21 ++ dktX3_works_22
def dkwX3_works_20 : List UInt8 := [181, 0, 193, 3, 54, 7, 21, 7, 42, 180, 0, 169, 162, 0, 37, 42, 180, 0, 39, 21, 7, 42]
abbrev dktX3_works_20 : List UInt8 := dkwX3_works_20 ++ dktX3_works_21
def dkwX3_works_19 : List UInt8 := [180, 0, 169, 17, 1, 144, 164, 0, 6, 16, 251, 172, 28, 4, 96, 27, 162, 0, 57, 42, 42, 180, 0, 169]
abbrev dktX3_works_19 : List UInt8 := dkwX3_works_19 ++ dktX3_works_20
def dkwX3_works_18 : List UInt8 := [21, 7, 47, 105, 22, 5, 182, 0, 205, 132, 7, 1, 167, 255, 93, 28, 4, 96, 27, 162, 0, 16, 42]
abbrev dktX3_works_18 : List UInt8 := dkwX3_works_18 ++ dktX3_works_19
def dkwX3_works_17 : List UInt8 := [105, 182, 0, 180, 21, 8, 158, 0, 27, 42, 21, 4, 182, 0, 209, 42, 29, 21, 8, 133, 42, 180, 0, 43]
abbrev dktX3_works_17 : List UInt8 := dkwX3_works_17 ++ dktX3_works_18
def dkwX3_works_16 : List UInt8 := [54, 8, 21, 8, 16, 6, 162, 0, 22, 42, 20, 0, 113, 21, 8, 133, 101, 42, 180, 0, 43, 21, 7, 47]
abbrev dktX3_works_16 : List UInt8 := dkwX3_works_16 ++ dktX3_works_17
def dkwX3_works_15 : List UInt8 := [182, 0, 205, 167, 0, 77, 42, 180, 0, 7, 16, 6, 42, 180, 0, 23, 21, 4, 46, 104, 5, 96, 46]
abbrev dktX3_works_15 : List UInt8 := dkwX3_works_15 ++ dktX3_works_16
def dkwX3_works_14 : List UInt8 := [180, 0, 35, 21, 4, 3, 84, 42, 29, 20, 0, 113, 42, 180, 0, 43, 21, 7, 47, 105, 22, 5]
abbrev dktX3_works_14 : List UInt8 := dkwX3_works_14 ++ dktX3_works_15
def dkwX3_works_13 : List UInt8 := [180, 0, 43, 21, 7, 47, 105, 182, 0, 180, 167, 0, 115, 42, 21, 4, 182, 0, 202, 153, 0, 32, 42]
abbrev dktX3_works_13 : List UInt8 := dkwX3_works_13 ++ dktX3_works_14
def dkwX3_works_12 : List UInt8 := [180, 0, 39, 21, 7, 47, 182, 0, 196, 42, 21, 4, 29, 182, 0, 199, 154, 0, 21, 42, 20, 0, 113, 42]
abbrev dktX3_works_12 : List UInt8 := dkwX3_works_12 ++ dktX3_works_13
def dkwX3_works_11 : List UInt8 := [3, 79, 132, 7, 1, 167, 255, 237, 3, 54, 7, 21, 7, 42, 180, 0, 193, 162, 0, 160, 42, 42]
abbrev dktX3_works_11 : List UInt8 := dkwX3_works_11 ++ dktX3_works_12
def dkwX3_works_10 : List UInt8 := [55, 5, 42, 3, 181, 0, 169, 3, 54, 7, 21, 7, 17, 8, 0, 162, 0, 17, 42, 180, 0, 52, 21, 7]
abbrev dktX3_works_10 : List UInt8 := dkwX3_works_10 ++ dktX3_works_11
def dkwX3_works_9 : List UInt8 := [42, 180, 0, 29, 28, 42, 180, 0, 148, 112, 46, 54, 4, 42, 180, 0, 64, 27, 4, 100, 28, 100, 47]
abbrev dktX3_works_9 : List UInt8 := dkwX3_works_9 ++ dktX3_works_10
def dkwX3_works_8 : List UInt8 := [164, 0, 10, 42, 180, 0, 193, 167, 0, 7, 42, 180, 0, 187, 181, 0, 187, 28, 42, 180, 0, 148, 108, 62]
abbrev dktX3_works_8 : List UInt8 := dkwX3_works_8 ++ dktX3_works_9
def dkwX3_works_7 : List UInt8 := [80, 42, 180, 0, 43, 3, 10, 80, 3, 61, 28, 27, 162, 1, 91, 42, 42, 180, 0, 193, 42, 180, 0, 187]
abbrev dktX3_works_7 : List UInt8 := dkwX3_works_7 ++ dktX3_works_8
def dkwX3_works_6 : List UInt8 := [180, 0, 64, 27, 47, 182, 0, 176, 3, 172, 42, 4, 181, 0, 193, 42, 180, 0, 39, 3, 42, 182, 0, 161]
abbrev dktX3_works_6 : List UInt8 := dkwX3_works_6 ++ dktX3_works_7
def dkwX3_works_5 : List UInt8 := [80, 132, 2, 1, 167, 255, 239, 42, 182, 0, 172, 5, 162, 0, 20, 42, 42, 182, 0, 172, 3, 42]
abbrev dktX3_works_5 : List UInt8 := dkwX3_works_5 ++ dktX3_works_6
def dkwX3_works_4 : List UInt8 := [28, 9, 80, 132, 2, 1, 167, 255, 240, 3, 61, 28, 17, 0, 252, 162, 0, 16, 42, 180, 0, 61, 28, 9]
abbrev dktX3_works_4 : List UInt8 := dkwX3_works_4 ++ dktX3_works_5
def dkwX3_works_3 : List UInt8 := [180, 0, 55, 28, 9, 80, 132, 2, 1, 167, 255, 241, 3, 61, 28, 16, 7, 162, 0, 16, 42, 180, 0, 58]
abbrev dktX3_works_3 : List UInt8 := dkwX3_works_3 ++ dktX3_works_4
def dkwX3_works_2 : List UInt8 := [180, 0, 64, 28, 4, 100, 47, 105, 80, 132, 2, 1, 167, 255, 230, 3, 61, 28, 6, 162, 0, 16, 42]
abbrev dktX3_works_2 : List UInt8 := dkwX3_works_2 ++ dktX3_works_3
def dkwX3_works_1 : List UInt8 := [180, 0, 64, 3, 10, 80, 4, 61, 28, 27, 163, 0, 27, 42, 180, 0, 64, 28, 20, 0, 113, 42]
abbrev dktX3_works_1 : List UInt8 := dkwX3_works_1 ++ dktX3_works_2
def dkwX3_works_0 : List UInt8 := [42, 182, 0, 184, 42, 3, 181, 0, 187, 42, 182, 0, 190, 60, 27, 16, 22, 164, 0, 6, 16, 251, 172, 42]
abbrev dktX3_works_0 : List UInt8 := dkwX3_works_0 ++ dktX3_works_1
theorem dksX3_works_0 : cX3_works.data.toList.drop 0 = dktX3_works_0 := by decide +kernel
theorem dksX3_works_1 : cX3_works.data.toList.drop 24 = dktX3_works_1 := dk_seg dksX3_works_0 24 rfl rfl
theorem dksX3_works_2 : cX3_works.data.toList.drop 46 = dktX3_works_2 := dk_seg dksX3_works_1 22 rfl rfl
theorem dksX3_works_3 : cX3_works.data.toList.drop 69 = dktX3_works_3 := dk_seg dksX3_works_2 23 rfl rfl
theorem dksX3_works_4 : cX3_works.data.toList.drop 93 = dktX3_works_4 := dk_seg dksX3_works_3 24 rfl rfl
theorem dksX3_works_5 : cX3_works.data.toList.drop 117 = dktX3_works_5 := dk_seg dksX3_works_4 24 rfl rfl
theorem dksX3_works_6 : cX3_works.data.toList.drop 139 = dktX3_works_6 := dk_seg dksX3_works_5 22 rfl rfl
theorem dksX3_works_7 : cX3_works.data.toList.drop 163 = dktX3_works_7 := dk_seg dksX3_works_6 24 rfl rfl
theorem dksX3_works_8 : cX3_works.data.toList.drop 187 = dktX3_works_8 := dk_seg dksX3_works_7 24 rfl rfl
theorem dksX3_works_9 : cX3_works.data.toList.drop 211 = dktX3_works_9 := dk_seg dksX3_works_8 24 rfl rfl
theorem dksX3_works_10 : cX3_works.data.toList.drop 234 = dktX3_works_10 := dk_seg dksX3_works_9 23 rfl rfl
theorem dksX3_works_11 : cX3_works.data.toList.drop 258 = dktX3_works_11 := dk_seg dksX3_works_10 24 rfl rfl
theorem dksX3_works_12 : cX3_works.data.toList.drop 280 = dktX3_works_12 := dk_seg dksX3_works_11 22 rfl rfl
theorem dksX3_works_13 : cX3_works.data.toList.drop 304 = dktX3_works_13 := dk_seg dksX3_works_12 24 rfl rfl
theorem dksX3_works_14 : cX3_works.data.toList.drop 327 = dktX3_works_14 := dk_seg dksX3_works_13 23 rfl rfl
theorem dksX3_works_15 : cX3_works.data.toList.drop 349 = dktX3_works_15 := dk_seg dksX3_works_14 22 rfl rfl
theorem dksX3_works_16 : cX3_works.data.toList.drop 372 = dktX3_works_16 := dk_seg dksX3_works_15 23 rfl rfl
theorem dksX3_works_17 : cX3_works.data.toList.drop 396 = dktX3_works_17 := dk_seg dksX3_works_16 24 rfl rfl
theorem dksX3_works_18 : cX3_works.data.toList.drop 420 = dktX3_works_18 := dk_seg dksX3_works_17 24 rfl rfl
theorem dksX3_works_19 : cX3_works.data.toList.drop 443 = dktX3_works_19 := dk_seg dksX3_works_18 23 rfl rfl
theorem dksX3_works_20 : cX3_works.data.toList.drop 467 = dktX3_works_20 := dk_seg dksX3_works_19 24 rfl rfl
theorem dksX3_works_21 : cX3_works.data.toList.drop 489 = dktX3_works_21 := dk_seg dksX3_works_20 22 rfl rfl
theorem dksX3_works_22 : cX3_works.data.toList.drop 513 = dktX3_works_22 := dk_seg dksX3_works_21 24 rfl rfl
theorem dksX3_works_23 : cX3_works.data.toList.drop 537 = dktX3_works_23 := dk_seg dksX3_works_22 24 rfl rfl
theorem dksX3_works_24 : cX3_works.data.toList.drop 560 = dktX3_works_24 := dk_seg dksX3_works_23 23 rfl rfl
theorem dX3_works_0 : decode cX3_works 0 = .ok (.aload_n 0, 1) := dk_42 (dk_at dksX3_works_0 0 rfl rfl)
theorem dX3_works_1 : decode cX3_works 1 = .ok (.invokevirtual 184, 3) := dk_182 0 184 (dk_at dksX3_works_0 1 rfl rfl)
theorem dX3_works_4 : decode cX3_works 4 = .ok (.aload_n 0, 1) := dk_42 (dk_at dksX3_works_0 4 rfl rfl)
theorem dX3_works_5 : decode cX3_works 5 = .ok (.iconst 0, 1) := dk_3 (dk_at dksX3_works_0 5 rfl rfl)
theorem dX3_works_6 : decode cX3_works 6 = .ok (.putfield 187, 3) := dk_181 0 187 (dk_at dksX3_works_0 6 rfl rfl)
theorem dX3_works_9 : decode cX3_works 9 = .ok (.aload_n 0, 1) := dk_42 (dk_at dksX3_works_0 9 rfl rfl)
theorem dX3_works_10 : decode cX3_works 10 = .ok (.invokevirtual 190, 3) := dk_182 0 190 (dk_at dksX3_works_0 10 rfl rfl)
theorem dX3_works_13 : decode cX3_works 13 = .ok (.istore_n 1, 1) := dk_60 (dk_at dksX3_works_0 13 rfl rfl)
theorem dX3_works_14 : decode cX3_works 14 = .ok (.iload_n 1, 1) := dk_27 (dk_at dksX3_works_0 14 rfl rfl)
theorem dX3_works_15 : decode cX3_works 15 = .ok (.bipush 22, 2) := dk_16 22 (dk_at dksX3_works_0 15 rfl rfl)
theorem dX3_works_17 : decode cX3_works 17 = .ok (.if_icmp .le 6, 3) := dk_164 0 6 (dk_at dksX3_works_0 17 rfl rfl)
theorem dX3_works_20 : decode cX3_works 20 = .ok (.bipush (-5), 2) := dk_16 251 (dk_at dksX3_works_0 20 rfl rfl)
theorem dX3_works_22 : decode cX3_works 22 = .ok (.ireturn, 1) := dk_172 (dk_at dksX3_works_0 22 rfl rfl)
theorem dX3_works_23 : decode cX3_works 23 = .ok (.aload_n 0, 1) := dk_42 (dk_at dksX3_works_0 23 rfl rfl)
theorem dX3_works_24 : decode cX3_works 24 = .ok (.getfield 64, 3) := dk_180 0 64 (dk_at dksX3_works_1 0 rfl rfl)
theorem dX3_works_27 : decode cX3_works 27 = .ok (.iconst 0, 1) := dk_3 (dk_at dksX3_works_1 3 rfl rfl)
theorem dX3_works_28 : decode cX3_works 28 = .ok (.lconst 1, 1) := dk_10 (dk_at dksX3_works_1 4 rfl rfl)
theorem dX3_works_29 : decode cX3_works 29 = .ok (.lastore, 1) := dk_80 (dk_at dksX3_works_1 5 rfl rfl)
theorem dX3_works_30 : decode cX3_works 30 = .ok (.iconst 1, 1) := dk_4 (dk_at dksX3_works_1 6 rfl rfl)
theorem dX3_works_31 : decode cX3_works 31 = .ok (.istore_n 2, 1) := dk_61 (dk_at dksX3_works_1 7 rfl rfl)
theorem dX3_works_32 : decode cX3_works 32 = .ok (.iload_n 2, 1) := dk_28 (dk_at dksX3_works_1 8 rfl rfl)
theorem dX3_works_33 : decode cX3_works 33 = .ok (.iload_n 1, 1) := dk_27 (dk_at dksX3_works_1 9 rfl rfl)
theorem dX3_works_34 : decode cX3_works 34 = .ok (.if_icmp .gt 27, 3) := dk_163 0 27 (dk_at dksX3_works_1 10 rfl rfl)
theorem dX3_works_37 : decode cX3_works 37 = .ok (.aload_n 0, 1) := dk_42 (dk_at dksX3_works_1 13 rfl rfl)
theorem dX3_works_38 : decode cX3_works 38 = .ok (.getfield 64, 3) := dk_180 0 64 (dk_at dksX3_works_1 14 rfl rfl)
theorem dX3_works_41 : decode cX3_works 41 = .ok (.iload_n 2, 1) := dk_28 (dk_at dksX3_works_1 17 rfl rfl)
theorem dX3_works_42 : decode cX3_works 42 = .ok (.ldc2_w 113, 3) := dk_20 0 113 (dk_at dksX3_works_1 18 rfl rfl)
theorem dX3_works_45 : decode cX3_works 45 = .ok (.aload_n 0, 1) := dk_42 (dk_at dksX3_works_1 21 rfl rfl)
theorem dX3_works_46 : decode cX3_works 46 = .ok (.getfield 64, 3) := dk_180 0 64 (dk_at dksX3_works_2 0 rfl rfl)
theorem dX3_works_49 : decode cX3_works 49 = .ok (.iload_n 2, 1) := dk_28 (dk_at dksX3_works_2 3 rfl rfl)
theorem dX3_works_50 : decode cX3_works 50 = .ok (.iconst 1, 1) := dk_4 (dk_at dksX3_works_2 4 rfl rfl)
theorem dX3_works_51 : decode cX3_works 51 = .ok (.isub, 1) := dk_100 (dk_at dksX3_works_2 5 rfl rfl)
theorem dX3_works_52 : decode cX3_works 52 = .ok (.laload, 1) := dk_47 (dk_at dksX3_works_2 6 rfl rfl)
theorem dX3_works_53 : decode cX3_works 53 = .ok (.lmul, 1) := dk_105 (dk_at dksX3_works_2 7 rfl rfl)
theorem dX3_works_54 : decode cX3_works 54 = .ok (.lastore, 1) := dk_80 (dk_at dksX3_works_2 8 rfl rfl)
theorem dX3_works_55 : decode cX3_works 55 = .ok (.iinc 2 1, 3) := dk_132 2 1 (dk_at dksX3_works_2 9 rfl rfl)
theorem dX3_works_58 : decode cX3_works 58 = .ok (.goto (-26), 3) := dk_167 255 230 (dk_at dksX3_works_2 12 rfl rfl)
theorem dX3_works_61 : decode cX3_works 61 = .ok (.iconst 0, 1) := dk_3 (dk_at dksX3_works_2 15 rfl rfl)
theorem dX3_works_62 : decode cX3_works 62 = .ok (.istore_n 2, 1) := dk_61 (dk_at dksX3_works_2 16 rfl rfl)
theorem dX3_works_63 : decode cX3_works 63 = .ok (.iload_n 2, 1) := dk_28 (dk_at dksX3_works_2 17 rfl rfl)
theorem dX3_works_64 : decode cX3_works 64 = .ok (.iconst 3, 1) := dk_6 (dk_at dksX3_works_2 18 rfl rfl)
theorem dX3_works_65 : decode cX3_works 65 = .ok (.if_icmp .ge 16, 3) := dk_162 0 16 (dk_at dksX3_works_2 19 rfl rfl)
theorem dX3_works_68 : decode cX3_works 68 = .ok (.aload_n 0, 1) := dk_42 (dk_at dksX3_works_2 22 rfl rfl)
theorem dX3_works_69 : decode cX3_works 69 = .ok (.getfield 55, 3) := dk_180 0 55 (dk_at dksX3_works_3 0 rfl rfl)
theorem dX3_works_72 : decode cX3_works 72 = .ok (.iload_n 2, 1) := dk_28 (dk_at dksX3_works_3 3 rfl rfl)
theorem dX3_works_73 : decode cX3_works 73 = .ok (.lconst 0, 1) := dk_9 (dk_at dksX3_works_3 4 rfl rfl)
theorem dX3_works_74 : decode cX3_works 74 = .ok (.lastore, 1) := dk_80 (dk_at dksX3_works_3 5 rfl rfl)
theorem dX3_works_75 : decode cX3_works 75 = .ok (.iinc 2 1, 3) := dk_132 2 1 (dk_at dksX3_works_3 6 rfl rfl)
theorem dX3_works_78 : decode cX3_works 78 = .ok (.goto (-15), 3) := dk_167 255 241 (dk_at dksX3_works_3 9 rfl rfl)
theorem dX3_works_81 : decode cX3_works 81 = .ok (.iconst 0, 1) := dk_3 (dk_at dksX3_works_3 12 rfl rfl)
theorem dX3_works_82 : decode cX3_works 82 = .ok (.istore_n 2, 1) := dk_61 (dk_at dksX3_works_3 13 rfl rfl)
theorem dX3_works_83 : decode cX3_works 83 = .ok (.iload_n 2, 1) := dk_28 (dk_at dksX3_works_3 14 rfl rfl)
theorem dX3_works_84 : decode cX3_works 84 = .ok (.bipush 7, 2) := dk_16 7 (dk_at dksX3_works_3 15 rfl rfl)
theorem dX3_works_86 : decode cX3_works 86 = .ok (.if_icmp .ge 16, 3) := dk_162 0 16 (dk_at dksX3_works_3 17 rfl rfl)
theorem dX3_works_89 : decode cX3_works 89 = .ok (.aload_n 0, 1) := dk_42 (dk_at dksX3_works_3 20 rfl rfl)
theorem dX3_works_90 : decode cX3_works 90 = .ok (.getfield 58, 3) := dk_180 0 58 (dk_at dksX3_works_3 21 rfl rfl)
theorem dX3_works_93 : decode cX3_works 93 = .ok (.iload_n 2, 1) := dk_28 (dk_at dksX3_works_4 0 rfl rfl)
theorem dX3_works_94 : decode cX3_works 94 = .ok (.lconst 0, 1) := dk_9 (dk_at dksX3_works_4 1 rfl rfl)
theorem dX3_works_95 : decode cX3_works 95 = .ok (.lastore, 1) := dk_80 (dk_at dksX3_works_4 2 rfl rfl)
theorem dX3_works_96 : decode cX3_works 96 = .ok (.iinc 2 1, 3) := dk_132 2 1 (dk_at dksX3_works_4 3 rfl rfl)
theorem dX3_works_99 : decode cX3_works 99 = .ok (.goto (-16), 3) := dk_167 255 240 (dk_at dksX3_works_4 6 rfl rfl)
theorem dX3_works_102 : decode cX3_works 102 = .ok (.iconst 0, 1) := dk_3 (dk_at dksX3_works_4 9 rfl rfl)
theorem dX3_works_103 : decode cX3_works 103 = .ok (.istore_n 2, 1) := dk_61 (dk_at dksX3_works_4 10 rfl rfl)
theorem dX3_works_104 : decode cX3_works 104 = .ok (.iload_n 2, 1) := dk_28 (dk_at dksX3_works_4 11 rfl rfl)
theorem dX3_works_105 : decode cX3_works 105 = .ok (.sipush 252, 3) := dk_17 0 252 (dk_at dksX3_works_4 12 rfl rfl)
theorem dX3_works_108 : decode cX3_works 108 = .ok (.if_icmp .ge 16, 3) := dk_162 0 16 (dk_at dksX3_works_4 15 rfl rfl)
theorem dX3_works_111 : decode cX3_works 111 = .ok (.aload_n 0, 1) := dk_42 (dk_at dksX3_works_4 18 rfl rfl)
theorem dX3_works_112 : decode cX3_works 112 = .ok (.getfield 61, 3) := dk_180 0 61 (dk_at dksX3_works_4 19 rfl rfl)
theorem dX3_works_115 : decode cX3_works 115 = .ok (.iload_n 2, 1) := dk_28 (dk_at dksX3_works_4 22 rfl rfl)
theorem dX3_works_116 : decode cX3_works 116 = .ok (.lconst 0, 1) := dk_9 (dk_at dksX3_works_4 23 rfl rfl)
theorem dX3_works_117 : decode cX3_works 117 = .ok (.lastore, 1) := dk_80 (dk_at dksX3_works_5 0 rfl rfl)
theorem dX3_works_118 : decode cX3_works 118 = .ok (.iinc 2 1, 3) := dk_132 2 1 (dk_at dksX3_works_5 1 rfl rfl)
theorem dX3_works_121 : decode cX3_works 121 = .ok (.goto (-17), 3) := dk_167 255 239 (dk_at dksX3_works_5 4 rfl rfl)
theorem dX3_works_124 : decode cX3_works 124 = .ok (.aload_n 0, 1) := dk_42 (dk_at dksX3_works_5 7 rfl rfl)
theorem dX3_works_125 : decode cX3_works 125 = .ok (.invokevirtual 172, 3) := dk_182 0 172 (dk_at dksX3_works_5 8 rfl rfl)
theorem dX3_works_128 : decode cX3_works 128 = .ok (.iconst 2, 1) := dk_5 (dk_at dksX3_works_5 11 rfl rfl)
theorem dX3_works_129 : decode cX3_works 129 = .ok (.if_icmp .ge 20, 3) := dk_162 0 20 (dk_at dksX3_works_5 12 rfl rfl)
theorem dX3_works_132 : decode cX3_works 132 = .ok (.aload_n 0, 1) := dk_42 (dk_at dksX3_works_5 15 rfl rfl)
theorem dX3_works_133 : decode cX3_works 133 = .ok (.aload_n 0, 1) := dk_42 (dk_at dksX3_works_5 16 rfl rfl)
theorem dX3_works_134 : decode cX3_works 134 = .ok (.invokevirtual 172, 3) := dk_182 0 172 (dk_at dksX3_works_5 17 rfl rfl)
theorem dX3_works_137 : decode cX3_works 137 = .ok (.iconst 0, 1) := dk_3 (dk_at dksX3_works_5 20 rfl rfl)
theorem dX3_works_138 : decode cX3_works 138 = .ok (.aload_n 0, 1) := dk_42 (dk_at dksX3_works_5 21 rfl rfl)
theorem dX3_works_139 : decode cX3_works 139 = .ok (.getfield 64, 3) := dk_180 0 64 (dk_at dksX3_works_6 0 rfl rfl)
theorem dX3_works_142 : decode cX3_works 142 = .ok (.iload_n 1, 1) := dk_27 (dk_at dksX3_works_6 3 rfl rfl)
theorem dX3_works_143 : decode cX3_works 143 = .ok (.laload, 1) := dk_47 (dk_at dksX3_works_6 4 rfl rfl)
theorem dX3_works_144 : decode cX3_works 144 = .ok (.invokevirtual 176, 3) := dk_182 0 176 (dk_at dksX3_works_6 5 rfl rfl)
theorem dX3_works_147 : decode cX3_works 147 = .ok (.iconst 0, 1) := dk_3 (dk_at dksX3_works_6 8 rfl rfl)
theorem dX3_works_148 : decode cX3_works 148 = .ok (.ireturn, 1) := dk_172 (dk_at dksX3_works_6 9 rfl rfl)
theorem dX3_works_149 : decode cX3_works 149 = .ok (.aload_n 0, 1) := dk_42 (dk_at dksX3_works_6 10 rfl rfl)
theorem dX3_works_150 : decode cX3_works 150 = .ok (.iconst 1, 1) := dk_4 (dk_at dksX3_works_6 11 rfl rfl)
theorem dX3_works_151 : decode cX3_works 151 = .ok (.putfield 193, 3) := dk_181 0 193 (dk_at dksX3_works_6 12 rfl rfl)
theorem dX3_works_154 : decode cX3_works 154 = .ok (.aload_n 0, 1) := dk_42 (dk_at dksX3_works_6 15 rfl rfl)
theorem dX3_works_155 : decode cX3_works 155 = .ok (.getfield 39, 3) := dk_180 0 39 (dk_at dksX3_works_6 16 rfl rfl)
theorem dX3_works_158 : decode cX3_works 158 = .ok (.iconst 0, 1) := dk_3 (dk_at dksX3_works_6 19 rfl rfl)
theorem dX3_works_159 : decode cX3_works 159 = .ok (.aload_n 0, 1) := dk_42 (dk_at dksX3_works_6 20 rfl rfl)
theorem dX3_works_160 : decode cX3_works 160 = .ok (.invokevirtual 161, 3) := dk_182 0 161 (dk_at dksX3_works_6 21 rfl rfl)
theorem dX3_works_163 : decode cX3_works 163 = .ok (.lastore, 1) := dk_80 (dk_at dksX3_works_7 0 rfl rfl)
theorem dX3_works_164 : decode cX3_works 164 = .ok (.aload_n 0, 1) := dk_42 (dk_at dksX3_works_7 1 rfl rfl)
theorem dX3_works_165 : decode cX3_works 165 = .ok (.getfield 43, 3) := dk_180 0 43 (dk_at dksX3_works_7 2 rfl rfl)
theorem dX3_works_168 : decode cX3_works 168 = .ok (.iconst 0, 1) := dk_3 (dk_at dksX3_works_7 5 rfl rfl)
theorem dX3_works_169 : decode cX3_works 169 = .ok (.lconst 1, 1) := dk_10 (dk_at dksX3_works_7 6 rfl rfl)
theorem dX3_works_170 : decode cX3_works 170 = .ok (.lastore, 1) := dk_80 (dk_at dksX3_works_7 7 rfl rfl)
theorem dX3_works_171 : decode cX3_works 171 = .ok (.iconst 0, 1) := dk_3 (dk_at dksX3_works_7 8 rfl rfl)
theorem dX3_works_172 : decode cX3_works 172 = .ok (.istore_n 2, 1) := dk_61 (dk_at dksX3_works_7 9 rfl rfl)
theorem dX3_works_173 : decode cX3_works 173 = .ok (.iload_n 2, 1) := dk_28 (dk_at dksX3_works_7 10 rfl rfl)
theorem dX3_works_174 : decode cX3_works 174 = .ok (.iload_n 1, 1) := dk_27 (dk_at dksX3_works_7 11 rfl rfl)
theorem dX3_works_175 : decode cX3_works 175 = .ok (.if_icmp .ge 347, 3) := dk_162 1 91 (dk_at dksX3_works_7 12 rfl rfl)
theorem dX3_works_178 : decode cX3_works 178 = .ok (.aload_n 0, 1) := dk_42 (dk_at dksX3_works_7 15 rfl rfl)
theorem dX3_works_179 : decode cX3_works 179 = .ok (.aload_n 0, 1) := dk_42 (dk_at dksX3_works_7 16 rfl rfl)
theorem dX3_works_180 : decode cX3_works 180 = .ok (.getfield 193, 3) := dk_180 0 193 (dk_at dksX3_works_7 17 rfl rfl)
theorem dX3_works_183 : decode cX3_works 183 = .ok (.aload_n 0, 1) := dk_42 (dk_at dksX3_works_7 20 rfl rfl)
theorem dX3_works_184 : decode cX3_works 184 = .ok (.getfield 187, 3) := dk_180 0 187 (dk_at dksX3_works_7 21 rfl rfl)
theorem dX3_works_187 : decode cX3_works 187 = .ok (.if_icmp .le 10, 3) := dk_164 0 10 (dk_at dksX3_works_8 0 rfl rfl)
theorem dX3_works_190 : decode cX3_works 190 = .ok (.aload_n 0, 1) := dk_42 (dk_at dksX3_works_8 3 rfl rfl)
theorem dX3_works_191 : decode cX3_works 191 = .ok (.getfield 193, 3) := dk_180 0 193 (dk_at dksX3_works_8 4 rfl rfl)
theorem dX3_works_194 : decode cX3_works 194 = .ok (.goto 7, 3) := dk_167 0 7 (dk_at dksX3_works_8 7 rfl rfl)
theorem dX3_works_197 : decode cX3_works 197 = .ok (.aload_n 0, 1) := dk_42 (dk_at dksX3_works_8 10 rfl rfl)
theorem dX3_works_198 : decode cX3_works 198 = .ok (.getfield 187, 3) := dk_180 0 187 (dk_at dksX3_works_8 11 rfl rfl)
theorem dX3_works_201 : decode cX3_works 201 = .ok (.putfield 187, 3) := dk_181 0 187 (dk_at dksX3_works_8 14 rfl rfl)
theorem dX3_works_204 : decode cX3_works 204 = .ok (.iload_n 2, 1) := dk_28 (dk_at dksX3_works_8 17 rfl rfl)
theorem dX3_works_205 : decode cX3_works 205 = .ok (.aload_n 0, 1) := dk_42 (dk_at dksX3_works_8 18 rfl rfl)
theorem dX3_works_206 : decode cX3_works 206 = .ok (.getfield 148, 3) := dk_180 0 148 (dk_at dksX3_works_8 19 rfl rfl)
theorem dX3_works_209 : decode cX3_works 209 = .ok (.idiv, 1) := dk_108 (dk_at dksX3_works_8 22 rfl rfl)
theorem dX3_works_210 : decode cX3_works 210 = .ok (.istore_n 3, 1) := dk_62 (dk_at dksX3_works_8 23 rfl rfl)
theorem dX3_works_211 : decode cX3_works 211 = .ok (.aload_n 0, 1) := dk_42 (dk_at dksX3_works_9 0 rfl rfl)
theorem dX3_works_212 : decode cX3_works 212 = .ok (.getfield 29, 3) := dk_180 0 29 (dk_at dksX3_works_9 1 rfl rfl)
theorem dX3_works_215 : decode cX3_works 215 = .ok (.iload_n 2, 1) := dk_28 (dk_at dksX3_works_9 4 rfl rfl)
theorem dX3_works_216 : decode cX3_works 216 = .ok (.aload_n 0, 1) := dk_42 (dk_at dksX3_works_9 5 rfl rfl)
theorem dX3_works_217 : decode cX3_works 217 = .ok (.getfield 148, 3) := dk_180 0 148 (dk_at dksX3_works_9 6 rfl rfl)
theorem dX3_works_220 : decode cX3_works 220 = .ok (.irem, 1) := dk_112 (dk_at dksX3_works_9 9 rfl rfl)
theorem dX3_works_221 : decode cX3_works 221 = .ok (.iaload, 1) := dk_46 (dk_at dksX3_works_9 10 rfl rfl)
theorem dX3_works_222 : decode cX3_works 222 = .ok (.istore 4, 2) := dk_54 4 (dk_at dksX3_works_9 11 rfl rfl)
theorem dX3_works_224 : decode cX3_works 224 = .ok (.aload_n 0, 1) := dk_42 (dk_at dksX3_works_9 13 rfl rfl)
theorem dX3_works_225 : decode cX3_works 225 = .ok (.getfield 64, 3) := dk_180 0 64 (dk_at dksX3_works_9 14 rfl rfl)
theorem dX3_works_228 : decode cX3_works 228 = .ok (.iload_n 1, 1) := dk_27 (dk_at dksX3_works_9 17 rfl rfl)
theorem dX3_works_229 : decode cX3_works 229 = .ok (.iconst 1, 1) := dk_4 (dk_at dksX3_works_9 18 rfl rfl)
theorem dX3_works_230 : decode cX3_works 230 = .ok (.isub, 1) := dk_100 (dk_at dksX3_works_9 19 rfl rfl)
theorem dX3_works_231 : decode cX3_works 231 = .ok (.iload_n 2, 1) := dk_28 (dk_at dksX3_works_9 20 rfl rfl)
theorem dX3_works_232 : decode cX3_works 232 = .ok (.isub, 1) := dk_100 (dk_at dksX3_works_9 21 rfl rfl)
theorem dX3_works_233 : decode cX3_works 233 = .ok (.laload, 1) := dk_47 (dk_at dksX3_works_9 22 rfl rfl)
theorem dX3_works_234 : decode cX3_works 234 = .ok (.lstore 5, 2) := dk_55 5 (dk_at dksX3_works_10 0 rfl rfl)
theorem dX3_works_236 : decode cX3_works 236 = .ok (.aload_n 0, 1) := dk_42 (dk_at dksX3_works_10 2 rfl rfl)
theorem dX3_works_237 : decode cX3_works 237 = .ok (.iconst 0, 1) := dk_3 (dk_at dksX3_works_10 3 rfl rfl)
theorem dX3_works_238 : decode cX3_works 238 = .ok (.putfield 169, 3) := dk_181 0 169 (dk_at dksX3_works_10 4 rfl rfl)
theorem dX3_works_241 : decode cX3_works 241 = .ok (.iconst 0, 1) := dk_3 (dk_at dksX3_works_10 7 rfl rfl)
theorem dX3_works_242 : decode cX3_works 242 = .ok (.istore 7, 2) := dk_54 7 (dk_at dksX3_works_10 8 rfl rfl)
theorem dX3_works_244 : decode cX3_works 244 = .ok (.iload 7, 2) := dk_21 7 (dk_at dksX3_works_10 10 rfl rfl)
theorem dX3_works_246 : decode cX3_works 246 = .ok (.sipush 2048, 3) := dk_17 8 0 (dk_at dksX3_works_10 12 rfl rfl)
theorem dX3_works_249 : decode cX3_works 249 = .ok (.if_icmp .ge 17, 3) := dk_162 0 17 (dk_at dksX3_works_10 15 rfl rfl)
theorem dX3_works_252 : decode cX3_works 252 = .ok (.aload_n 0, 1) := dk_42 (dk_at dksX3_works_10 18 rfl rfl)
theorem dX3_works_253 : decode cX3_works 253 = .ok (.getfield 52, 3) := dk_180 0 52 (dk_at dksX3_works_10 19 rfl rfl)
theorem dX3_works_256 : decode cX3_works 256 = .ok (.iload 7, 2) := dk_21 7 (dk_at dksX3_works_10 22 rfl rfl)
theorem dX3_works_258 : decode cX3_works 258 = .ok (.iconst 0, 1) := dk_3 (dk_at dksX3_works_11 0 rfl rfl)
theorem dX3_works_259 : decode cX3_works 259 = .ok (.iastore, 1) := dk_79 (dk_at dksX3_works_11 1 rfl rfl)
theorem dX3_works_260 : decode cX3_works 260 = .ok (.iinc 7 1, 3) := dk_132 7 1 (dk_at dksX3_works_11 2 rfl rfl)
theorem dX3_works_263 : decode cX3_works 263 = .ok (.goto (-19), 3) := dk_167 255 237 (dk_at dksX3_works_11 5 rfl rfl)
theorem dX3_works_266 : decode cX3_works 266 = .ok (.iconst 0, 1) := dk_3 (dk_at dksX3_works_11 8 rfl rfl)
theorem dX3_works_267 : decode cX3_works 267 = .ok (.istore 7, 2) := dk_54 7 (dk_at dksX3_works_11 9 rfl rfl)
theorem dX3_works_269 : decode cX3_works 269 = .ok (.iload 7, 2) := dk_21 7 (dk_at dksX3_works_11 11 rfl rfl)
theorem dX3_works_271 : decode cX3_works 271 = .ok (.aload_n 0, 1) := dk_42 (dk_at dksX3_works_11 13 rfl rfl)
theorem dX3_works_272 : decode cX3_works 272 = .ok (.getfield 193, 3) := dk_180 0 193 (dk_at dksX3_works_11 14 rfl rfl)
theorem dX3_works_275 : decode cX3_works 275 = .ok (.if_icmp .ge 160, 3) := dk_162 0 160 (dk_at dksX3_works_11 17 rfl rfl)
theorem dX3_works_278 : decode cX3_works 278 = .ok (.aload_n 0, 1) := dk_42 (dk_at dksX3_works_11 20 rfl rfl)
theorem dX3_works_279 : decode cX3_works 279 = .ok (.aload_n 0, 1) := dk_42 (dk_at dksX3_works_11 21 rfl rfl)
theorem dX3_works_280 : decode cX3_works 280 = .ok (.getfield 39, 3) := dk_180 0 39 (dk_at dksX3_works_12 0 rfl rfl)
theorem dX3_works_283 : decode cX3_works 283 = .ok (.iload 7, 2) := dk_21 7 (dk_at dksX3_works_12 3 rfl rfl)
theorem dX3_works_285 : decode cX3_works 285 = .ok (.laload, 1) := dk_47 (dk_at dksX3_works_12 5 rfl rfl)
theorem dX3_works_286 : decode cX3_works 286 = .ok (.invokevirtual 196, 3) := dk_182 0 196 (dk_at dksX3_works_12 6 rfl rfl)
theorem dX3_works_289 : decode cX3_works 289 = .ok (.aload_n 0, 1) := dk_42 (dk_at dksX3_works_12 9 rfl rfl)
theorem dX3_works_290 : decode cX3_works 290 = .ok (.iload 4, 2) := dk_21 4 (dk_at dksX3_works_12 10 rfl rfl)
theorem dX3_works_292 : decode cX3_works 292 = .ok (.iload_n 3, 1) := dk_29 (dk_at dksX3_works_12 12 rfl rfl)
theorem dX3_works_293 : decode cX3_works 293 = .ok (.invokevirtual 199, 3) := dk_182 0 199 (dk_at dksX3_works_12 13 rfl rfl)
theorem dX3_works_296 : decode cX3_works 296 = .ok (.ifCond .ne 21, 3) := dk_154 0 21 (dk_at dksX3_works_12 16 rfl rfl)
theorem dX3_works_299 : decode cX3_works 299 = .ok (.aload_n 0, 1) := dk_42 (dk_at dksX3_works_12 19 rfl rfl)
theorem dX3_works_300 : decode cX3_works 300 = .ok (.ldc2_w 113, 3) := dk_20 0 113 (dk_at dksX3_works_12 20 rfl rfl)
theorem dX3_works_303 : decode cX3_works 303 = .ok (.aload_n 0, 1) := dk_42 (dk_at dksX3_works_12 23 rfl rfl)
theorem dX3_works_304 : decode cX3_works 304 = .ok (.getfield 43, 3) := dk_180 0 43 (dk_at dksX3_works_13 0 rfl rfl)
theorem dX3_works_307 : decode cX3_works 307 = .ok (.iload 7, 2) := dk_21 7 (dk_at dksX3_works_13 3 rfl rfl)
theorem dX3_works_309 : decode cX3_works 309 = .ok (.laload, 1) := dk_47 (dk_at dksX3_works_13 5 rfl rfl)
theorem dX3_works_310 : decode cX3_works 310 = .ok (.lmul, 1) := dk_105 (dk_at dksX3_works_13 6 rfl rfl)
theorem dX3_works_311 : decode cX3_works 311 = .ok (.invokevirtual 180, 3) := dk_182 0 180 (dk_at dksX3_works_13 7 rfl rfl)
theorem dX3_works_314 : decode cX3_works 314 = .ok (.goto 115, 3) := dk_167 0 115 (dk_at dksX3_works_13 10 rfl rfl)
theorem dX3_works_317 : decode cX3_works 317 = .ok (.aload_n 0, 1) := dk_42 (dk_at dksX3_works_13 13 rfl rfl)
theorem dX3_works_318 : decode cX3_works 318 = .ok (.iload 4, 2) := dk_21 4 (dk_at dksX3_works_13 14 rfl rfl)
theorem dX3_works_320 : decode cX3_works 320 = .ok (.invokevirtual 202, 3) := dk_182 0 202 (dk_at dksX3_works_13 16 rfl rfl)
theorem dX3_works_323 : decode cX3_works 323 = .ok (.ifCond .eq 32, 3) := dk_153 0 32 (dk_at dksX3_works_13 19 rfl rfl)
theorem dX3_works_326 : decode cX3_works 326 = .ok (.aload_n 0, 1) := dk_42 (dk_at dksX3_works_13 22 rfl rfl)
theorem dX3_works_327 : decode cX3_works 327 = .ok (.getfield 35, 3) := dk_180 0 35 (dk_at dksX3_works_14 0 rfl rfl)
theorem dX3_works_330 : decode cX3_works 330 = .ok (.iload 4, 2) := dk_21 4 (dk_at dksX3_works_14 3 rfl rfl)
theorem dX3_works_332 : decode cX3_works 332 = .ok (.iconst 0, 1) := dk_3 (dk_at dksX3_works_14 5 rfl rfl)
theorem dX3_works_333 : decode cX3_works 333 = .ok (.bastore, 1) := dk_84 (dk_at dksX3_works_14 6 rfl rfl)
theorem dX3_works_334 : decode cX3_works 334 = .ok (.aload_n 0, 1) := dk_42 (dk_at dksX3_works_14 7 rfl rfl)
theorem dX3_works_335 : decode cX3_works 335 = .ok (.iload_n 3, 1) := dk_29 (dk_at dksX3_works_14 8 rfl rfl)
theorem dX3_works_336 : decode cX3_works 336 = .ok (.ldc2_w 113, 3) := dk_20 0 113 (dk_at dksX3_works_14 9 rfl rfl)
theorem dX3_works_339 : decode cX3_works 339 = .ok (.aload_n 0, 1) := dk_42 (dk_at dksX3_works_14 12 rfl rfl)
theorem dX3_works_340 : decode cX3_works 340 = .ok (.getfield 43, 3) := dk_180 0 43 (dk_at dksX3_works_14 13 rfl rfl)
theorem dX3_works_343 : decode cX3_works 343 = .ok (.iload 7, 2) := dk_21 7 (dk_at dksX3_works_14 16 rfl rfl)
theorem dX3_works_345 : decode cX3_works 345 = .ok (.laload, 1) := dk_47 (dk_at dksX3_works_14 18 rfl rfl)
theorem dX3_works_346 : decode cX3_works 346 = .ok (.lmul, 1) := dk_105 (dk_at dksX3_works_14 19 rfl rfl)
theorem dX3_works_347 : decode cX3_works 347 = .ok (.lload 5, 2) := dk_22 5 (dk_at dksX3_works_14 20 rfl rfl)
theorem dX3_works_349 : decode cX3_works 349 = .ok (.invokevirtual 205, 3) := dk_182 0 205 (dk_at dksX3_works_15 0 rfl rfl)
theorem dX3_works_352 : decode cX3_works 352 = .ok (.goto 77, 3) := dk_167 0 77 (dk_at dksX3_works_15 3 rfl rfl)
theorem dX3_works_355 : decode cX3_works 355 = .ok (.aload_n 0, 1) := dk_42 (dk_at dksX3_works_15 6 rfl rfl)
theorem dX3_works_356 : decode cX3_works 356 = .ok (.getfield 7, 3) := dk_180 0 7 (dk_at dksX3_works_15 7 rfl rfl)
theorem dX3_works_359 : decode cX3_works 359 = .ok (.bipush 6, 2) := dk_16 6 (dk_at dksX3_works_15 10 rfl rfl)
theorem dX3_works_361 : decode cX3_works 361 = .ok (.aload_n 0, 1) := dk_42 (dk_at dksX3_works_15 12 rfl rfl)
theorem dX3_works_362 : decode cX3_works 362 = .ok (.getfield 23, 3) := dk_180 0 23 (dk_at dksX3_works_15 13 rfl rfl)
theorem dX3_works_365 : decode cX3_works 365 = .ok (.iload 4, 2) := dk_21 4 (dk_at dksX3_works_15 16 rfl rfl)
theorem dX3_works_367 : decode cX3_works 367 = .ok (.iaload, 1) := dk_46 (dk_at dksX3_works_15 18 rfl rfl)
theorem dX3_works_368 : decode cX3_works 368 = .ok (.imul, 1) := dk_104 (dk_at dksX3_works_15 19 rfl rfl)
theorem dX3_works_369 : decode cX3_works 369 = .ok (.iconst 2, 1) := dk_5 (dk_at dksX3_works_15 20 rfl rfl)
theorem dX3_works_370 : decode cX3_works 370 = .ok (.iadd, 1) := dk_96 (dk_at dksX3_works_15 21 rfl rfl)
theorem dX3_works_371 : decode cX3_works 371 = .ok (.iaload, 1) := dk_46 (dk_at dksX3_works_15 22 rfl rfl)
theorem dX3_works_372 : decode cX3_works 372 = .ok (.istore 8, 2) := dk_54 8 (dk_at dksX3_works_16 0 rfl rfl)
theorem dX3_works_374 : decode cX3_works 374 = .ok (.iload 8, 2) := dk_21 8 (dk_at dksX3_works_16 2 rfl rfl)
theorem dX3_works_376 : decode cX3_works 376 = .ok (.bipush 6, 2) := dk_16 6 (dk_at dksX3_works_16 4 rfl rfl)
theorem dX3_works_378 : decode cX3_works 378 = .ok (.if_icmp .ge 22, 3) := dk_162 0 22 (dk_at dksX3_works_16 6 rfl rfl)
theorem dX3_works_381 : decode cX3_works 381 = .ok (.aload_n 0, 1) := dk_42 (dk_at dksX3_works_16 9 rfl rfl)
theorem dX3_works_382 : decode cX3_works 382 = .ok (.ldc2_w 113, 3) := dk_20 0 113 (dk_at dksX3_works_16 10 rfl rfl)
theorem dX3_works_385 : decode cX3_works 385 = .ok (.iload 8, 2) := dk_21 8 (dk_at dksX3_works_16 13 rfl rfl)
theorem dX3_works_387 : decode cX3_works 387 = .ok (.i2l, 1) := dk_133 (dk_at dksX3_works_16 15 rfl rfl)
theorem dX3_works_388 : decode cX3_works 388 = .ok (.lsub, 1) := dk_101 (dk_at dksX3_works_16 16 rfl rfl)
theorem dX3_works_389 : decode cX3_works 389 = .ok (.aload_n 0, 1) := dk_42 (dk_at dksX3_works_16 17 rfl rfl)
theorem dX3_works_390 : decode cX3_works 390 = .ok (.getfield 43, 3) := dk_180 0 43 (dk_at dksX3_works_16 18 rfl rfl)
theorem dX3_works_393 : decode cX3_works 393 = .ok (.iload 7, 2) := dk_21 7 (dk_at dksX3_works_16 21 rfl rfl)
theorem dX3_works_395 : decode cX3_works 395 = .ok (.laload, 1) := dk_47 (dk_at dksX3_works_16 23 rfl rfl)
theorem dX3_works_396 : decode cX3_works 396 = .ok (.lmul, 1) := dk_105 (dk_at dksX3_works_17 0 rfl rfl)
theorem dX3_works_397 : decode cX3_works 397 = .ok (.invokevirtual 180, 3) := dk_182 0 180 (dk_at dksX3_works_17 1 rfl rfl)
theorem dX3_works_400 : decode cX3_works 400 = .ok (.iload 8, 2) := dk_21 8 (dk_at dksX3_works_17 4 rfl rfl)
theorem dX3_works_402 : decode cX3_works 402 = .ok (.ifCond .le 27, 3) := dk_158 0 27 (dk_at dksX3_works_17 6 rfl rfl)
theorem dX3_works_405 : decode cX3_works 405 = .ok (.aload_n 0, 1) := dk_42 (dk_at dksX3_works_17 9 rfl rfl)
theorem dX3_works_406 : decode cX3_works 406 = .ok (.iload 4, 2) := dk_21 4 (dk_at dksX3_works_17 10 rfl rfl)
theorem dX3_works_408 : decode cX3_works 408 = .ok (.invokevirtual 209, 3) := dk_182 0 209 (dk_at dksX3_works_17 12 rfl rfl)
theorem dX3_works_411 : decode cX3_works 411 = .ok (.aload_n 0, 1) := dk_42 (dk_at dksX3_works_17 15 rfl rfl)
theorem dX3_works_412 : decode cX3_works 412 = .ok (.iload_n 3, 1) := dk_29 (dk_at dksX3_works_17 16 rfl rfl)
theorem dX3_works_413 : decode cX3_works 413 = .ok (.iload 8, 2) := dk_21 8 (dk_at dksX3_works_17 17 rfl rfl)
theorem dX3_works_415 : decode cX3_works 415 = .ok (.i2l, 1) := dk_133 (dk_at dksX3_works_17 19 rfl rfl)
theorem dX3_works_416 : decode cX3_works 416 = .ok (.aload_n 0, 1) := dk_42 (dk_at dksX3_works_17 20 rfl rfl)
theorem dX3_works_417 : decode cX3_works 417 = .ok (.getfield 43, 3) := dk_180 0 43 (dk_at dksX3_works_17 21 rfl rfl)
theorem dX3_works_420 : decode cX3_works 420 = .ok (.iload 7, 2) := dk_21 7 (dk_at dksX3_works_18 0 rfl rfl)
theorem dX3_works_422 : decode cX3_works 422 = .ok (.laload, 1) := dk_47 (dk_at dksX3_works_18 2 rfl rfl)
theorem dX3_works_423 : decode cX3_works 423 = .ok (.lmul, 1) := dk_105 (dk_at dksX3_works_18 3 rfl rfl)
theorem dX3_works_424 : decode cX3_works 424 = .ok (.lload 5, 2) := dk_22 5 (dk_at dksX3_works_18 4 rfl rfl)
theorem dX3_works_426 : decode cX3_works 426 = .ok (.invokevirtual 205, 3) := dk_182 0 205 (dk_at dksX3_works_18 6 rfl rfl)
theorem dX3_works_429 : decode cX3_works 429 = .ok (.iinc 7 1, 3) := dk_132 7 1 (dk_at dksX3_works_18 9 rfl rfl)
theorem dX3_works_432 : decode cX3_works 432 = .ok (.goto (-163), 3) := dk_167 255 93 (dk_at dksX3_works_18 12 rfl rfl)
theorem dX3_works_435 : decode cX3_works 435 = .ok (.iload_n 2, 1) := dk_28 (dk_at dksX3_works_18 15 rfl rfl)
theorem dX3_works_436 : decode cX3_works 436 = .ok (.iconst 1, 1) := dk_4 (dk_at dksX3_works_18 16 rfl rfl)
theorem dX3_works_437 : decode cX3_works 437 = .ok (.iadd, 1) := dk_96 (dk_at dksX3_works_18 17 rfl rfl)
theorem dX3_works_438 : decode cX3_works 438 = .ok (.iload_n 1, 1) := dk_27 (dk_at dksX3_works_18 18 rfl rfl)
theorem dX3_works_439 : decode cX3_works 439 = .ok (.if_icmp .ge 16, 3) := dk_162 0 16 (dk_at dksX3_works_18 19 rfl rfl)
theorem dX3_works_442 : decode cX3_works 442 = .ok (.aload_n 0, 1) := dk_42 (dk_at dksX3_works_18 22 rfl rfl)
theorem dX3_works_443 : decode cX3_works 443 = .ok (.getfield 169, 3) := dk_180 0 169 (dk_at dksX3_works_19 0 rfl rfl)
theorem dX3_works_446 : decode cX3_works 446 = .ok (.sipush 400, 3) := dk_17 1 144 (dk_at dksX3_works_19 3 rfl rfl)
theorem dX3_works_449 : decode cX3_works 449 = .ok (.if_icmp .le 6, 3) := dk_164 0 6 (dk_at dksX3_works_19 6 rfl rfl)
theorem dX3_works_452 : decode cX3_works 452 = .ok (.bipush (-5), 2) := dk_16 251 (dk_at dksX3_works_19 9 rfl rfl)
theorem dX3_works_454 : decode cX3_works 454 = .ok (.ireturn, 1) := dk_172 (dk_at dksX3_works_19 11 rfl rfl)
theorem dX3_works_455 : decode cX3_works 455 = .ok (.iload_n 2, 1) := dk_28 (dk_at dksX3_works_19 12 rfl rfl)
theorem dX3_works_456 : decode cX3_works 456 = .ok (.iconst 1, 1) := dk_4 (dk_at dksX3_works_19 13 rfl rfl)
theorem dX3_works_457 : decode cX3_works 457 = .ok (.iadd, 1) := dk_96 (dk_at dksX3_works_19 14 rfl rfl)
theorem dX3_works_458 : decode cX3_works 458 = .ok (.iload_n 1, 1) := dk_27 (dk_at dksX3_works_19 15 rfl rfl)
theorem dX3_works_459 : decode cX3_works 459 = .ok (.if_icmp .ge 57, 3) := dk_162 0 57 (dk_at dksX3_works_19 16 rfl rfl)
theorem dX3_works_462 : decode cX3_works 462 = .ok (.aload_n 0, 1) := dk_42 (dk_at dksX3_works_19 19 rfl rfl)
theorem dX3_works_463 : decode cX3_works 463 = .ok (.aload_n 0, 1) := dk_42 (dk_at dksX3_works_19 20 rfl rfl)
theorem dX3_works_464 : decode cX3_works 464 = .ok (.getfield 169, 3) := dk_180 0 169 (dk_at dksX3_works_19 21 rfl rfl)
theorem dX3_works_467 : decode cX3_works 467 = .ok (.putfield 193, 3) := dk_181 0 193 (dk_at dksX3_works_20 0 rfl rfl)
theorem dX3_works_470 : decode cX3_works 470 = .ok (.iconst 0, 1) := dk_3 (dk_at dksX3_works_20 3 rfl rfl)
theorem dX3_works_471 : decode cX3_works 471 = .ok (.istore 7, 2) := dk_54 7 (dk_at dksX3_works_20 4 rfl rfl)
theorem dX3_works_473 : decode cX3_works 473 = .ok (.iload 7, 2) := dk_21 7 (dk_at dksX3_works_20 6 rfl rfl)
theorem dX3_works_475 : decode cX3_works 475 = .ok (.aload_n 0, 1) := dk_42 (dk_at dksX3_works_20 8 rfl rfl)
theorem dX3_works_476 : decode cX3_works 476 = .ok (.getfield 169, 3) := dk_180 0 169 (dk_at dksX3_works_20 9 rfl rfl)
theorem dX3_works_479 : decode cX3_works 479 = .ok (.if_icmp .ge 37, 3) := dk_162 0 37 (dk_at dksX3_works_20 12 rfl rfl)
theorem dX3_works_482 : decode cX3_works 482 = .ok (.aload_n 0, 1) := dk_42 (dk_at dksX3_works_20 15 rfl rfl)
theorem dX3_works_483 : decode cX3_works 483 = .ok (.getfield 39, 3) := dk_180 0 39 (dk_at dksX3_works_20 16 rfl rfl)
theorem dX3_works_486 : decode cX3_works 486 = .ok (.iload 7, 2) := dk_21 7 (dk_at dksX3_works_20 19 rfl rfl)
theorem dX3_works_488 : decode cX3_works 488 = .ok (.aload_n 0, 1) := dk_42 (dk_at dksX3_works_20 21 rfl rfl)
theorem dX3_works_489 : decode cX3_works 489 = .ok (.getfield 46, 3) := dk_180 0 46 (dk_at dksX3_works_21 0 rfl rfl)
theorem dX3_works_492 : decode cX3_works 492 = .ok (.iload 7, 2) := dk_21 7 (dk_at dksX3_works_21 3 rfl rfl)
theorem dX3_works_494 : decode cX3_works 494 = .ok (.laload, 1) := dk_47 (dk_at dksX3_works_21 5 rfl rfl)
theorem dX3_works_495 : decode cX3_works 495 = .ok (.lastore, 1) := dk_80 (dk_at dksX3_works_21 6 rfl rfl)
theorem dX3_works_496 : decode cX3_works 496 = .ok (.aload_n 0, 1) := dk_42 (dk_at dksX3_works_21 7 rfl rfl)
theorem dX3_works_497 : decode cX3_works 497 = .ok (.getfield 43, 3) := dk_180 0 43 (dk_at dksX3_works_21 8 rfl rfl)
theorem dX3_works_500 : decode cX3_works 500 = .ok (.iload 7, 2) := dk_21 7 (dk_at dksX3_works_21 11 rfl rfl)
theorem dX3_works_502 : decode cX3_works 502 = .ok (.aload_n 0, 1) := dk_42 (dk_at dksX3_works_21 13 rfl rfl)
theorem dX3_works_503 : decode cX3_works 503 = .ok (.getfield 49, 3) := dk_180 0 49 (dk_at dksX3_works_21 14 rfl rfl)
theorem dX3_works_506 : decode cX3_works 506 = .ok (.iload 7, 2) := dk_21 7 (dk_at dksX3_works_21 17 rfl rfl)
theorem dX3_works_508 : decode cX3_works 508 = .ok (.laload, 1) := dk_47 (dk_at dksX3_works_21 19 rfl rfl)
theorem dX3_works_509 : decode cX3_works 509 = .ok (.lastore, 1) := dk_80 (dk_at dksX3_works_21 20 rfl rfl)
theorem dX3_works_510 : decode cX3_works 510 = .ok (.iinc 7 1, 3) := dk_132 7 1 (dk_at dksX3_works_21 21 rfl rfl)
theorem dX3_works_513 : decode cX3_works 513 = .ok (.goto (-40), 3) := dk_167 255 216 (dk_at dksX3_works_22 0 rfl rfl)
theorem dX3_works_516 : decode cX3_works 516 = .ok (.iinc 2 1, 3) := dk_132 2 1 (dk_at dksX3_works_22 3 rfl rfl)
theorem dX3_works_519 : decode cX3_works 519 = .ok (.goto (-346), 3) := dk_167 254 166 (dk_at dksX3_works_22 6 rfl rfl)
theorem dX3_works_522 : decode cX3_works 522 = .ok (.iconst 0, 1) := dk_3 (dk_at dksX3_works_22 9 rfl rfl)
theorem dX3_works_523 : decode cX3_works 523 = .ok (.istore_n 2, 1) := dk_61 (dk_at dksX3_works_22 10 rfl rfl)
theorem dX3_works_524 : decode cX3_works 524 = .ok (.iload_n 2, 1) := dk_28 (dk_at dksX3_works_22 11 rfl rfl)
theorem dX3_works_525 : decode cX3_works 525 = .ok (.aload_n 0, 1) := dk_42 (dk_at dksX3_works_22 12 rfl rfl)
theorem dX3_works_526 : decode cX3_works 526 = .ok (.getfield 169, 3) := dk_180 0 169 (dk_at dksX3_works_22 13 rfl rfl)
theorem dX3_works_529 : decode cX3_works 529 = .ok (.if_icmp .ge 34, 3) := dk_162 0 34 (dk_at dksX3_works_22 16 rfl rfl)
theorem dX3_works_532 : decode cX3_works 532 = .ok (.aload_n 0, 1) := dk_42 (dk_at dksX3_works_22 19 rfl rfl)
theorem dX3_works_533 : decode cX3_works 533 = .ok (.aload_n 0, 1) := dk_42 (dk_at dksX3_works_22 20 rfl rfl)
theorem dX3_works_534 : decode cX3_works 534 = .ok (.getfield 46, 3) := dk_180 0 46 (dk_at dksX3_works_22 21 rfl rfl)
theorem dX3_works_537 : decode cX3_works 537 = .ok (.iload_n 2, 1) := dk_28 (dk_at dksX3_works_23 0 rfl rfl)
theorem dX3_works_538 : decode cX3_works 538 = .ok (.laload, 1) := dk_47 (dk_at dksX3_works_23 1 rfl rfl)
theorem dX3_works_539 : decode cX3_works 539 = .ok (.invokevirtual 196, 3) := dk_182 0 196 (dk_at dksX3_works_23 2 rfl rfl)
theorem dX3_works_542 : decode cX3_works 542 = .ok (.aload_n 0, 1) := dk_42 (dk_at dksX3_works_23 5 rfl rfl)
theorem dX3_works_543 : decode cX3_works 543 = .ok (.iconst 2, 1) := dk_5 (dk_at dksX3_works_23 6 rfl rfl)
theorem dX3_works_544 : decode cX3_works 544 = .ok (.aload_n 0, 1) := dk_42 (dk_at dksX3_works_23 7 rfl rfl)
theorem dX3_works_545 : decode cX3_works 545 = .ok (.getfield 16, 3) := dk_180 0 16 (dk_at dksX3_works_23 8 rfl rfl)
theorem dX3_works_548 : decode cX3_works 548 = .ok (.aload_n 0, 1) := dk_42 (dk_at dksX3_works_23 11 rfl rfl)
theorem dX3_works_549 : decode cX3_works 549 = .ok (.getfield 49, 3) := dk_180 0 49 (dk_at dksX3_works_23 12 rfl rfl)
theorem dX3_works_552 : decode cX3_works 552 = .ok (.iload_n 2, 1) := dk_28 (dk_at dksX3_works_23 15 rfl rfl)
theorem dX3_works_553 : decode cX3_works 553 = .ok (.laload, 1) := dk_47 (dk_at dksX3_works_23 16 rfl rfl)
theorem dX3_works_554 : decode cX3_works 554 = .ok (.invokevirtual 176, 3) := dk_182 0 176 (dk_at dksX3_works_23 17 rfl rfl)
theorem dX3_works_557 : decode cX3_works 557 = .ok (.iinc 2 1, 3) := dk_132 2 1 (dk_at dksX3_works_23 20 rfl rfl)
theorem dX3_works_560 : decode cX3_works 560 = .ok (.goto (-36), 3) := dk_167 255 220 (dk_at dksX3_works_24 0 rfl rfl)
theorem dX3_works_563 : decode cX3_works 563 = .ok (.iconst 0, 1) := dk_3 (dk_at dksX3_works_24 3 rfl rfl)
theorem dX3_works_564 : decode cX3_works 564 = .ok (.ireturn, 1) := dk_172 (dk_at dksX3_works_24 4 rfl rfl)
abbrev cX3_winner : ByteArray := prog_12_method_17_code
def yX3_winner : MethodName := ⟨RX3, "winner", "()I"⟩
def dkwX3_winner_2 : List UInt8 := [180, 0, 35, 8, 51, 154, 0, 7, 3, 167, 0, 4, 5, 172]
abbrev dktX3_winner_2 : List UInt8 := dkwX3_winner_2 ++ []
def dkwX3_winner_1 : List UInt8 := [154, 0, 5, 4, 172, 42, 180, 0, 35, 6, 51, 154, 0, 25, 42, 180, 0, 35, 7, 51, 154, 0, 16, 42]
abbrev dktX3_winner_1 : List UInt8 := dkwX3_winner_1 ++ dktX3_winner_2
def dkwX3_winner_0 : List UInt8 := [42, 180, 0, 35, 3, 51, 154, 0, 23, 42, 180, 0, 35, 4, 51, 154, 0, 14, 42, 180, 0, 35, 5, 51]
abbrev dktX3_winner_0 : List UInt8 := dkwX3_winner_0 ++ dktX3_winner_1
theorem dksX3_winner_0 : cX3_winner.data.toList.drop 0 = dktX3_winner_0 := by decide +kernel
theorem dksX3_winner_1 : cX3_winner.data.toList.drop 24 = dktX3_winner_1 := dk_seg dksX3_winner_0 24 rfl rfl
theorem dksX3_winner_2 : cX3_winner.data.toList.drop 48 = dktX3_winner_2 := dk_seg dksX3_winner_1 24 rfl rfl
theorem dX3_winner_0 : decode cX3_winner 0 = .ok (.aload_n 0, 1) := dk_42 (dk_at dksX3_winner_0 0 rfl rfl)
theorem dX3_winner_1 : decode cX3_winner 1 = .ok (.getfield 35, 3) := dk_180 0 35 (dk_at dksX3_winner_0 1 rfl rfl)
theorem dX3_winner_4 : decode cX3_winner 4 = .ok (.iconst 0, 1) := dk_3 (dk_at dksX3_winner_0 4 rfl rfl)
theorem dX3_winner_5 : decode cX3_winner 5 = .ok (.baload, 1) := dk_51 (dk_at dksX3_winner_0 5 rfl rfl)
theorem dX3_winner_6 : decode cX3_winner 6 = .ok (.ifCond .ne 23, 3) := dk_154 0 23 (dk_at dksX3_winner_0 6 rfl rfl)
theorem dX3_winner_9 : decode cX3_winner 9 = .ok (.aload_n 0, 1) := dk_42 (dk_at dksX3_winner_0 9 rfl rfl)
theorem dX3_winner_10 : decode cX3_winner 10 = .ok (.getfield 35, 3) := dk_180 0 35 (dk_at dksX3_winner_0 10 rfl rfl)
theorem dX3_winner_13 : decode cX3_winner 13 = .ok (.iconst 1, 1) := dk_4 (dk_at dksX3_winner_0 13 rfl rfl)
theorem dX3_winner_14 : decode cX3_winner 14 = .ok (.baload, 1) := dk_51 (dk_at dksX3_winner_0 14 rfl rfl)
theorem dX3_winner_15 : decode cX3_winner 15 = .ok (.ifCond .ne 14, 3) := dk_154 0 14 (dk_at dksX3_winner_0 15 rfl rfl)
theorem dX3_winner_18 : decode cX3_winner 18 = .ok (.aload_n 0, 1) := dk_42 (dk_at dksX3_winner_0 18 rfl rfl)
theorem dX3_winner_19 : decode cX3_winner 19 = .ok (.getfield 35, 3) := dk_180 0 35 (dk_at dksX3_winner_0 19 rfl rfl)
theorem dX3_winner_22 : decode cX3_winner 22 = .ok (.iconst 2, 1) := dk_5 (dk_at dksX3_winner_0 22 rfl rfl)
theorem dX3_winner_23 : decode cX3_winner 23 = .ok (.baload, 1) := dk_51 (dk_at dksX3_winner_0 23 rfl rfl)
theorem dX3_winner_24 : decode cX3_winner 24 = .ok (.ifCond .ne 5, 3) := dk_154 0 5 (dk_at dksX3_winner_1 0 rfl rfl)
theorem dX3_winner_27 : decode cX3_winner 27 = .ok (.iconst 1, 1) := dk_4 (dk_at dksX3_winner_1 3 rfl rfl)
theorem dX3_winner_28 : decode cX3_winner 28 = .ok (.ireturn, 1) := dk_172 (dk_at dksX3_winner_1 4 rfl rfl)
theorem dX3_winner_29 : decode cX3_winner 29 = .ok (.aload_n 0, 1) := dk_42 (dk_at dksX3_winner_1 5 rfl rfl)
theorem dX3_winner_30 : decode cX3_winner 30 = .ok (.getfield 35, 3) := dk_180 0 35 (dk_at dksX3_winner_1 6 rfl rfl)
theorem dX3_winner_33 : decode cX3_winner 33 = .ok (.iconst 3, 1) := dk_6 (dk_at dksX3_winner_1 9 rfl rfl)
theorem dX3_winner_34 : decode cX3_winner 34 = .ok (.baload, 1) := dk_51 (dk_at dksX3_winner_1 10 rfl rfl)
theorem dX3_winner_35 : decode cX3_winner 35 = .ok (.ifCond .ne 25, 3) := dk_154 0 25 (dk_at dksX3_winner_1 11 rfl rfl)
theorem dX3_winner_38 : decode cX3_winner 38 = .ok (.aload_n 0, 1) := dk_42 (dk_at dksX3_winner_1 14 rfl rfl)
theorem dX3_winner_39 : decode cX3_winner 39 = .ok (.getfield 35, 3) := dk_180 0 35 (dk_at dksX3_winner_1 15 rfl rfl)
theorem dX3_winner_42 : decode cX3_winner 42 = .ok (.iconst 4, 1) := dk_7 (dk_at dksX3_winner_1 18 rfl rfl)
theorem dX3_winner_43 : decode cX3_winner 43 = .ok (.baload, 1) := dk_51 (dk_at dksX3_winner_1 19 rfl rfl)
theorem dX3_winner_44 : decode cX3_winner 44 = .ok (.ifCond .ne 16, 3) := dk_154 0 16 (dk_at dksX3_winner_1 20 rfl rfl)
theorem dX3_winner_47 : decode cX3_winner 47 = .ok (.aload_n 0, 1) := dk_42 (dk_at dksX3_winner_1 23 rfl rfl)
theorem dX3_winner_48 : decode cX3_winner 48 = .ok (.getfield 35, 3) := dk_180 0 35 (dk_at dksX3_winner_2 0 rfl rfl)
theorem dX3_winner_51 : decode cX3_winner 51 = .ok (.iconst 5, 1) := dk_8 (dk_at dksX3_winner_2 3 rfl rfl)
theorem dX3_winner_52 : decode cX3_winner 52 = .ok (.baload, 1) := dk_51 (dk_at dksX3_winner_2 4 rfl rfl)
theorem dX3_winner_53 : decode cX3_winner 53 = .ok (.ifCond .ne 7, 3) := dk_154 0 7 (dk_at dksX3_winner_2 5 rfl rfl)
theorem dX3_winner_56 : decode cX3_winner 56 = .ok (.iconst 0, 1) := dk_3 (dk_at dksX3_winner_2 8 rfl rfl)
theorem dX3_winner_57 : decode cX3_winner 57 = .ok (.goto 4, 3) := dk_167 0 4 (dk_at dksX3_winner_2 9 rfl rfl)
theorem dX3_winner_60 : decode cX3_winner 60 = .ok (.iconst 2, 1) := dk_5 (dk_at dksX3_winner_2 12 rfl rfl)
theorem dX3_winner_61 : decode cX3_winner 61 = .ok (.ireturn, 1) := dk_172 (dk_at dksX3_winner_2 13 rfl rfl)
abbrev cX3_counts : ByteArray := prog_12_method_25_code
def yX3_counts : MethodName := ⟨RX3, "counts", "(IIJ)V"⟩
def dkwX3_counts_3 : List UInt8 := [92, 47, 33, 97, 80, 132, 5, 1, 167, 255, 206, 177]
abbrev dktX3_counts_3 : List UInt8 := dkwX3_counts_3 ++ []
def dkwX3_counts_2 : List UInt8 := [180, 0, 32, 21, 5, 46, 104, 96, 42, 180, 0, 35, 21, 5, 51, 153, 0, 7, 4, 167, 0, 4, 3, 96]
abbrev dktX3_counts_2 : List UInt8 := dkwX3_counts_2 ++ dktX3_counts_3
def dkwX3_counts_1 : List UInt8 := [80, 3, 54, 5, 21, 5, 16, 6, 162, 0, 49, 42, 180, 0, 61, 16, 42, 21, 5, 104, 5, 42]
abbrev dktX3_counts_1 : List UInt8 := dkwX3_counts_1 ++ dktX3_counts_2
def dkwX3_counts_0 : List UInt8 := [42, 180, 0, 55, 27, 92, 47, 33, 97, 80, 27, 5, 162, 0, 13, 42, 180, 0, 58, 28, 92, 47, 33, 97]
abbrev dktX3_counts_0 : List UInt8 := dkwX3_counts_0 ++ dktX3_counts_1
theorem dksX3_counts_0 : cX3_counts.data.toList.drop 0 = dktX3_counts_0 := by decide +kernel
theorem dksX3_counts_1 : cX3_counts.data.toList.drop 24 = dktX3_counts_1 := dk_seg dksX3_counts_0 24 rfl rfl
theorem dksX3_counts_2 : cX3_counts.data.toList.drop 46 = dktX3_counts_2 := dk_seg dksX3_counts_1 22 rfl rfl
theorem dksX3_counts_3 : cX3_counts.data.toList.drop 70 = dktX3_counts_3 := dk_seg dksX3_counts_2 24 rfl rfl
theorem dX3_counts_0 : decode cX3_counts 0 = .ok (.aload_n 0, 1) := dk_42 (dk_at dksX3_counts_0 0 rfl rfl)
theorem dX3_counts_1 : decode cX3_counts 1 = .ok (.getfield 55, 3) := dk_180 0 55 (dk_at dksX3_counts_0 1 rfl rfl)
theorem dX3_counts_4 : decode cX3_counts 4 = .ok (.iload_n 1, 1) := dk_27 (dk_at dksX3_counts_0 4 rfl rfl)
theorem dX3_counts_5 : decode cX3_counts 5 = .ok (.dup2, 1) := dk_92 (dk_at dksX3_counts_0 5 rfl rfl)
theorem dX3_counts_6 : decode cX3_counts 6 = .ok (.laload, 1) := dk_47 (dk_at dksX3_counts_0 6 rfl rfl)
theorem dX3_counts_7 : decode cX3_counts 7 = .ok (.lload_n 3, 1) := dk_33 (dk_at dksX3_counts_0 7 rfl rfl)
theorem dX3_counts_8 : decode cX3_counts 8 = .ok (.ladd, 1) := dk_97 (dk_at dksX3_counts_0 8 rfl rfl)
theorem dX3_counts_9 : decode cX3_counts 9 = .ok (.lastore, 1) := dk_80 (dk_at dksX3_counts_0 9 rfl rfl)
theorem dX3_counts_10 : decode cX3_counts 10 = .ok (.iload_n 1, 1) := dk_27 (dk_at dksX3_counts_0 10 rfl rfl)
theorem dX3_counts_11 : decode cX3_counts 11 = .ok (.iconst 2, 1) := dk_5 (dk_at dksX3_counts_0 11 rfl rfl)
theorem dX3_counts_12 : decode cX3_counts 12 = .ok (.if_icmp .ge 13, 3) := dk_162 0 13 (dk_at dksX3_counts_0 12 rfl rfl)
theorem dX3_counts_15 : decode cX3_counts 15 = .ok (.aload_n 0, 1) := dk_42 (dk_at dksX3_counts_0 15 rfl rfl)
theorem dX3_counts_16 : decode cX3_counts 16 = .ok (.getfield 58, 3) := dk_180 0 58 (dk_at dksX3_counts_0 16 rfl rfl)
theorem dX3_counts_19 : decode cX3_counts 19 = .ok (.iload_n 2, 1) := dk_28 (dk_at dksX3_counts_0 19 rfl rfl)
theorem dX3_counts_20 : decode cX3_counts 20 = .ok (.dup2, 1) := dk_92 (dk_at dksX3_counts_0 20 rfl rfl)
theorem dX3_counts_21 : decode cX3_counts 21 = .ok (.laload, 1) := dk_47 (dk_at dksX3_counts_0 21 rfl rfl)
theorem dX3_counts_22 : decode cX3_counts 22 = .ok (.lload_n 3, 1) := dk_33 (dk_at dksX3_counts_0 22 rfl rfl)
theorem dX3_counts_23 : decode cX3_counts 23 = .ok (.ladd, 1) := dk_97 (dk_at dksX3_counts_0 23 rfl rfl)
theorem dX3_counts_24 : decode cX3_counts 24 = .ok (.lastore, 1) := dk_80 (dk_at dksX3_counts_1 0 rfl rfl)
theorem dX3_counts_25 : decode cX3_counts 25 = .ok (.iconst 0, 1) := dk_3 (dk_at dksX3_counts_1 1 rfl rfl)
theorem dX3_counts_26 : decode cX3_counts 26 = .ok (.istore 5, 2) := dk_54 5 (dk_at dksX3_counts_1 2 rfl rfl)
theorem dX3_counts_28 : decode cX3_counts 28 = .ok (.iload 5, 2) := dk_21 5 (dk_at dksX3_counts_1 4 rfl rfl)
theorem dX3_counts_30 : decode cX3_counts 30 = .ok (.bipush 6, 2) := dk_16 6 (dk_at dksX3_counts_1 6 rfl rfl)
theorem dX3_counts_32 : decode cX3_counts 32 = .ok (.if_icmp .ge 49, 3) := dk_162 0 49 (dk_at dksX3_counts_1 8 rfl rfl)
theorem dX3_counts_35 : decode cX3_counts 35 = .ok (.aload_n 0, 1) := dk_42 (dk_at dksX3_counts_1 11 rfl rfl)
theorem dX3_counts_36 : decode cX3_counts 36 = .ok (.getfield 61, 3) := dk_180 0 61 (dk_at dksX3_counts_1 12 rfl rfl)
theorem dX3_counts_39 : decode cX3_counts 39 = .ok (.bipush 42, 2) := dk_16 42 (dk_at dksX3_counts_1 15 rfl rfl)
theorem dX3_counts_41 : decode cX3_counts 41 = .ok (.iload 5, 2) := dk_21 5 (dk_at dksX3_counts_1 17 rfl rfl)
theorem dX3_counts_43 : decode cX3_counts 43 = .ok (.imul, 1) := dk_104 (dk_at dksX3_counts_1 19 rfl rfl)
theorem dX3_counts_44 : decode cX3_counts 44 = .ok (.iconst 2, 1) := dk_5 (dk_at dksX3_counts_1 20 rfl rfl)
theorem dX3_counts_45 : decode cX3_counts 45 = .ok (.aload_n 0, 1) := dk_42 (dk_at dksX3_counts_1 21 rfl rfl)
theorem dX3_counts_46 : decode cX3_counts 46 = .ok (.getfield 32, 3) := dk_180 0 32 (dk_at dksX3_counts_2 0 rfl rfl)
theorem dX3_counts_49 : decode cX3_counts 49 = .ok (.iload 5, 2) := dk_21 5 (dk_at dksX3_counts_2 3 rfl rfl)
theorem dX3_counts_51 : decode cX3_counts 51 = .ok (.iaload, 1) := dk_46 (dk_at dksX3_counts_2 5 rfl rfl)
theorem dX3_counts_52 : decode cX3_counts 52 = .ok (.imul, 1) := dk_104 (dk_at dksX3_counts_2 6 rfl rfl)
theorem dX3_counts_53 : decode cX3_counts 53 = .ok (.iadd, 1) := dk_96 (dk_at dksX3_counts_2 7 rfl rfl)
theorem dX3_counts_54 : decode cX3_counts 54 = .ok (.aload_n 0, 1) := dk_42 (dk_at dksX3_counts_2 8 rfl rfl)
theorem dX3_counts_55 : decode cX3_counts 55 = .ok (.getfield 35, 3) := dk_180 0 35 (dk_at dksX3_counts_2 9 rfl rfl)
theorem dX3_counts_58 : decode cX3_counts 58 = .ok (.iload 5, 2) := dk_21 5 (dk_at dksX3_counts_2 12 rfl rfl)
theorem dX3_counts_60 : decode cX3_counts 60 = .ok (.baload, 1) := dk_51 (dk_at dksX3_counts_2 14 rfl rfl)
theorem dX3_counts_61 : decode cX3_counts 61 = .ok (.ifCond .eq 7, 3) := dk_153 0 7 (dk_at dksX3_counts_2 15 rfl rfl)
theorem dX3_counts_64 : decode cX3_counts 64 = .ok (.iconst 1, 1) := dk_4 (dk_at dksX3_counts_2 18 rfl rfl)
theorem dX3_counts_65 : decode cX3_counts 65 = .ok (.goto 4, 3) := dk_167 0 4 (dk_at dksX3_counts_2 19 rfl rfl)
theorem dX3_counts_68 : decode cX3_counts 68 = .ok (.iconst 0, 1) := dk_3 (dk_at dksX3_counts_2 22 rfl rfl)
theorem dX3_counts_69 : decode cX3_counts 69 = .ok (.iadd, 1) := dk_96 (dk_at dksX3_counts_2 23 rfl rfl)
theorem dX3_counts_70 : decode cX3_counts 70 = .ok (.dup2, 1) := dk_92 (dk_at dksX3_counts_3 0 rfl rfl)
theorem dX3_counts_71 : decode cX3_counts 71 = .ok (.laload, 1) := dk_47 (dk_at dksX3_counts_3 1 rfl rfl)
theorem dX3_counts_72 : decode cX3_counts 72 = .ok (.lload_n 3, 1) := dk_33 (dk_at dksX3_counts_3 2 rfl rfl)
theorem dX3_counts_73 : decode cX3_counts 73 = .ok (.ladd, 1) := dk_97 (dk_at dksX3_counts_3 3 rfl rfl)
theorem dX3_counts_74 : decode cX3_counts 74 = .ok (.lastore, 1) := dk_80 (dk_at dksX3_counts_3 4 rfl rfl)
theorem dX3_counts_75 : decode cX3_counts 75 = .ok (.iinc 5 1, 3) := dk_132 5 1 (dk_at dksX3_counts_3 5 rfl rfl)
theorem dX3_counts_78 : decode cX3_counts 78 = .ok (.goto (-50), 3) := dk_167 255 206 (dk_at dksX3_counts_3 8 rfl rfl)
theorem dX3_counts_81 : decode cX3_counts 81 = .ok (.return_, 1) := dk_177 (dk_at dksX3_counts_3 11 rfl rfl)
abbrev cX3_pack : ByteArray := prog_12_method_23_code
def yX3_pack : MethodName := ⟨RX3, "pack", "()J"⟩
def dkwX3_pack_2 : List UInt8 := [173]
abbrev dktX3_pack_2 : List UInt8 := dkwX3_pack_2 ++ []
def dkwX3_pack_1 : List UInt8 := [42, 180, 0, 35, 29, 51, 153, 0, 7, 4, 167, 0, 4, 3, 133, 129, 64, 132, 3, 1, 167, 255, 216, 31]
abbrev dktX3_pack_1 : List UInt8 := dkwX3_pack_1 ++ dktX3_pack_2
def dkwX3_pack_0 : List UInt8 := [9, 64, 3, 62, 29, 16, 6, 162, 0, 40, 31, 16, 6, 121, 42, 180, 0, 32, 29, 46, 4, 120, 133, 129]
abbrev dktX3_pack_0 : List UInt8 := dkwX3_pack_0 ++ dktX3_pack_1
theorem dksX3_pack_0 : cX3_pack.data.toList.drop 0 = dktX3_pack_0 := by decide +kernel
theorem dksX3_pack_1 : cX3_pack.data.toList.drop 24 = dktX3_pack_1 := dk_seg dksX3_pack_0 24 rfl rfl
theorem dksX3_pack_2 : cX3_pack.data.toList.drop 48 = dktX3_pack_2 := dk_seg dksX3_pack_1 24 rfl rfl
theorem dX3_pack_0 : decode cX3_pack 0 = .ok (.lconst 0, 1) := dk_9 (dk_at dksX3_pack_0 0 rfl rfl)
theorem dX3_pack_1 : decode cX3_pack 1 = .ok (.lstore_n 1, 1) := dk_64 (dk_at dksX3_pack_0 1 rfl rfl)
theorem dX3_pack_2 : decode cX3_pack 2 = .ok (.iconst 0, 1) := dk_3 (dk_at dksX3_pack_0 2 rfl rfl)
theorem dX3_pack_3 : decode cX3_pack 3 = .ok (.istore_n 3, 1) := dk_62 (dk_at dksX3_pack_0 3 rfl rfl)
theorem dX3_pack_4 : decode cX3_pack 4 = .ok (.iload_n 3, 1) := dk_29 (dk_at dksX3_pack_0 4 rfl rfl)
theorem dX3_pack_5 : decode cX3_pack 5 = .ok (.bipush 6, 2) := dk_16 6 (dk_at dksX3_pack_0 5 rfl rfl)
theorem dX3_pack_7 : decode cX3_pack 7 = .ok (.if_icmp .ge 40, 3) := dk_162 0 40 (dk_at dksX3_pack_0 7 rfl rfl)
theorem dX3_pack_10 : decode cX3_pack 10 = .ok (.lload_n 1, 1) := dk_31 (dk_at dksX3_pack_0 10 rfl rfl)
theorem dX3_pack_11 : decode cX3_pack 11 = .ok (.bipush 6, 2) := dk_16 6 (dk_at dksX3_pack_0 11 rfl rfl)
theorem dX3_pack_13 : decode cX3_pack 13 = .ok (.lshl, 1) := dk_121 (dk_at dksX3_pack_0 13 rfl rfl)
theorem dX3_pack_14 : decode cX3_pack 14 = .ok (.aload_n 0, 1) := dk_42 (dk_at dksX3_pack_0 14 rfl rfl)
theorem dX3_pack_15 : decode cX3_pack 15 = .ok (.getfield 32, 3) := dk_180 0 32 (dk_at dksX3_pack_0 15 rfl rfl)
theorem dX3_pack_18 : decode cX3_pack 18 = .ok (.iload_n 3, 1) := dk_29 (dk_at dksX3_pack_0 18 rfl rfl)
theorem dX3_pack_19 : decode cX3_pack 19 = .ok (.iaload, 1) := dk_46 (dk_at dksX3_pack_0 19 rfl rfl)
theorem dX3_pack_20 : decode cX3_pack 20 = .ok (.iconst 1, 1) := dk_4 (dk_at dksX3_pack_0 20 rfl rfl)
theorem dX3_pack_21 : decode cX3_pack 21 = .ok (.ishl, 1) := dk_120 (dk_at dksX3_pack_0 21 rfl rfl)
theorem dX3_pack_22 : decode cX3_pack 22 = .ok (.i2l, 1) := dk_133 (dk_at dksX3_pack_0 22 rfl rfl)
theorem dX3_pack_23 : decode cX3_pack 23 = .ok (.lor, 1) := dk_129 (dk_at dksX3_pack_0 23 rfl rfl)
theorem dX3_pack_24 : decode cX3_pack 24 = .ok (.aload_n 0, 1) := dk_42 (dk_at dksX3_pack_1 0 rfl rfl)
theorem dX3_pack_25 : decode cX3_pack 25 = .ok (.getfield 35, 3) := dk_180 0 35 (dk_at dksX3_pack_1 1 rfl rfl)
theorem dX3_pack_28 : decode cX3_pack 28 = .ok (.iload_n 3, 1) := dk_29 (dk_at dksX3_pack_1 4 rfl rfl)
theorem dX3_pack_29 : decode cX3_pack 29 = .ok (.baload, 1) := dk_51 (dk_at dksX3_pack_1 5 rfl rfl)
theorem dX3_pack_30 : decode cX3_pack 30 = .ok (.ifCond .eq 7, 3) := dk_153 0 7 (dk_at dksX3_pack_1 6 rfl rfl)
theorem dX3_pack_33 : decode cX3_pack 33 = .ok (.iconst 1, 1) := dk_4 (dk_at dksX3_pack_1 9 rfl rfl)
theorem dX3_pack_34 : decode cX3_pack 34 = .ok (.goto 4, 3) := dk_167 0 4 (dk_at dksX3_pack_1 10 rfl rfl)
theorem dX3_pack_37 : decode cX3_pack 37 = .ok (.iconst 0, 1) := dk_3 (dk_at dksX3_pack_1 13 rfl rfl)
theorem dX3_pack_38 : decode cX3_pack 38 = .ok (.i2l, 1) := dk_133 (dk_at dksX3_pack_1 14 rfl rfl)
theorem dX3_pack_39 : decode cX3_pack 39 = .ok (.lor, 1) := dk_129 (dk_at dksX3_pack_1 15 rfl rfl)
theorem dX3_pack_40 : decode cX3_pack 40 = .ok (.lstore_n 1, 1) := dk_64 (dk_at dksX3_pack_1 16 rfl rfl)
theorem dX3_pack_41 : decode cX3_pack 41 = .ok (.iinc 3 1, 3) := dk_132 3 1 (dk_at dksX3_pack_1 17 rfl rfl)
theorem dX3_pack_44 : decode cX3_pack 44 = .ok (.goto (-40), 3) := dk_167 255 216 (dk_at dksX3_pack_1 20 rfl rfl)
theorem dX3_pack_47 : decode cX3_pack 47 = .ok (.lload_n 1, 1) := dk_31 (dk_at dksX3_pack_1 23 rfl rfl)
theorem dX3_pack_48 : decode cX3_pack 48 = .ok (.lreturn, 1) := dk_173 (dk_at dksX3_pack_2 0 rfl rfl)
abbrev cX3_unpack : ByteArray := prog_12_method_24_code
def yX3_unpack : MethodName := ⟨RX3, "unpack", "(J)V"⟩
def dkwX3_unpack_2 : List UInt8 := [123, 66, 132, 5, 255, 167, 255, 208, 177]
abbrev dktX3_unpack_2 : List UInt8 := dkwX3_unpack_2 ++ []
def dkwX3_unpack_1 : List UInt8 := [4, 167, 0, 4, 3, 84, 42, 180, 0, 32, 21, 5, 33, 4, 123, 20, 0, 159, 127, 136, 79, 33, 16, 6]
abbrev dktX3_unpack_1 : List UInt8 := dkwX3_unpack_1 ++ dktX3_unpack_2
def dkwX3_unpack_0 : List UInt8 := [31, 66, 8, 54, 5, 21, 5, 155, 0, 49, 42, 180, 0, 35, 21, 5, 33, 10, 127, 10, 148, 154, 0, 7]
abbrev dktX3_unpack_0 : List UInt8 := dkwX3_unpack_0 ++ dktX3_unpack_1
theorem dksX3_unpack_0 : cX3_unpack.data.toList.drop 0 = dktX3_unpack_0 := by decide +kernel
theorem dksX3_unpack_1 : cX3_unpack.data.toList.drop 24 = dktX3_unpack_1 := dk_seg dksX3_unpack_0 24 rfl rfl
theorem dksX3_unpack_2 : cX3_unpack.data.toList.drop 48 = dktX3_unpack_2 := dk_seg dksX3_unpack_1 24 rfl rfl
theorem dX3_unpack_0 : decode cX3_unpack 0 = .ok (.lload_n 1, 1) := dk_31 (dk_at dksX3_unpack_0 0 rfl rfl)
theorem dX3_unpack_1 : decode cX3_unpack 1 = .ok (.lstore_n 3, 1) := dk_66 (dk_at dksX3_unpack_0 1 rfl rfl)
theorem dX3_unpack_2 : decode cX3_unpack 2 = .ok (.iconst 5, 1) := dk_8 (dk_at dksX3_unpack_0 2 rfl rfl)
theorem dX3_unpack_3 : decode cX3_unpack 3 = .ok (.istore 5, 2) := dk_54 5 (dk_at dksX3_unpack_0 3 rfl rfl)
theorem dX3_unpack_5 : decode cX3_unpack 5 = .ok (.iload 5, 2) := dk_21 5 (dk_at dksX3_unpack_0 5 rfl rfl)
theorem dX3_unpack_7 : decode cX3_unpack 7 = .ok (.ifCond .lt 49, 3) := dk_155 0 49 (dk_at dksX3_unpack_0 7 rfl rfl)
theorem dX3_unpack_10 : decode cX3_unpack 10 = .ok (.aload_n 0, 1) := dk_42 (dk_at dksX3_unpack_0 10 rfl rfl)
theorem dX3_unpack_11 : decode cX3_unpack 11 = .ok (.getfield 35, 3) := dk_180 0 35 (dk_at dksX3_unpack_0 11 rfl rfl)
theorem dX3_unpack_14 : decode cX3_unpack 14 = .ok (.iload 5, 2) := dk_21 5 (dk_at dksX3_unpack_0 14 rfl rfl)
theorem dX3_unpack_16 : decode cX3_unpack 16 = .ok (.lload_n 3, 1) := dk_33 (dk_at dksX3_unpack_0 16 rfl rfl)
theorem dX3_unpack_17 : decode cX3_unpack 17 = .ok (.lconst 1, 1) := dk_10 (dk_at dksX3_unpack_0 17 rfl rfl)
theorem dX3_unpack_18 : decode cX3_unpack 18 = .ok (.land, 1) := dk_127 (dk_at dksX3_unpack_0 18 rfl rfl)
theorem dX3_unpack_19 : decode cX3_unpack 19 = .ok (.lconst 1, 1) := dk_10 (dk_at dksX3_unpack_0 19 rfl rfl)
theorem dX3_unpack_20 : decode cX3_unpack 20 = .ok (.lcmp, 1) := dk_148 (dk_at dksX3_unpack_0 20 rfl rfl)
theorem dX3_unpack_21 : decode cX3_unpack 21 = .ok (.ifCond .ne 7, 3) := dk_154 0 7 (dk_at dksX3_unpack_0 21 rfl rfl)
theorem dX3_unpack_24 : decode cX3_unpack 24 = .ok (.iconst 1, 1) := dk_4 (dk_at dksX3_unpack_1 0 rfl rfl)
theorem dX3_unpack_25 : decode cX3_unpack 25 = .ok (.goto 4, 3) := dk_167 0 4 (dk_at dksX3_unpack_1 1 rfl rfl)
theorem dX3_unpack_28 : decode cX3_unpack 28 = .ok (.iconst 0, 1) := dk_3 (dk_at dksX3_unpack_1 4 rfl rfl)
theorem dX3_unpack_29 : decode cX3_unpack 29 = .ok (.bastore, 1) := dk_84 (dk_at dksX3_unpack_1 5 rfl rfl)
theorem dX3_unpack_30 : decode cX3_unpack 30 = .ok (.aload_n 0, 1) := dk_42 (dk_at dksX3_unpack_1 6 rfl rfl)
theorem dX3_unpack_31 : decode cX3_unpack 31 = .ok (.getfield 32, 3) := dk_180 0 32 (dk_at dksX3_unpack_1 7 rfl rfl)
theorem dX3_unpack_34 : decode cX3_unpack 34 = .ok (.iload 5, 2) := dk_21 5 (dk_at dksX3_unpack_1 10 rfl rfl)
theorem dX3_unpack_36 : decode cX3_unpack 36 = .ok (.lload_n 3, 1) := dk_33 (dk_at dksX3_unpack_1 12 rfl rfl)
theorem dX3_unpack_37 : decode cX3_unpack 37 = .ok (.iconst 1, 1) := dk_4 (dk_at dksX3_unpack_1 13 rfl rfl)
theorem dX3_unpack_38 : decode cX3_unpack 38 = .ok (.lshr, 1) := dk_123 (dk_at dksX3_unpack_1 14 rfl rfl)
theorem dX3_unpack_39 : decode cX3_unpack 39 = .ok (.ldc2_w 159, 3) := dk_20 0 159 (dk_at dksX3_unpack_1 15 rfl rfl)
theorem dX3_unpack_42 : decode cX3_unpack 42 = .ok (.land, 1) := dk_127 (dk_at dksX3_unpack_1 18 rfl rfl)
theorem dX3_unpack_43 : decode cX3_unpack 43 = .ok (.l2i, 1) := dk_136 (dk_at dksX3_unpack_1 19 rfl rfl)
theorem dX3_unpack_44 : decode cX3_unpack 44 = .ok (.iastore, 1) := dk_79 (dk_at dksX3_unpack_1 20 rfl rfl)
theorem dX3_unpack_45 : decode cX3_unpack 45 = .ok (.lload_n 3, 1) := dk_33 (dk_at dksX3_unpack_1 21 rfl rfl)
theorem dX3_unpack_46 : decode cX3_unpack 46 = .ok (.bipush 6, 2) := dk_16 6 (dk_at dksX3_unpack_1 22 rfl rfl)
theorem dX3_unpack_48 : decode cX3_unpack 48 = .ok (.lshr, 1) := dk_123 (dk_at dksX3_unpack_2 0 rfl rfl)
theorem dX3_unpack_49 : decode cX3_unpack 49 = .ok (.lstore_n 3, 1) := dk_66 (dk_at dksX3_unpack_2 1 rfl rfl)
theorem dX3_unpack_50 : decode cX3_unpack 50 = .ok (.iinc 5 (-1), 3) := dk_132 5 255 (dk_at dksX3_unpack_2 2 rfl rfl)
theorem dX3_unpack_53 : decode cX3_unpack 53 = .ok (.goto (-48), 3) := dk_167 255 208 (dk_at dksX3_unpack_2 5 rfl rfl)
theorem dX3_unpack_56 : decode cX3_unpack 56 = .ok (.return_, 1) := dk_177 (dk_at dksX3_unpack_2 8 rfl rfl)
abbrev cX3_hasTurn : ByteArray := prog_12_method_20_code
def yX3_hasTurn : MethodName := ⟨RX3, "hasTurn", "(II)Z"⟩
def dkwX3_hasTurn_1 : List UInt8 := [167, 0, 4, 3, 172]
abbrev dktX3_hasTurn_1 : List UInt8 := dkwX3_hasTurn_1 ++ []
def dkwX3_hasTurn_0 : List UInt8 := [42, 180, 0, 35, 27, 51, 153, 0, 21, 28, 154, 0, 13, 42, 180, 0, 145, 27, 6, 108, 159, 0, 7, 4]
abbrev dktX3_hasTurn_0 : List UInt8 := dkwX3_hasTurn_0 ++ dktX3_hasTurn_1
theorem dksX3_hasTurn_0 : cX3_hasTurn.data.toList.drop 0 = dktX3_hasTurn_0 := by decide +kernel
theorem dksX3_hasTurn_1 : cX3_hasTurn.data.toList.drop 24 = dktX3_hasTurn_1 := dk_seg dksX3_hasTurn_0 24 rfl rfl
theorem dX3_hasTurn_0 : decode cX3_hasTurn 0 = .ok (.aload_n 0, 1) := dk_42 (dk_at dksX3_hasTurn_0 0 rfl rfl)
theorem dX3_hasTurn_1 : decode cX3_hasTurn 1 = .ok (.getfield 35, 3) := dk_180 0 35 (dk_at dksX3_hasTurn_0 1 rfl rfl)
theorem dX3_hasTurn_4 : decode cX3_hasTurn 4 = .ok (.iload_n 1, 1) := dk_27 (dk_at dksX3_hasTurn_0 4 rfl rfl)
theorem dX3_hasTurn_5 : decode cX3_hasTurn 5 = .ok (.baload, 1) := dk_51 (dk_at dksX3_hasTurn_0 5 rfl rfl)
theorem dX3_hasTurn_6 : decode cX3_hasTurn 6 = .ok (.ifCond .eq 21, 3) := dk_153 0 21 (dk_at dksX3_hasTurn_0 6 rfl rfl)
theorem dX3_hasTurn_9 : decode cX3_hasTurn 9 = .ok (.iload_n 2, 1) := dk_28 (dk_at dksX3_hasTurn_0 9 rfl rfl)
theorem dX3_hasTurn_10 : decode cX3_hasTurn 10 = .ok (.ifCond .ne 13, 3) := dk_154 0 13 (dk_at dksX3_hasTurn_0 10 rfl rfl)
theorem dX3_hasTurn_13 : decode cX3_hasTurn 13 = .ok (.aload_n 0, 1) := dk_42 (dk_at dksX3_hasTurn_0 13 rfl rfl)
theorem dX3_hasTurn_14 : decode cX3_hasTurn 14 = .ok (.getfield 145, 3) := dk_180 0 145 (dk_at dksX3_hasTurn_0 14 rfl rfl)
theorem dX3_hasTurn_17 : decode cX3_hasTurn 17 = .ok (.iload_n 1, 1) := dk_27 (dk_at dksX3_hasTurn_0 17 rfl rfl)
theorem dX3_hasTurn_18 : decode cX3_hasTurn 18 = .ok (.iconst 3, 1) := dk_6 (dk_at dksX3_hasTurn_0 18 rfl rfl)
theorem dX3_hasTurn_19 : decode cX3_hasTurn 19 = .ok (.idiv, 1) := dk_108 (dk_at dksX3_hasTurn_0 19 rfl rfl)
theorem dX3_hasTurn_20 : decode cX3_hasTurn 20 = .ok (.if_icmp .eq 7, 3) := dk_159 0 7 (dk_at dksX3_hasTurn_0 20 rfl rfl)
theorem dX3_hasTurn_23 : decode cX3_hasTurn 23 = .ok (.iconst 1, 1) := dk_4 (dk_at dksX3_hasTurn_0 23 rfl rfl)
theorem dX3_hasTurn_24 : decode cX3_hasTurn 24 = .ok (.goto 4, 3) := dk_167 0 4 (dk_at dksX3_hasTurn_1 0 rfl rfl)
theorem dX3_hasTurn_27 : decode cX3_hasTurn 27 = .ok (.iconst 0, 1) := dk_3 (dk_at dksX3_hasTurn_1 3 rfl rfl)
theorem dX3_hasTurn_28 : decode cX3_hasTurn 28 = .ok (.ireturn, 1) := dk_172 (dk_at dksX3_hasTurn_1 4 rfl rfl)
abbrev cX3_comes : ByteArray := prog_12_method_26_code
def yX3_comes : MethodName := ⟨RX3, "comes", "(J)V"⟩
def dkwX3_comes_5 : List UInt8 := [42, 180, 0, 52, 21, 5, 46, 4, 100, 92, 47, 31, 97, 80, 177]
abbrev dktX3_comes_5 : List UInt8 := dkwX3_comes_5 ++ []
def dkwX3_comes_4 : List UInt8 := [89, 180, 0, 169, 4, 96, 181, 0, 169, 42, 180, 0, 52, 21, 5, 42, 180, 0, 169, 79, 42, 180, 0, 49]
abbrev dktX3_comes_4 : List UInt8 := dkwX3_comes_4 ++ dktX3_comes_5
def dkwX3_comes_3 : List UInt8 := [154, 0, 44, 42, 180, 0, 46, 42, 180, 0, 169, 33, 80, 42, 180, 0, 49, 42, 180, 0, 169, 9, 80, 42]
abbrev dktX3_comes_3 : List UInt8 := dkwX3_comes_3 ++ dktX3_comes_4
def dkwX3_comes_2 : List UInt8 := [153, 0, 16, 21, 5, 4, 96, 17, 8, 0, 112, 54, 5, 167, 255, 217, 42, 180, 0, 52, 21, 5, 46]
abbrev dktX3_comes_2 : List UInt8 := dkwX3_comes_2 ++ dktX3_comes_3
def dkwX3_comes_1 : List UInt8 := [21, 5, 46, 158, 0, 35, 42, 180, 0, 46, 42, 180, 0, 52, 21, 5, 46, 4, 100, 47, 33, 148]
abbrev dktX3_comes_1 : List UInt8 := dkwX3_comes_1 ++ dktX3_comes_2
def dkwX3_comes_0 : List UInt8 := [42, 182, 0, 161, 66, 33, 20, 0, 165, 105, 16, 20, 123, 20, 0, 167, 127, 136, 54, 5, 42, 180, 0, 52]
abbrev dktX3_comes_0 : List UInt8 := dkwX3_comes_0 ++ dktX3_comes_1
theorem dksX3_comes_0 : cX3_comes.data.toList.drop 0 = dktX3_comes_0 := by decide +kernel
theorem dksX3_comes_1 : cX3_comes.data.toList.drop 24 = dktX3_comes_1 := dk_seg dksX3_comes_0 24 rfl rfl
theorem dksX3_comes_2 : cX3_comes.data.toList.drop 46 = dktX3_comes_2 := dk_seg dksX3_comes_1 22 rfl rfl
theorem dksX3_comes_3 : cX3_comes.data.toList.drop 69 = dktX3_comes_3 := dk_seg dksX3_comes_2 23 rfl rfl
theorem dksX3_comes_4 : cX3_comes.data.toList.drop 93 = dktX3_comes_4 := dk_seg dksX3_comes_3 24 rfl rfl
theorem dksX3_comes_5 : cX3_comes.data.toList.drop 117 = dktX3_comes_5 := dk_seg dksX3_comes_4 24 rfl rfl
theorem dX3_comes_0 : decode cX3_comes 0 = .ok (.aload_n 0, 1) := dk_42 (dk_at dksX3_comes_0 0 rfl rfl)
theorem dX3_comes_1 : decode cX3_comes 1 = .ok (.invokevirtual 161, 3) := dk_182 0 161 (dk_at dksX3_comes_0 1 rfl rfl)
theorem dX3_comes_4 : decode cX3_comes 4 = .ok (.lstore_n 3, 1) := dk_66 (dk_at dksX3_comes_0 4 rfl rfl)
theorem dX3_comes_5 : decode cX3_comes 5 = .ok (.lload_n 3, 1) := dk_33 (dk_at dksX3_comes_0 5 rfl rfl)
theorem dX3_comes_6 : decode cX3_comes 6 = .ok (.ldc2_w 165, 3) := dk_20 0 165 (dk_at dksX3_comes_0 6 rfl rfl)
theorem dX3_comes_9 : decode cX3_comes 9 = .ok (.lmul, 1) := dk_105 (dk_at dksX3_comes_0 9 rfl rfl)
theorem dX3_comes_10 : decode cX3_comes 10 = .ok (.bipush 20, 2) := dk_16 20 (dk_at dksX3_comes_0 10 rfl rfl)
theorem dX3_comes_12 : decode cX3_comes 12 = .ok (.lshr, 1) := dk_123 (dk_at dksX3_comes_0 12 rfl rfl)
theorem dX3_comes_13 : decode cX3_comes 13 = .ok (.ldc2_w 167, 3) := dk_20 0 167 (dk_at dksX3_comes_0 13 rfl rfl)
theorem dX3_comes_16 : decode cX3_comes 16 = .ok (.land, 1) := dk_127 (dk_at dksX3_comes_0 16 rfl rfl)
theorem dX3_comes_17 : decode cX3_comes 17 = .ok (.l2i, 1) := dk_136 (dk_at dksX3_comes_0 17 rfl rfl)
theorem dX3_comes_18 : decode cX3_comes 18 = .ok (.istore 5, 2) := dk_54 5 (dk_at dksX3_comes_0 18 rfl rfl)
theorem dX3_comes_20 : decode cX3_comes 20 = .ok (.aload_n 0, 1) := dk_42 (dk_at dksX3_comes_0 20 rfl rfl)
theorem dX3_comes_21 : decode cX3_comes 21 = .ok (.getfield 52, 3) := dk_180 0 52 (dk_at dksX3_comes_0 21 rfl rfl)
theorem dX3_comes_24 : decode cX3_comes 24 = .ok (.iload 5, 2) := dk_21 5 (dk_at dksX3_comes_1 0 rfl rfl)
theorem dX3_comes_26 : decode cX3_comes 26 = .ok (.iaload, 1) := dk_46 (dk_at dksX3_comes_1 2 rfl rfl)
theorem dX3_comes_27 : decode cX3_comes 27 = .ok (.ifCond .le 35, 3) := dk_158 0 35 (dk_at dksX3_comes_1 3 rfl rfl)
theorem dX3_comes_30 : decode cX3_comes 30 = .ok (.aload_n 0, 1) := dk_42 (dk_at dksX3_comes_1 6 rfl rfl)
theorem dX3_comes_31 : decode cX3_comes 31 = .ok (.getfield 46, 3) := dk_180 0 46 (dk_at dksX3_comes_1 7 rfl rfl)
theorem dX3_comes_34 : decode cX3_comes 34 = .ok (.aload_n 0, 1) := dk_42 (dk_at dksX3_comes_1 10 rfl rfl)
theorem dX3_comes_35 : decode cX3_comes 35 = .ok (.getfield 52, 3) := dk_180 0 52 (dk_at dksX3_comes_1 11 rfl rfl)
theorem dX3_comes_38 : decode cX3_comes 38 = .ok (.iload 5, 2) := dk_21 5 (dk_at dksX3_comes_1 14 rfl rfl)
theorem dX3_comes_40 : decode cX3_comes 40 = .ok (.iaload, 1) := dk_46 (dk_at dksX3_comes_1 16 rfl rfl)
theorem dX3_comes_41 : decode cX3_comes 41 = .ok (.iconst 1, 1) := dk_4 (dk_at dksX3_comes_1 17 rfl rfl)
theorem dX3_comes_42 : decode cX3_comes 42 = .ok (.isub, 1) := dk_100 (dk_at dksX3_comes_1 18 rfl rfl)
theorem dX3_comes_43 : decode cX3_comes 43 = .ok (.laload, 1) := dk_47 (dk_at dksX3_comes_1 19 rfl rfl)
theorem dX3_comes_44 : decode cX3_comes 44 = .ok (.lload_n 3, 1) := dk_33 (dk_at dksX3_comes_1 20 rfl rfl)
theorem dX3_comes_45 : decode cX3_comes 45 = .ok (.lcmp, 1) := dk_148 (dk_at dksX3_comes_1 21 rfl rfl)
theorem dX3_comes_46 : decode cX3_comes 46 = .ok (.ifCond .eq 16, 3) := dk_153 0 16 (dk_at dksX3_comes_2 0 rfl rfl)
theorem dX3_comes_49 : decode cX3_comes 49 = .ok (.iload 5, 2) := dk_21 5 (dk_at dksX3_comes_2 3 rfl rfl)
theorem dX3_comes_51 : decode cX3_comes 51 = .ok (.iconst 1, 1) := dk_4 (dk_at dksX3_comes_2 5 rfl rfl)
theorem dX3_comes_52 : decode cX3_comes 52 = .ok (.iadd, 1) := dk_96 (dk_at dksX3_comes_2 6 rfl rfl)
theorem dX3_comes_53 : decode cX3_comes 53 = .ok (.sipush 2048, 3) := dk_17 8 0 (dk_at dksX3_comes_2 7 rfl rfl)
theorem dX3_comes_56 : decode cX3_comes 56 = .ok (.irem, 1) := dk_112 (dk_at dksX3_comes_2 10 rfl rfl)
theorem dX3_comes_57 : decode cX3_comes 57 = .ok (.istore 5, 2) := dk_54 5 (dk_at dksX3_comes_2 11 rfl rfl)
theorem dX3_comes_59 : decode cX3_comes 59 = .ok (.goto (-39), 3) := dk_167 255 217 (dk_at dksX3_comes_2 13 rfl rfl)
theorem dX3_comes_62 : decode cX3_comes 62 = .ok (.aload_n 0, 1) := dk_42 (dk_at dksX3_comes_2 16 rfl rfl)
theorem dX3_comes_63 : decode cX3_comes 63 = .ok (.getfield 52, 3) := dk_180 0 52 (dk_at dksX3_comes_2 17 rfl rfl)
theorem dX3_comes_66 : decode cX3_comes 66 = .ok (.iload 5, 2) := dk_21 5 (dk_at dksX3_comes_2 20 rfl rfl)
theorem dX3_comes_68 : decode cX3_comes 68 = .ok (.iaload, 1) := dk_46 (dk_at dksX3_comes_2 22 rfl rfl)
theorem dX3_comes_69 : decode cX3_comes 69 = .ok (.ifCond .ne 44, 3) := dk_154 0 44 (dk_at dksX3_comes_3 0 rfl rfl)
theorem dX3_comes_72 : decode cX3_comes 72 = .ok (.aload_n 0, 1) := dk_42 (dk_at dksX3_comes_3 3 rfl rfl)
theorem dX3_comes_73 : decode cX3_comes 73 = .ok (.getfield 46, 3) := dk_180 0 46 (dk_at dksX3_comes_3 4 rfl rfl)
theorem dX3_comes_76 : decode cX3_comes 76 = .ok (.aload_n 0, 1) := dk_42 (dk_at dksX3_comes_3 7 rfl rfl)
theorem dX3_comes_77 : decode cX3_comes 77 = .ok (.getfield 169, 3) := dk_180 0 169 (dk_at dksX3_comes_3 8 rfl rfl)
theorem dX3_comes_80 : decode cX3_comes 80 = .ok (.lload_n 3, 1) := dk_33 (dk_at dksX3_comes_3 11 rfl rfl)
theorem dX3_comes_81 : decode cX3_comes 81 = .ok (.lastore, 1) := dk_80 (dk_at dksX3_comes_3 12 rfl rfl)
theorem dX3_comes_82 : decode cX3_comes 82 = .ok (.aload_n 0, 1) := dk_42 (dk_at dksX3_comes_3 13 rfl rfl)
theorem dX3_comes_83 : decode cX3_comes 83 = .ok (.getfield 49, 3) := dk_180 0 49 (dk_at dksX3_comes_3 14 rfl rfl)
theorem dX3_comes_86 : decode cX3_comes 86 = .ok (.aload_n 0, 1) := dk_42 (dk_at dksX3_comes_3 17 rfl rfl)
theorem dX3_comes_87 : decode cX3_comes 87 = .ok (.getfield 169, 3) := dk_180 0 169 (dk_at dksX3_comes_3 18 rfl rfl)
theorem dX3_comes_90 : decode cX3_comes 90 = .ok (.lconst 0, 1) := dk_9 (dk_at dksX3_comes_3 21 rfl rfl)
theorem dX3_comes_91 : decode cX3_comes 91 = .ok (.lastore, 1) := dk_80 (dk_at dksX3_comes_3 22 rfl rfl)
theorem dX3_comes_92 : decode cX3_comes 92 = .ok (.aload_n 0, 1) := dk_42 (dk_at dksX3_comes_3 23 rfl rfl)
theorem dX3_comes_93 : decode cX3_comes 93 = .ok (.dup, 1) := dk_89 (dk_at dksX3_comes_4 0 rfl rfl)
theorem dX3_comes_94 : decode cX3_comes 94 = .ok (.getfield 169, 3) := dk_180 0 169 (dk_at dksX3_comes_4 1 rfl rfl)
theorem dX3_comes_97 : decode cX3_comes 97 = .ok (.iconst 1, 1) := dk_4 (dk_at dksX3_comes_4 4 rfl rfl)
theorem dX3_comes_98 : decode cX3_comes 98 = .ok (.iadd, 1) := dk_96 (dk_at dksX3_comes_4 5 rfl rfl)
theorem dX3_comes_99 : decode cX3_comes 99 = .ok (.putfield 169, 3) := dk_181 0 169 (dk_at dksX3_comes_4 6 rfl rfl)
theorem dX3_comes_102 : decode cX3_comes 102 = .ok (.aload_n 0, 1) := dk_42 (dk_at dksX3_comes_4 9 rfl rfl)
theorem dX3_comes_103 : decode cX3_comes 103 = .ok (.getfield 52, 3) := dk_180 0 52 (dk_at dksX3_comes_4 10 rfl rfl)
theorem dX3_comes_106 : decode cX3_comes 106 = .ok (.iload 5, 2) := dk_21 5 (dk_at dksX3_comes_4 13 rfl rfl)
theorem dX3_comes_108 : decode cX3_comes 108 = .ok (.aload_n 0, 1) := dk_42 (dk_at dksX3_comes_4 15 rfl rfl)
theorem dX3_comes_109 : decode cX3_comes 109 = .ok (.getfield 169, 3) := dk_180 0 169 (dk_at dksX3_comes_4 16 rfl rfl)
theorem dX3_comes_112 : decode cX3_comes 112 = .ok (.iastore, 1) := dk_79 (dk_at dksX3_comes_4 19 rfl rfl)
theorem dX3_comes_113 : decode cX3_comes 113 = .ok (.aload_n 0, 1) := dk_42 (dk_at dksX3_comes_4 20 rfl rfl)
theorem dX3_comes_114 : decode cX3_comes 114 = .ok (.getfield 49, 3) := dk_180 0 49 (dk_at dksX3_comes_4 21 rfl rfl)
theorem dX3_comes_117 : decode cX3_comes 117 = .ok (.aload_n 0, 1) := dk_42 (dk_at dksX3_comes_5 0 rfl rfl)
theorem dX3_comes_118 : decode cX3_comes 118 = .ok (.getfield 52, 3) := dk_180 0 52 (dk_at dksX3_comes_5 1 rfl rfl)
theorem dX3_comes_121 : decode cX3_comes 121 = .ok (.iload 5, 2) := dk_21 5 (dk_at dksX3_comes_5 4 rfl rfl)
theorem dX3_comes_123 : decode cX3_comes 123 = .ok (.iaload, 1) := dk_46 (dk_at dksX3_comes_5 6 rfl rfl)
theorem dX3_comes_124 : decode cX3_comes 124 = .ok (.iconst 1, 1) := dk_4 (dk_at dksX3_comes_5 7 rfl rfl)
theorem dX3_comes_125 : decode cX3_comes 125 = .ok (.isub, 1) := dk_100 (dk_at dksX3_comes_5 8 rfl rfl)
theorem dX3_comes_126 : decode cX3_comes 126 = .ok (.dup2, 1) := dk_92 (dk_at dksX3_comes_5 9 rfl rfl)
theorem dX3_comes_127 : decode cX3_comes 127 = .ok (.laload, 1) := dk_47 (dk_at dksX3_comes_5 10 rfl rfl)
theorem dX3_comes_128 : decode cX3_comes 128 = .ok (.lload_n 1, 1) := dk_31 (dk_at dksX3_comes_5 11 rfl rfl)
theorem dX3_comes_129 : decode cX3_comes 129 = .ok (.ladd, 1) := dk_97 (dk_at dksX3_comes_5 12 rfl rfl)
theorem dX3_comes_130 : decode cX3_comes 130 = .ok (.lastore, 1) := dk_80 (dk_at dksX3_comes_5 13 rfl rfl)
theorem dX3_comes_131 : decode cX3_comes 131 = .ok (.return_, 1) := dk_177 (dk_at dksX3_comes_5 14 rfl rfl)
abbrev cX3_flees : ByteArray := prog_12_method_21_code
def yX3_flees : MethodName := ⟨RX3, "flees", "(I)Z"⟩
def dkwX3_flees_1 : List UInt8 := [163, 0, 7, 4, 167, 0, 4, 3, 172]
abbrev dktX3_flees_1 : List UInt8 := dkwX3_flees_1 ++ []
def dkwX3_flees_0 : List UInt8 := [42, 180, 0, 32, 27, 46, 42, 180, 0, 7, 16, 6, 42, 180, 0, 23, 27, 46, 104, 7, 96, 46]
abbrev dktX3_flees_0 : List UInt8 := dkwX3_flees_0 ++ dktX3_flees_1
theorem dksX3_flees_0 : cX3_flees.data.toList.drop 0 = dktX3_flees_0 := by decide +kernel
theorem dksX3_flees_1 : cX3_flees.data.toList.drop 22 = dktX3_flees_1 := dk_seg dksX3_flees_0 22 rfl rfl
theorem dX3_flees_0 : decode cX3_flees 0 = .ok (.aload_n 0, 1) := dk_42 (dk_at dksX3_flees_0 0 rfl rfl)
theorem dX3_flees_1 : decode cX3_flees 1 = .ok (.getfield 32, 3) := dk_180 0 32 (dk_at dksX3_flees_0 1 rfl rfl)
theorem dX3_flees_4 : decode cX3_flees 4 = .ok (.iload_n 1, 1) := dk_27 (dk_at dksX3_flees_0 4 rfl rfl)
theorem dX3_flees_5 : decode cX3_flees 5 = .ok (.iaload, 1) := dk_46 (dk_at dksX3_flees_0 5 rfl rfl)
theorem dX3_flees_6 : decode cX3_flees 6 = .ok (.aload_n 0, 1) := dk_42 (dk_at dksX3_flees_0 6 rfl rfl)
theorem dX3_flees_7 : decode cX3_flees 7 = .ok (.getfield 7, 3) := dk_180 0 7 (dk_at dksX3_flees_0 7 rfl rfl)
theorem dX3_flees_10 : decode cX3_flees 10 = .ok (.bipush 6, 2) := dk_16 6 (dk_at dksX3_flees_0 10 rfl rfl)
theorem dX3_flees_12 : decode cX3_flees 12 = .ok (.aload_n 0, 1) := dk_42 (dk_at dksX3_flees_0 12 rfl rfl)
theorem dX3_flees_13 : decode cX3_flees 13 = .ok (.getfield 23, 3) := dk_180 0 23 (dk_at dksX3_flees_0 13 rfl rfl)
theorem dX3_flees_16 : decode cX3_flees 16 = .ok (.iload_n 1, 1) := dk_27 (dk_at dksX3_flees_0 16 rfl rfl)
theorem dX3_flees_17 : decode cX3_flees 17 = .ok (.iaload, 1) := dk_46 (dk_at dksX3_flees_0 17 rfl rfl)
theorem dX3_flees_18 : decode cX3_flees 18 = .ok (.imul, 1) := dk_104 (dk_at dksX3_flees_0 18 rfl rfl)
theorem dX3_flees_19 : decode cX3_flees 19 = .ok (.iconst 4, 1) := dk_7 (dk_at dksX3_flees_0 19 rfl rfl)
theorem dX3_flees_20 : decode cX3_flees 20 = .ok (.iadd, 1) := dk_96 (dk_at dksX3_flees_0 20 rfl rfl)
theorem dX3_flees_21 : decode cX3_flees 21 = .ok (.iaload, 1) := dk_46 (dk_at dksX3_flees_0 21 rfl rfl)
theorem dX3_flees_22 : decode cX3_flees 22 = .ok (.if_icmp .gt 7, 3) := dk_163 0 7 (dk_at dksX3_flees_1 0 rfl rfl)
theorem dX3_flees_25 : decode cX3_flees 25 = .ok (.iconst 1, 1) := dk_4 (dk_at dksX3_flees_1 3 rfl rfl)
theorem dX3_flees_26 : decode cX3_flees 26 = .ok (.goto 4, 3) := dk_167 0 4 (dk_at dksX3_flees_1 4 rfl rfl)
theorem dX3_flees_29 : decode cX3_flees 29 = .ok (.iconst 0, 1) := dk_3 (dk_at dksX3_flees_1 7 rfl rfl)
theorem dX3_flees_30 : decode cX3_flees 30 = .ok (.ireturn, 1) := dk_172 (dk_at dksX3_flees_1 8 rfl rfl)
abbrev cX3_goesOn : ByteArray := prog_12_method_27_code
def yX3_goesOn : MethodName := ⟨RX3, "goesOn", "(IJJ)V"⟩
def dkwX3_goesOn_1 : List UInt8 := [182, 0, 176, 167, 0, 8, 42, 32, 182, 0, 180, 177]
abbrev dktX3_goesOn_1 : List UInt8 := dkwX3_goesOn_1 ++ []
def dkwX3_goesOn_0 : List UInt8 := [42, 182, 0, 172, 54, 6, 21, 6, 5, 162, 0, 19, 42, 21, 6, 27, 4, 96, 32, 22, 4, 105]
abbrev dktX3_goesOn_0 : List UInt8 := dkwX3_goesOn_0 ++ dktX3_goesOn_1
theorem dksX3_goesOn_0 : cX3_goesOn.data.toList.drop 0 = dktX3_goesOn_0 := by decide +kernel
theorem dksX3_goesOn_1 : cX3_goesOn.data.toList.drop 22 = dktX3_goesOn_1 := dk_seg dksX3_goesOn_0 22 rfl rfl
theorem dX3_goesOn_0 : decode cX3_goesOn 0 = .ok (.aload_n 0, 1) := dk_42 (dk_at dksX3_goesOn_0 0 rfl rfl)
theorem dX3_goesOn_1 : decode cX3_goesOn 1 = .ok (.invokevirtual 172, 3) := dk_182 0 172 (dk_at dksX3_goesOn_0 1 rfl rfl)
theorem dX3_goesOn_4 : decode cX3_goesOn 4 = .ok (.istore 6, 2) := dk_54 6 (dk_at dksX3_goesOn_0 4 rfl rfl)
theorem dX3_goesOn_6 : decode cX3_goesOn 6 = .ok (.iload 6, 2) := dk_21 6 (dk_at dksX3_goesOn_0 6 rfl rfl)
theorem dX3_goesOn_8 : decode cX3_goesOn 8 = .ok (.iconst 2, 1) := dk_5 (dk_at dksX3_goesOn_0 8 rfl rfl)
theorem dX3_goesOn_9 : decode cX3_goesOn 9 = .ok (.if_icmp .ge 19, 3) := dk_162 0 19 (dk_at dksX3_goesOn_0 9 rfl rfl)
theorem dX3_goesOn_12 : decode cX3_goesOn 12 = .ok (.aload_n 0, 1) := dk_42 (dk_at dksX3_goesOn_0 12 rfl rfl)
theorem dX3_goesOn_13 : decode cX3_goesOn 13 = .ok (.iload 6, 2) := dk_21 6 (dk_at dksX3_goesOn_0 13 rfl rfl)
theorem dX3_goesOn_15 : decode cX3_goesOn 15 = .ok (.iload_n 1, 1) := dk_27 (dk_at dksX3_goesOn_0 15 rfl rfl)
theorem dX3_goesOn_16 : decode cX3_goesOn 16 = .ok (.iconst 1, 1) := dk_4 (dk_at dksX3_goesOn_0 16 rfl rfl)
theorem dX3_goesOn_17 : decode cX3_goesOn 17 = .ok (.iadd, 1) := dk_96 (dk_at dksX3_goesOn_0 17 rfl rfl)
theorem dX3_goesOn_18 : decode cX3_goesOn 18 = .ok (.lload_n 2, 1) := dk_32 (dk_at dksX3_goesOn_0 18 rfl rfl)
theorem dX3_goesOn_19 : decode cX3_goesOn 19 = .ok (.lload 4, 2) := dk_22 4 (dk_at dksX3_goesOn_0 19 rfl rfl)
theorem dX3_goesOn_21 : decode cX3_goesOn 21 = .ok (.lmul, 1) := dk_105 (dk_at dksX3_goesOn_0 21 rfl rfl)
theorem dX3_goesOn_22 : decode cX3_goesOn 22 = .ok (.invokevirtual 176, 3) := dk_182 0 176 (dk_at dksX3_goesOn_1 0 rfl rfl)
theorem dX3_goesOn_25 : decode cX3_goesOn 25 = .ok (.goto 8, 3) := dk_167 0 8 (dk_at dksX3_goesOn_1 3 rfl rfl)
theorem dX3_goesOn_28 : decode cX3_goesOn 28 = .ok (.aload_n 0, 1) := dk_42 (dk_at dksX3_goesOn_1 6 rfl rfl)
theorem dX3_goesOn_29 : decode cX3_goesOn 29 = .ok (.lload_n 2, 1) := dk_32 (dk_at dksX3_goesOn_1 7 rfl rfl)
theorem dX3_goesOn_30 : decode cX3_goesOn 30 = .ok (.invokevirtual 180, 3) := dk_182 0 180 (dk_at dksX3_goesOn_1 8 rfl rfl)
theorem dX3_goesOn_33 : decode cX3_goesOn 33 = .ok (.return_, 1) := dk_177 (dk_at dksX3_goesOn_1 11 rfl rfl)
abbrev cX3_hits : ByteArray := prog_12_method_22_code
def yX3_hits : MethodName := ⟨RX3, "hits", "(I)V"⟩
def dkwX3_hits_8 : List UInt8 := [21, 5, 46, 29, 96, 79, 177]
abbrev dktX3_hits_8 : List UInt8 := dkwX3_hits_8 ++ []
def dkwX3_hits_7 : List UInt8 := [42, 180, 0, 32, 21, 5, 46, 29, 96, 21, 6, 164, 0, 8, 21, 6, 167, 0, 12, 42, 180, 0, 32]
abbrev dktX3_hits_7 : List UInt8 := dkwX3_hits_7 ++ dktX3_hits_8
def dkwX3_hits_6 : List UInt8 := [180, 0, 7, 16, 6, 42, 180, 0, 23, 21, 5, 46, 104, 4, 96, 46, 54, 6, 42, 180, 0, 32, 21, 5]
abbrev dktX3_hits_6 : List UInt8 := dkwX3_hits_6 ++ dktX3_hits_7
def dkwX3_hits_5 : List UInt8 := [182, 0, 155, 132, 5, 1, 167, 255, 227, 167, 0, 68, 42, 6, 21, 4, 100, 4, 182, 0, 151, 54, 5, 42]
abbrev dktX3_hits_5 : List UInt8 := dkwX3_hits_5 ++ dktX3_hits_6
def dkwX3_hits_4 : List UInt8 := [21, 5, 21, 4, 6, 96, 162, 0, 26, 42, 180, 0, 35, 21, 5, 51, 153, 0, 10, 42, 21, 5, 29]
abbrev dktX3_hits_4 : List UInt8 := dkwX3_hits_4 ++ dktX3_hits_5
def dkwX3_hits_3 : List UInt8 := [167, 0, 4, 3, 182, 0, 151, 29, 182, 0, 155, 167, 0, 112, 28, 4, 160, 0, 42, 21, 4, 54, 5]
abbrev dktX3_hits_3 : List UInt8 := dkwX3_hits_3 ++ dktX3_hits_4
def dkwX3_hits_2 : List UInt8 := [167, 0, 4, 3, 54, 4, 28, 154, 0, 30, 42, 42, 21, 4, 42, 180, 0, 142, 4, 160, 0, 7, 4]
abbrev dktX3_hits_2 : List UInt8 := dkwX3_hits_2 ++ dktX3_hits_3
def dkwX3_hits_1 : List UInt8 := [180, 0, 23, 27, 46, 104, 6, 96, 46, 42, 180, 0, 26, 27, 46, 96, 62, 27, 6, 162, 0, 7, 6]
abbrev dktX3_hits_1 : List UInt8 := dkwX3_hits_1 ++ dktX3_hits_2
def dkwX3_hits_0 : List UInt8 := [42, 180, 0, 7, 16, 6, 42, 180, 0, 23, 27, 46, 104, 46, 61, 42, 180, 0, 7, 16, 6, 42]
abbrev dktX3_hits_0 : List UInt8 := dkwX3_hits_0 ++ dktX3_hits_1
theorem dksX3_hits_0 : cX3_hits.data.toList.drop 0 = dktX3_hits_0 := by decide +kernel
theorem dksX3_hits_1 : cX3_hits.data.toList.drop 22 = dktX3_hits_1 := dk_seg dksX3_hits_0 22 rfl rfl
theorem dksX3_hits_2 : cX3_hits.data.toList.drop 45 = dktX3_hits_2 := dk_seg dksX3_hits_1 23 rfl rfl
theorem dksX3_hits_3 : cX3_hits.data.toList.drop 68 = dktX3_hits_3 := dk_seg dksX3_hits_2 23 rfl rfl
theorem dksX3_hits_4 : cX3_hits.data.toList.drop 91 = dktX3_hits_4 := dk_seg dksX3_hits_3 23 rfl rfl
theorem dksX3_hits_5 : cX3_hits.data.toList.drop 114 = dktX3_hits_5 := dk_seg dksX3_hits_4 23 rfl rfl
theorem dksX3_hits_6 : cX3_hits.data.toList.drop 138 = dktX3_hits_6 := dk_seg dksX3_hits_5 24 rfl rfl
theorem dksX3_hits_7 : cX3_hits.data.toList.drop 162 = dktX3_hits_7 := dk_seg dksX3_hits_6 24 rfl rfl
theorem dksX3_hits_8 : cX3_hits.data.toList.drop 185 = dktX3_hits_8 := dk_seg dksX3_hits_7 23 rfl rfl
theorem dX3_hits_0 : decode cX3_hits 0 = .ok (.aload_n 0, 1) := dk_42 (dk_at dksX3_hits_0 0 rfl rfl)
theorem dX3_hits_1 : decode cX3_hits 1 = .ok (.getfield 7, 3) := dk_180 0 7 (dk_at dksX3_hits_0 1 rfl rfl)
theorem dX3_hits_4 : decode cX3_hits 4 = .ok (.bipush 6, 2) := dk_16 6 (dk_at dksX3_hits_0 4 rfl rfl)
theorem dX3_hits_6 : decode cX3_hits 6 = .ok (.aload_n 0, 1) := dk_42 (dk_at dksX3_hits_0 6 rfl rfl)
theorem dX3_hits_7 : decode cX3_hits 7 = .ok (.getfield 23, 3) := dk_180 0 23 (dk_at dksX3_hits_0 7 rfl rfl)
theorem dX3_hits_10 : decode cX3_hits 10 = .ok (.iload_n 1, 1) := dk_27 (dk_at dksX3_hits_0 10 rfl rfl)
theorem dX3_hits_11 : decode cX3_hits 11 = .ok (.iaload, 1) := dk_46 (dk_at dksX3_hits_0 11 rfl rfl)
theorem dX3_hits_12 : decode cX3_hits 12 = .ok (.imul, 1) := dk_104 (dk_at dksX3_hits_0 12 rfl rfl)
theorem dX3_hits_13 : decode cX3_hits 13 = .ok (.iaload, 1) := dk_46 (dk_at dksX3_hits_0 13 rfl rfl)
theorem dX3_hits_14 : decode cX3_hits 14 = .ok (.istore_n 2, 1) := dk_61 (dk_at dksX3_hits_0 14 rfl rfl)
theorem dX3_hits_15 : decode cX3_hits 15 = .ok (.aload_n 0, 1) := dk_42 (dk_at dksX3_hits_0 15 rfl rfl)
theorem dX3_hits_16 : decode cX3_hits 16 = .ok (.getfield 7, 3) := dk_180 0 7 (dk_at dksX3_hits_0 16 rfl rfl)
theorem dX3_hits_19 : decode cX3_hits 19 = .ok (.bipush 6, 2) := dk_16 6 (dk_at dksX3_hits_0 19 rfl rfl)
theorem dX3_hits_21 : decode cX3_hits 21 = .ok (.aload_n 0, 1) := dk_42 (dk_at dksX3_hits_0 21 rfl rfl)
theorem dX3_hits_22 : decode cX3_hits 22 = .ok (.getfield 23, 3) := dk_180 0 23 (dk_at dksX3_hits_1 0 rfl rfl)
theorem dX3_hits_25 : decode cX3_hits 25 = .ok (.iload_n 1, 1) := dk_27 (dk_at dksX3_hits_1 3 rfl rfl)
theorem dX3_hits_26 : decode cX3_hits 26 = .ok (.iaload, 1) := dk_46 (dk_at dksX3_hits_1 4 rfl rfl)
theorem dX3_hits_27 : decode cX3_hits 27 = .ok (.imul, 1) := dk_104 (dk_at dksX3_hits_1 5 rfl rfl)
theorem dX3_hits_28 : decode cX3_hits 28 = .ok (.iconst 3, 1) := dk_6 (dk_at dksX3_hits_1 6 rfl rfl)
theorem dX3_hits_29 : decode cX3_hits 29 = .ok (.iadd, 1) := dk_96 (dk_at dksX3_hits_1 7 rfl rfl)
theorem dX3_hits_30 : decode cX3_hits 30 = .ok (.iaload, 1) := dk_46 (dk_at dksX3_hits_1 8 rfl rfl)
theorem dX3_hits_31 : decode cX3_hits 31 = .ok (.aload_n 0, 1) := dk_42 (dk_at dksX3_hits_1 9 rfl rfl)
theorem dX3_hits_32 : decode cX3_hits 32 = .ok (.getfield 26, 3) := dk_180 0 26 (dk_at dksX3_hits_1 10 rfl rfl)
theorem dX3_hits_35 : decode cX3_hits 35 = .ok (.iload_n 1, 1) := dk_27 (dk_at dksX3_hits_1 13 rfl rfl)
theorem dX3_hits_36 : decode cX3_hits 36 = .ok (.iaload, 1) := dk_46 (dk_at dksX3_hits_1 14 rfl rfl)
theorem dX3_hits_37 : decode cX3_hits 37 = .ok (.iadd, 1) := dk_96 (dk_at dksX3_hits_1 15 rfl rfl)
theorem dX3_hits_38 : decode cX3_hits 38 = .ok (.istore_n 3, 1) := dk_62 (dk_at dksX3_hits_1 16 rfl rfl)
theorem dX3_hits_39 : decode cX3_hits 39 = .ok (.iload_n 1, 1) := dk_27 (dk_at dksX3_hits_1 17 rfl rfl)
theorem dX3_hits_40 : decode cX3_hits 40 = .ok (.iconst 3, 1) := dk_6 (dk_at dksX3_hits_1 18 rfl rfl)
theorem dX3_hits_41 : decode cX3_hits 41 = .ok (.if_icmp .ge 7, 3) := dk_162 0 7 (dk_at dksX3_hits_1 19 rfl rfl)
theorem dX3_hits_44 : decode cX3_hits 44 = .ok (.iconst 3, 1) := dk_6 (dk_at dksX3_hits_1 22 rfl rfl)
theorem dX3_hits_45 : decode cX3_hits 45 = .ok (.goto 4, 3) := dk_167 0 4 (dk_at dksX3_hits_2 0 rfl rfl)
theorem dX3_hits_48 : decode cX3_hits 48 = .ok (.iconst 0, 1) := dk_3 (dk_at dksX3_hits_2 3 rfl rfl)
theorem dX3_hits_49 : decode cX3_hits 49 = .ok (.istore 4, 2) := dk_54 4 (dk_at dksX3_hits_2 4 rfl rfl)
theorem dX3_hits_51 : decode cX3_hits 51 = .ok (.iload_n 2, 1) := dk_28 (dk_at dksX3_hits_2 6 rfl rfl)
theorem dX3_hits_52 : decode cX3_hits 52 = .ok (.ifCond .ne 30, 3) := dk_154 0 30 (dk_at dksX3_hits_2 7 rfl rfl)
theorem dX3_hits_55 : decode cX3_hits 55 = .ok (.aload_n 0, 1) := dk_42 (dk_at dksX3_hits_2 10 rfl rfl)
theorem dX3_hits_56 : decode cX3_hits 56 = .ok (.aload_n 0, 1) := dk_42 (dk_at dksX3_hits_2 11 rfl rfl)
theorem dX3_hits_57 : decode cX3_hits 57 = .ok (.iload 4, 2) := dk_21 4 (dk_at dksX3_hits_2 12 rfl rfl)
theorem dX3_hits_59 : decode cX3_hits 59 = .ok (.aload_n 0, 1) := dk_42 (dk_at dksX3_hits_2 14 rfl rfl)
theorem dX3_hits_60 : decode cX3_hits 60 = .ok (.getfield 142, 3) := dk_180 0 142 (dk_at dksX3_hits_2 15 rfl rfl)
theorem dX3_hits_63 : decode cX3_hits 63 = .ok (.iconst 1, 1) := dk_4 (dk_at dksX3_hits_2 18 rfl rfl)
theorem dX3_hits_64 : decode cX3_hits 64 = .ok (.if_icmp .ne 7, 3) := dk_160 0 7 (dk_at dksX3_hits_2 19 rfl rfl)
theorem dX3_hits_67 : decode cX3_hits 67 = .ok (.iconst 1, 1) := dk_4 (dk_at dksX3_hits_2 22 rfl rfl)
theorem dX3_hits_68 : decode cX3_hits 68 = .ok (.goto 4, 3) := dk_167 0 4 (dk_at dksX3_hits_3 0 rfl rfl)
theorem dX3_hits_71 : decode cX3_hits 71 = .ok (.iconst 0, 1) := dk_3 (dk_at dksX3_hits_3 3 rfl rfl)
theorem dX3_hits_72 : decode cX3_hits 72 = .ok (.invokevirtual 151, 3) := dk_182 0 151 (dk_at dksX3_hits_3 4 rfl rfl)
theorem dX3_hits_75 : decode cX3_hits 75 = .ok (.iload_n 3, 1) := dk_29 (dk_at dksX3_hits_3 7 rfl rfl)
theorem dX3_hits_76 : decode cX3_hits 76 = .ok (.invokevirtual 155, 3) := dk_182 0 155 (dk_at dksX3_hits_3 8 rfl rfl)
theorem dX3_hits_79 : decode cX3_hits 79 = .ok (.goto 112, 3) := dk_167 0 112 (dk_at dksX3_hits_3 11 rfl rfl)
theorem dX3_hits_82 : decode cX3_hits 82 = .ok (.iload_n 2, 1) := dk_28 (dk_at dksX3_hits_3 14 rfl rfl)
theorem dX3_hits_83 : decode cX3_hits 83 = .ok (.iconst 1, 1) := dk_4 (dk_at dksX3_hits_3 15 rfl rfl)
theorem dX3_hits_84 : decode cX3_hits 84 = .ok (.if_icmp .ne 42, 3) := dk_160 0 42 (dk_at dksX3_hits_3 16 rfl rfl)
theorem dX3_hits_87 : decode cX3_hits 87 = .ok (.iload 4, 2) := dk_21 4 (dk_at dksX3_hits_3 19 rfl rfl)
theorem dX3_hits_89 : decode cX3_hits 89 = .ok (.istore 5, 2) := dk_54 5 (dk_at dksX3_hits_3 21 rfl rfl)
theorem dX3_hits_91 : decode cX3_hits 91 = .ok (.iload 5, 2) := dk_21 5 (dk_at dksX3_hits_4 0 rfl rfl)
theorem dX3_hits_93 : decode cX3_hits 93 = .ok (.iload 4, 2) := dk_21 4 (dk_at dksX3_hits_4 2 rfl rfl)
theorem dX3_hits_95 : decode cX3_hits 95 = .ok (.iconst 3, 1) := dk_6 (dk_at dksX3_hits_4 4 rfl rfl)
theorem dX3_hits_96 : decode cX3_hits 96 = .ok (.iadd, 1) := dk_96 (dk_at dksX3_hits_4 5 rfl rfl)
theorem dX3_hits_97 : decode cX3_hits 97 = .ok (.if_icmp .ge 26, 3) := dk_162 0 26 (dk_at dksX3_hits_4 6 rfl rfl)
theorem dX3_hits_100 : decode cX3_hits 100 = .ok (.aload_n 0, 1) := dk_42 (dk_at dksX3_hits_4 9 rfl rfl)
theorem dX3_hits_101 : decode cX3_hits 101 = .ok (.getfield 35, 3) := dk_180 0 35 (dk_at dksX3_hits_4 10 rfl rfl)
theorem dX3_hits_104 : decode cX3_hits 104 = .ok (.iload 5, 2) := dk_21 5 (dk_at dksX3_hits_4 13 rfl rfl)
theorem dX3_hits_106 : decode cX3_hits 106 = .ok (.baload, 1) := dk_51 (dk_at dksX3_hits_4 15 rfl rfl)
theorem dX3_hits_107 : decode cX3_hits 107 = .ok (.ifCond .eq 10, 3) := dk_153 0 10 (dk_at dksX3_hits_4 16 rfl rfl)
theorem dX3_hits_110 : decode cX3_hits 110 = .ok (.aload_n 0, 1) := dk_42 (dk_at dksX3_hits_4 19 rfl rfl)
theorem dX3_hits_111 : decode cX3_hits 111 = .ok (.iload 5, 2) := dk_21 5 (dk_at dksX3_hits_4 20 rfl rfl)
theorem dX3_hits_113 : decode cX3_hits 113 = .ok (.iload_n 3, 1) := dk_29 (dk_at dksX3_hits_4 22 rfl rfl)
theorem dX3_hits_114 : decode cX3_hits 114 = .ok (.invokevirtual 155, 3) := dk_182 0 155 (dk_at dksX3_hits_5 0 rfl rfl)
theorem dX3_hits_117 : decode cX3_hits 117 = .ok (.iinc 5 1, 3) := dk_132 5 1 (dk_at dksX3_hits_5 3 rfl rfl)
theorem dX3_hits_120 : decode cX3_hits 120 = .ok (.goto (-29), 3) := dk_167 255 227 (dk_at dksX3_hits_5 6 rfl rfl)
theorem dX3_hits_123 : decode cX3_hits 123 = .ok (.goto 68, 3) := dk_167 0 68 (dk_at dksX3_hits_5 9 rfl rfl)
theorem dX3_hits_126 : decode cX3_hits 126 = .ok (.aload_n 0, 1) := dk_42 (dk_at dksX3_hits_5 12 rfl rfl)
theorem dX3_hits_127 : decode cX3_hits 127 = .ok (.iconst 3, 1) := dk_6 (dk_at dksX3_hits_5 13 rfl rfl)
theorem dX3_hits_128 : decode cX3_hits 128 = .ok (.iload 4, 2) := dk_21 4 (dk_at dksX3_hits_5 14 rfl rfl)
theorem dX3_hits_130 : decode cX3_hits 130 = .ok (.isub, 1) := dk_100 (dk_at dksX3_hits_5 16 rfl rfl)
theorem dX3_hits_131 : decode cX3_hits 131 = .ok (.iconst 1, 1) := dk_4 (dk_at dksX3_hits_5 17 rfl rfl)
theorem dX3_hits_132 : decode cX3_hits 132 = .ok (.invokevirtual 151, 3) := dk_182 0 151 (dk_at dksX3_hits_5 18 rfl rfl)
theorem dX3_hits_135 : decode cX3_hits 135 = .ok (.istore 5, 2) := dk_54 5 (dk_at dksX3_hits_5 21 rfl rfl)
theorem dX3_hits_137 : decode cX3_hits 137 = .ok (.aload_n 0, 1) := dk_42 (dk_at dksX3_hits_5 23 rfl rfl)
theorem dX3_hits_138 : decode cX3_hits 138 = .ok (.getfield 7, 3) := dk_180 0 7 (dk_at dksX3_hits_6 0 rfl rfl)
theorem dX3_hits_141 : decode cX3_hits 141 = .ok (.bipush 6, 2) := dk_16 6 (dk_at dksX3_hits_6 3 rfl rfl)
theorem dX3_hits_143 : decode cX3_hits 143 = .ok (.aload_n 0, 1) := dk_42 (dk_at dksX3_hits_6 5 rfl rfl)
theorem dX3_hits_144 : decode cX3_hits 144 = .ok (.getfield 23, 3) := dk_180 0 23 (dk_at dksX3_hits_6 6 rfl rfl)
theorem dX3_hits_147 : decode cX3_hits 147 = .ok (.iload 5, 2) := dk_21 5 (dk_at dksX3_hits_6 9 rfl rfl)
theorem dX3_hits_149 : decode cX3_hits 149 = .ok (.iaload, 1) := dk_46 (dk_at dksX3_hits_6 11 rfl rfl)
theorem dX3_hits_150 : decode cX3_hits 150 = .ok (.imul, 1) := dk_104 (dk_at dksX3_hits_6 12 rfl rfl)
theorem dX3_hits_151 : decode cX3_hits 151 = .ok (.iconst 1, 1) := dk_4 (dk_at dksX3_hits_6 13 rfl rfl)
theorem dX3_hits_152 : decode cX3_hits 152 = .ok (.iadd, 1) := dk_96 (dk_at dksX3_hits_6 14 rfl rfl)
theorem dX3_hits_153 : decode cX3_hits 153 = .ok (.iaload, 1) := dk_46 (dk_at dksX3_hits_6 15 rfl rfl)
theorem dX3_hits_154 : decode cX3_hits 154 = .ok (.istore 6, 2) := dk_54 6 (dk_at dksX3_hits_6 16 rfl rfl)
theorem dX3_hits_156 : decode cX3_hits 156 = .ok (.aload_n 0, 1) := dk_42 (dk_at dksX3_hits_6 18 rfl rfl)
theorem dX3_hits_157 : decode cX3_hits 157 = .ok (.getfield 32, 3) := dk_180 0 32 (dk_at dksX3_hits_6 19 rfl rfl)
theorem dX3_hits_160 : decode cX3_hits 160 = .ok (.iload 5, 2) := dk_21 5 (dk_at dksX3_hits_6 22 rfl rfl)
theorem dX3_hits_162 : decode cX3_hits 162 = .ok (.aload_n 0, 1) := dk_42 (dk_at dksX3_hits_7 0 rfl rfl)
theorem dX3_hits_163 : decode cX3_hits 163 = .ok (.getfield 32, 3) := dk_180 0 32 (dk_at dksX3_hits_7 1 rfl rfl)
theorem dX3_hits_166 : decode cX3_hits 166 = .ok (.iload 5, 2) := dk_21 5 (dk_at dksX3_hits_7 4 rfl rfl)
theorem dX3_hits_168 : decode cX3_hits 168 = .ok (.iaload, 1) := dk_46 (dk_at dksX3_hits_7 6 rfl rfl)
theorem dX3_hits_169 : decode cX3_hits 169 = .ok (.iload_n 3, 1) := dk_29 (dk_at dksX3_hits_7 7 rfl rfl)
theorem dX3_hits_170 : decode cX3_hits 170 = .ok (.iadd, 1) := dk_96 (dk_at dksX3_hits_7 8 rfl rfl)
theorem dX3_hits_171 : decode cX3_hits 171 = .ok (.iload 6, 2) := dk_21 6 (dk_at dksX3_hits_7 9 rfl rfl)
theorem dX3_hits_173 : decode cX3_hits 173 = .ok (.if_icmp .le 8, 3) := dk_164 0 8 (dk_at dksX3_hits_7 11 rfl rfl)
theorem dX3_hits_176 : decode cX3_hits 176 = .ok (.iload 6, 2) := dk_21 6 (dk_at dksX3_hits_7 14 rfl rfl)
theorem dX3_hits_178 : decode cX3_hits 178 = .ok (.goto 12, 3) := dk_167 0 12 (dk_at dksX3_hits_7 16 rfl rfl)
theorem dX3_hits_181 : decode cX3_hits 181 = .ok (.aload_n 0, 1) := dk_42 (dk_at dksX3_hits_7 19 rfl rfl)
theorem dX3_hits_182 : decode cX3_hits 182 = .ok (.getfield 32, 3) := dk_180 0 32 (dk_at dksX3_hits_7 20 rfl rfl)
theorem dX3_hits_185 : decode cX3_hits 185 = .ok (.iload 5, 2) := dk_21 5 (dk_at dksX3_hits_8 0 rfl rfl)
theorem dX3_hits_187 : decode cX3_hits 187 = .ok (.iaload, 1) := dk_46 (dk_at dksX3_hits_8 2 rfl rfl)
theorem dX3_hits_188 : decode cX3_hits 188 = .ok (.iload_n 3, 1) := dk_29 (dk_at dksX3_hits_8 3 rfl rfl)
theorem dX3_hits_189 : decode cX3_hits 189 = .ok (.iadd, 1) := dk_96 (dk_at dksX3_hits_8 4 rfl rfl)
theorem dX3_hits_190 : decode cX3_hits 190 = .ok (.iastore, 1) := dk_79 (dk_at dksX3_hits_8 5 rfl rfl)
theorem dX3_hits_191 : decode cX3_hits 191 = .ok (.return_, 1) := dk_177 (dk_at dksX3_hits_8 6 rfl rfl)
abbrev cX3_target : ByteArray := prog_12_method_19_code
def yX3_target : MethodName := ⟨RX3, "target", "(IZ)I"⟩
def dkwX3_target_2 : List UInt8 := [21, 4, 62, 132, 4, 1, 167, 255, 207, 29, 172]
abbrev dktX3_target_2 : List UInt8 := dkwX3_target_2 ++ []
def dkwX3_target_1 : List UInt8 := [2, 159, 0, 23, 28, 153, 0, 22, 42, 180, 0, 32, 21, 4, 46, 42, 180, 0, 32, 29, 46, 162, 0, 6]
abbrev dktX3_target_1 : List UInt8 := dkwX3_target_1 ++ dktX3_target_2
def dkwX3_target_0 : List UInt8 := [2, 62, 27, 54, 4, 21, 4, 27, 6, 96, 162, 0, 47, 42, 180, 0, 35, 21, 4, 51, 153, 0, 31, 29]
abbrev dktX3_target_0 : List UInt8 := dkwX3_target_0 ++ dktX3_target_1
theorem dksX3_target_0 : cX3_target.data.toList.drop 0 = dktX3_target_0 := by decide +kernel
theorem dksX3_target_1 : cX3_target.data.toList.drop 24 = dktX3_target_1 := dk_seg dksX3_target_0 24 rfl rfl
theorem dksX3_target_2 : cX3_target.data.toList.drop 48 = dktX3_target_2 := dk_seg dksX3_target_1 24 rfl rfl
theorem dX3_target_0 : decode cX3_target 0 = .ok (.iconst (-1), 1) := dk_2 (dk_at dksX3_target_0 0 rfl rfl)
theorem dX3_target_1 : decode cX3_target 1 = .ok (.istore_n 3, 1) := dk_62 (dk_at dksX3_target_0 1 rfl rfl)
theorem dX3_target_2 : decode cX3_target 2 = .ok (.iload_n 1, 1) := dk_27 (dk_at dksX3_target_0 2 rfl rfl)
theorem dX3_target_3 : decode cX3_target 3 = .ok (.istore 4, 2) := dk_54 4 (dk_at dksX3_target_0 3 rfl rfl)
theorem dX3_target_5 : decode cX3_target 5 = .ok (.iload 4, 2) := dk_21 4 (dk_at dksX3_target_0 5 rfl rfl)
theorem dX3_target_7 : decode cX3_target 7 = .ok (.iload_n 1, 1) := dk_27 (dk_at dksX3_target_0 7 rfl rfl)
theorem dX3_target_8 : decode cX3_target 8 = .ok (.iconst 3, 1) := dk_6 (dk_at dksX3_target_0 8 rfl rfl)
theorem dX3_target_9 : decode cX3_target 9 = .ok (.iadd, 1) := dk_96 (dk_at dksX3_target_0 9 rfl rfl)
theorem dX3_target_10 : decode cX3_target 10 = .ok (.if_icmp .ge 47, 3) := dk_162 0 47 (dk_at dksX3_target_0 10 rfl rfl)
theorem dX3_target_13 : decode cX3_target 13 = .ok (.aload_n 0, 1) := dk_42 (dk_at dksX3_target_0 13 rfl rfl)
theorem dX3_target_14 : decode cX3_target 14 = .ok (.getfield 35, 3) := dk_180 0 35 (dk_at dksX3_target_0 14 rfl rfl)
theorem dX3_target_17 : decode cX3_target 17 = .ok (.iload 4, 2) := dk_21 4 (dk_at dksX3_target_0 17 rfl rfl)
theorem dX3_target_19 : decode cX3_target 19 = .ok (.baload, 1) := dk_51 (dk_at dksX3_target_0 19 rfl rfl)
theorem dX3_target_20 : decode cX3_target 20 = .ok (.ifCond .eq 31, 3) := dk_153 0 31 (dk_at dksX3_target_0 20 rfl rfl)
theorem dX3_target_23 : decode cX3_target 23 = .ok (.iload_n 3, 1) := dk_29 (dk_at dksX3_target_0 23 rfl rfl)
theorem dX3_target_24 : decode cX3_target 24 = .ok (.iconst (-1), 1) := dk_2 (dk_at dksX3_target_1 0 rfl rfl)
theorem dX3_target_25 : decode cX3_target 25 = .ok (.if_icmp .eq 23, 3) := dk_159 0 23 (dk_at dksX3_target_1 1 rfl rfl)
theorem dX3_target_28 : decode cX3_target 28 = .ok (.iload_n 2, 1) := dk_28 (dk_at dksX3_target_1 4 rfl rfl)
theorem dX3_target_29 : decode cX3_target 29 = .ok (.ifCond .eq 22, 3) := dk_153 0 22 (dk_at dksX3_target_1 5 rfl rfl)
theorem dX3_target_32 : decode cX3_target 32 = .ok (.aload_n 0, 1) := dk_42 (dk_at dksX3_target_1 8 rfl rfl)
theorem dX3_target_33 : decode cX3_target 33 = .ok (.getfield 32, 3) := dk_180 0 32 (dk_at dksX3_target_1 9 rfl rfl)
theorem dX3_target_36 : decode cX3_target 36 = .ok (.iload 4, 2) := dk_21 4 (dk_at dksX3_target_1 12 rfl rfl)
theorem dX3_target_38 : decode cX3_target 38 = .ok (.iaload, 1) := dk_46 (dk_at dksX3_target_1 14 rfl rfl)
theorem dX3_target_39 : decode cX3_target 39 = .ok (.aload_n 0, 1) := dk_42 (dk_at dksX3_target_1 15 rfl rfl)
theorem dX3_target_40 : decode cX3_target 40 = .ok (.getfield 32, 3) := dk_180 0 32 (dk_at dksX3_target_1 16 rfl rfl)
theorem dX3_target_43 : decode cX3_target 43 = .ok (.iload_n 3, 1) := dk_29 (dk_at dksX3_target_1 19 rfl rfl)
theorem dX3_target_44 : decode cX3_target 44 = .ok (.iaload, 1) := dk_46 (dk_at dksX3_target_1 20 rfl rfl)
theorem dX3_target_45 : decode cX3_target 45 = .ok (.if_icmp .ge 6, 3) := dk_162 0 6 (dk_at dksX3_target_1 21 rfl rfl)
theorem dX3_target_48 : decode cX3_target 48 = .ok (.iload 4, 2) := dk_21 4 (dk_at dksX3_target_2 0 rfl rfl)
theorem dX3_target_50 : decode cX3_target 50 = .ok (.istore_n 3, 1) := dk_62 (dk_at dksX3_target_2 2 rfl rfl)
theorem dX3_target_51 : decode cX3_target 51 = .ok (.iinc 4 1, 3) := dk_132 4 1 (dk_at dksX3_target_2 3 rfl rfl)
theorem dX3_target_54 : decode cX3_target 54 = .ok (.goto (-49), 3) := dk_167 255 207 (dk_at dksX3_target_2 6 rfl rfl)
theorem dX3_target_57 : decode cX3_target 57 = .ok (.iload_n 3, 1) := dk_29 (dk_at dksX3_target_2 9 rfl rfl)
theorem dX3_target_58 : decode cX3_target 58 = .ok (.ireturn, 1) := dk_172 (dk_at dksX3_target_2 10 rfl rfl)
abbrev cX3_hurts : ByteArray := prog_12_method_18_code
def yX3_hurts : MethodName := ⟨RX3, "hurts", "(II)V"⟩
def dkwX3_hurts_2 : List UInt8 := [84, 177]
abbrev dktX3_hurts_2 : List UInt8 := dkwX3_hurts_2 ++ []
def dkwX3_hurts_1 : List UInt8 := [167, 0, 4, 3, 79, 42, 180, 0, 35, 27, 42, 180, 0, 32, 27, 46, 158, 0, 7, 4, 167, 0, 4, 3]
abbrev dktX3_hurts_1 : List UInt8 := dkwX3_hurts_1 ++ dktX3_hurts_2
def dkwX3_hurts_0 : List UInt8 := [42, 180, 0, 32, 27, 42, 180, 0, 32, 27, 46, 28, 164, 0, 14, 42, 180, 0, 32, 27, 46, 28, 100]
abbrev dktX3_hurts_0 : List UInt8 := dkwX3_hurts_0 ++ dktX3_hurts_1
theorem dksX3_hurts_0 : cX3_hurts.data.toList.drop 0 = dktX3_hurts_0 := by decide +kernel
theorem dksX3_hurts_1 : cX3_hurts.data.toList.drop 23 = dktX3_hurts_1 := dk_seg dksX3_hurts_0 23 rfl rfl
theorem dksX3_hurts_2 : cX3_hurts.data.toList.drop 47 = dktX3_hurts_2 := dk_seg dksX3_hurts_1 24 rfl rfl
theorem dX3_hurts_0 : decode cX3_hurts 0 = .ok (.aload_n 0, 1) := dk_42 (dk_at dksX3_hurts_0 0 rfl rfl)
theorem dX3_hurts_1 : decode cX3_hurts 1 = .ok (.getfield 32, 3) := dk_180 0 32 (dk_at dksX3_hurts_0 1 rfl rfl)
theorem dX3_hurts_4 : decode cX3_hurts 4 = .ok (.iload_n 1, 1) := dk_27 (dk_at dksX3_hurts_0 4 rfl rfl)
theorem dX3_hurts_5 : decode cX3_hurts 5 = .ok (.aload_n 0, 1) := dk_42 (dk_at dksX3_hurts_0 5 rfl rfl)
theorem dX3_hurts_6 : decode cX3_hurts 6 = .ok (.getfield 32, 3) := dk_180 0 32 (dk_at dksX3_hurts_0 6 rfl rfl)
theorem dX3_hurts_9 : decode cX3_hurts 9 = .ok (.iload_n 1, 1) := dk_27 (dk_at dksX3_hurts_0 9 rfl rfl)
theorem dX3_hurts_10 : decode cX3_hurts 10 = .ok (.iaload, 1) := dk_46 (dk_at dksX3_hurts_0 10 rfl rfl)
theorem dX3_hurts_11 : decode cX3_hurts 11 = .ok (.iload_n 2, 1) := dk_28 (dk_at dksX3_hurts_0 11 rfl rfl)
theorem dX3_hurts_12 : decode cX3_hurts 12 = .ok (.if_icmp .le 14, 3) := dk_164 0 14 (dk_at dksX3_hurts_0 12 rfl rfl)
theorem dX3_hurts_15 : decode cX3_hurts 15 = .ok (.aload_n 0, 1) := dk_42 (dk_at dksX3_hurts_0 15 rfl rfl)
theorem dX3_hurts_16 : decode cX3_hurts 16 = .ok (.getfield 32, 3) := dk_180 0 32 (dk_at dksX3_hurts_0 16 rfl rfl)
theorem dX3_hurts_19 : decode cX3_hurts 19 = .ok (.iload_n 1, 1) := dk_27 (dk_at dksX3_hurts_0 19 rfl rfl)
theorem dX3_hurts_20 : decode cX3_hurts 20 = .ok (.iaload, 1) := dk_46 (dk_at dksX3_hurts_0 20 rfl rfl)
theorem dX3_hurts_21 : decode cX3_hurts 21 = .ok (.iload_n 2, 1) := dk_28 (dk_at dksX3_hurts_0 21 rfl rfl)
theorem dX3_hurts_22 : decode cX3_hurts 22 = .ok (.isub, 1) := dk_100 (dk_at dksX3_hurts_0 22 rfl rfl)
theorem dX3_hurts_23 : decode cX3_hurts 23 = .ok (.goto 4, 3) := dk_167 0 4 (dk_at dksX3_hurts_1 0 rfl rfl)
theorem dX3_hurts_26 : decode cX3_hurts 26 = .ok (.iconst 0, 1) := dk_3 (dk_at dksX3_hurts_1 3 rfl rfl)
theorem dX3_hurts_27 : decode cX3_hurts 27 = .ok (.iastore, 1) := dk_79 (dk_at dksX3_hurts_1 4 rfl rfl)
theorem dX3_hurts_28 : decode cX3_hurts 28 = .ok (.aload_n 0, 1) := dk_42 (dk_at dksX3_hurts_1 5 rfl rfl)
theorem dX3_hurts_29 : decode cX3_hurts 29 = .ok (.getfield 35, 3) := dk_180 0 35 (dk_at dksX3_hurts_1 6 rfl rfl)
theorem dX3_hurts_32 : decode cX3_hurts 32 = .ok (.iload_n 1, 1) := dk_27 (dk_at dksX3_hurts_1 9 rfl rfl)
theorem dX3_hurts_33 : decode cX3_hurts 33 = .ok (.aload_n 0, 1) := dk_42 (dk_at dksX3_hurts_1 10 rfl rfl)
theorem dX3_hurts_34 : decode cX3_hurts 34 = .ok (.getfield 32, 3) := dk_180 0 32 (dk_at dksX3_hurts_1 11 rfl rfl)
theorem dX3_hurts_37 : decode cX3_hurts 37 = .ok (.iload_n 1, 1) := dk_27 (dk_at dksX3_hurts_1 14 rfl rfl)
theorem dX3_hurts_38 : decode cX3_hurts 38 = .ok (.iaload, 1) := dk_46 (dk_at dksX3_hurts_1 15 rfl rfl)
theorem dX3_hurts_39 : decode cX3_hurts 39 = .ok (.ifCond .le 7, 3) := dk_158 0 7 (dk_at dksX3_hurts_1 16 rfl rfl)
theorem dX3_hurts_42 : decode cX3_hurts 42 = .ok (.iconst 1, 1) := dk_4 (dk_at dksX3_hurts_1 19 rfl rfl)
theorem dX3_hurts_43 : decode cX3_hurts 43 = .ok (.goto 4, 3) := dk_167 0 4 (dk_at dksX3_hurts_1 20 rfl rfl)
theorem dX3_hurts_46 : decode cX3_hurts 46 = .ok (.iconst 0, 1) := dk_3 (dk_at dksX3_hurts_1 23 rfl rfl)
theorem dX3_hurts_47 : decode cX3_hurts 47 = .ok (.bastore, 1) := dk_84 (dk_at dksX3_hurts_2 0 rfl rfl)
theorem dX3_hurts_48 : decode cX3_hurts 48 = .ok (.return_, 1) := dk_177 (dk_at dksX3_hurts_2 1 rfl rfl)
abbrev cX3_no : ByteArray := prog_12_method_4_code
def yX3_no : MethodName := ⟨RX3, "no", "(I)J"⟩
def dkwX3_no_0 : List UInt8 := [20, 0, 103, 26, 133, 101, 173]
abbrev dktX3_no_0 : List UInt8 := dkwX3_no_0 ++ []
theorem dksX3_no_0 : cX3_no.data.toList.drop 0 = dktX3_no_0 := by decide +kernel
theorem dX3_no_0 : decode cX3_no 0 = .ok (.ldc2_w 103, 3) := dk_20 0 103 (dk_at dksX3_no_0 0 rfl rfl)
theorem dX3_no_3 : decode cX3_no 3 = .ok (.iload_n 0, 1) := dk_26 (dk_at dksX3_no_0 3 rfl rfl)
theorem dX3_no_4 : decode cX3_no 4 = .ok (.i2l, 1) := dk_133 (dk_at dksX3_no_0 4 rfl rfl)
theorem dX3_no_5 : decode cX3_no 5 = .ok (.lsub, 1) := dk_101 (dk_at dksX3_no_0 5 rfl rfl)
theorem dX3_no_6 : decode cX3_no 6 = .ok (.lreturn, 1) := dk_173 (dk_at dksX3_no_0 6 rfl rfl)
abbrev cX3_ways : ByteArray := prog_12_method_34_code
def yX3_ways : MethodName := ⟨RX3, "ways", "(I)J"⟩
def dkwX3_ways_1 : List UInt8 := [153, 0, 11, 16, 251, 184, 0, 224, 167, 0, 9, 42, 180, 0, 55, 27, 47, 173]
abbrev dktX3_ways_1 : List UInt8 := dkwX3_ways_1 ++ []
def dkwX3_ways_0 : List UInt8 := [27, 133, 9, 20, 0, 105, 184, 0, 107, 154, 0, 9, 16, 254, 184, 0, 224, 173, 42, 182, 0, 221]
abbrev dktX3_ways_0 : List UInt8 := dkwX3_ways_0 ++ dktX3_ways_1
theorem dksX3_ways_0 : cX3_ways.data.toList.drop 0 = dktX3_ways_0 := by decide +kernel
theorem dksX3_ways_1 : cX3_ways.data.toList.drop 22 = dktX3_ways_1 := dk_seg dksX3_ways_0 22 rfl rfl
theorem dX3_ways_0 : decode cX3_ways 0 = .ok (.iload_n 1, 1) := dk_27 (dk_at dksX3_ways_0 0 rfl rfl)
theorem dX3_ways_1 : decode cX3_ways 1 = .ok (.i2l, 1) := dk_133 (dk_at dksX3_ways_0 1 rfl rfl)
theorem dX3_ways_2 : decode cX3_ways 2 = .ok (.lconst 0, 1) := dk_9 (dk_at dksX3_ways_0 2 rfl rfl)
theorem dX3_ways_3 : decode cX3_ways 3 = .ok (.ldc2_w 105, 3) := dk_20 0 105 (dk_at dksX3_ways_0 3 rfl rfl)
theorem dX3_ways_6 : decode cX3_ways 6 = .ok (.invokestatic 107, 3) := dk_184 0 107 (dk_at dksX3_ways_0 6 rfl rfl)
theorem dX3_ways_9 : decode cX3_ways 9 = .ok (.ifCond .ne 9, 3) := dk_154 0 9 (dk_at dksX3_ways_0 9 rfl rfl)
theorem dX3_ways_12 : decode cX3_ways 12 = .ok (.bipush (-2), 2) := dk_16 254 (dk_at dksX3_ways_0 12 rfl rfl)
theorem dX3_ways_14 : decode cX3_ways 14 = .ok (.invokestatic 224, 3) := dk_184 0 224 (dk_at dksX3_ways_0 14 rfl rfl)
theorem dX3_ways_17 : decode cX3_ways 17 = .ok (.lreturn, 1) := dk_173 (dk_at dksX3_ways_0 17 rfl rfl)
theorem dX3_ways_18 : decode cX3_ways 18 = .ok (.aload_n 0, 1) := dk_42 (dk_at dksX3_ways_0 18 rfl rfl)
theorem dX3_ways_19 : decode cX3_ways 19 = .ok (.invokevirtual 221, 3) := dk_182 0 221 (dk_at dksX3_ways_0 19 rfl rfl)
theorem dX3_ways_22 : decode cX3_ways 22 = .ok (.ifCond .eq 11, 3) := dk_153 0 11 (dk_at dksX3_ways_1 0 rfl rfl)
theorem dX3_ways_25 : decode cX3_ways 25 = .ok (.bipush (-5), 2) := dk_16 251 (dk_at dksX3_ways_1 3 rfl rfl)
theorem dX3_ways_27 : decode cX3_ways 27 = .ok (.invokestatic 224, 3) := dk_184 0 224 (dk_at dksX3_ways_1 5 rfl rfl)
theorem dX3_ways_30 : decode cX3_ways 30 = .ok (.goto 9, 3) := dk_167 0 9 (dk_at dksX3_ways_1 8 rfl rfl)
theorem dX3_ways_33 : decode cX3_ways 33 = .ok (.aload_n 0, 1) := dk_42 (dk_at dksX3_ways_1 11 rfl rfl)
theorem dX3_ways_34 : decode cX3_ways 34 = .ok (.getfield 55, 3) := dk_180 0 55 (dk_at dksX3_ways_1 12 rfl rfl)
theorem dX3_ways_37 : decode cX3_ways 37 = .ok (.iload_n 1, 1) := dk_27 (dk_at dksX3_ways_1 15 rfl rfl)
theorem dX3_ways_38 : decode cX3_ways 38 = .ok (.laload, 1) := dk_47 (dk_at dksX3_ways_1 16 rfl rfl)
theorem dX3_ways_39 : decode cX3_ways 39 = .ok (.lreturn, 1) := dk_173 (dk_at dksX3_ways_1 17 rfl rfl)
abbrev cX3_chance : ByteArray := prog_12_method_35_code
def yX3_chance : MethodName := ⟨RX3, "chance", "()I"⟩
def dkwX3_chance_0 : List UInt8 := [42, 182, 0, 221, 153, 0, 8, 16, 251, 167, 0, 7, 42, 182, 0, 228, 172]
abbrev dktX3_chance_0 : List UInt8 := dkwX3_chance_0 ++ []
theorem dksX3_chance_0 : cX3_chance.data.toList.drop 0 = dktX3_chance_0 := by decide +kernel
theorem dX3_chance_0 : decode cX3_chance 0 = .ok (.aload_n 0, 1) := dk_42 (dk_at dksX3_chance_0 0 rfl rfl)
theorem dX3_chance_1 : decode cX3_chance 1 = .ok (.invokevirtual 221, 3) := dk_182 0 221 (dk_at dksX3_chance_0 1 rfl rfl)
theorem dX3_chance_4 : decode cX3_chance 4 = .ok (.ifCond .eq 8, 3) := dk_153 0 8 (dk_at dksX3_chance_0 4 rfl rfl)
theorem dX3_chance_7 : decode cX3_chance 7 = .ok (.bipush (-5), 2) := dk_16 251 (dk_at dksX3_chance_0 7 rfl rfl)
theorem dX3_chance_9 : decode cX3_chance 9 = .ok (.goto 7, 3) := dk_167 0 7 (dk_at dksX3_chance_0 9 rfl rfl)
theorem dX3_chance_12 : decode cX3_chance 12 = .ok (.aload_n 0, 1) := dk_42 (dk_at dksX3_chance_0 12 rfl rfl)
theorem dX3_chance_13 : decode cX3_chance 13 = .ok (.invokevirtual 228, 3) := dk_182 0 228 (dk_at dksX3_chance_0 13 rfl rfl)
theorem dX3_chance_16 : decode cX3_chance 16 = .ok (.ireturn, 1) := dk_172 (dk_at dksX3_chance_0 16 rfl rfl)
abbrev cX3_chanceOf : ByteArray := prog_12_method_31_code
def yX3_chanceOf : MethodName := ⟨RX3, "chanceOf", "()I"⟩
def dkwX3_chanceOf_2 : List UInt8 := [33, 31, 109, 97, 55, 5, 33, 31, 113, 66, 132, 7, 1, 167, 255, 224, 22, 5, 136, 172]
abbrev dktX3_chanceOf_2 : List UInt8 := dkwX3_chanceOf_2 ++ []
def dkwX3_chanceOf_1 : List UInt8 := [113, 66, 3, 54, 7, 21, 7, 16, 6, 162, 0, 31, 20, 0, 219, 33, 105, 66, 20, 0, 219, 22, 5, 105]
abbrev dktX3_chanceOf_1 : List UInt8 := dkwX3_chanceOf_1 ++ dktX3_chanceOf_2
def dkwX3_chanceOf_0 : List UInt8 := [42, 180, 0, 64, 42, 182, 0, 190, 47, 64, 42, 180, 0, 55, 3, 47, 66, 33, 31, 109, 55, 5, 33, 31]
abbrev dktX3_chanceOf_0 : List UInt8 := dkwX3_chanceOf_0 ++ dktX3_chanceOf_1
theorem dksX3_chanceOf_0 : cX3_chanceOf.data.toList.drop 0 = dktX3_chanceOf_0 := by decide +kernel
theorem dksX3_chanceOf_1 : cX3_chanceOf.data.toList.drop 24 = dktX3_chanceOf_1 := dk_seg dksX3_chanceOf_0 24 rfl rfl
theorem dksX3_chanceOf_2 : cX3_chanceOf.data.toList.drop 48 = dktX3_chanceOf_2 := dk_seg dksX3_chanceOf_1 24 rfl rfl
theorem dX3_chanceOf_0 : decode cX3_chanceOf 0 = .ok (.aload_n 0, 1) := dk_42 (dk_at dksX3_chanceOf_0 0 rfl rfl)
theorem dX3_chanceOf_1 : decode cX3_chanceOf 1 = .ok (.getfield 64, 3) := dk_180 0 64 (dk_at dksX3_chanceOf_0 1 rfl rfl)
theorem dX3_chanceOf_4 : decode cX3_chanceOf 4 = .ok (.aload_n 0, 1) := dk_42 (dk_at dksX3_chanceOf_0 4 rfl rfl)
theorem dX3_chanceOf_5 : decode cX3_chanceOf 5 = .ok (.invokevirtual 190, 3) := dk_182 0 190 (dk_at dksX3_chanceOf_0 5 rfl rfl)
theorem dX3_chanceOf_8 : decode cX3_chanceOf 8 = .ok (.laload, 1) := dk_47 (dk_at dksX3_chanceOf_0 8 rfl rfl)
theorem dX3_chanceOf_9 : decode cX3_chanceOf 9 = .ok (.lstore_n 1, 1) := dk_64 (dk_at dksX3_chanceOf_0 9 rfl rfl)
theorem dX3_chanceOf_10 : decode cX3_chanceOf 10 = .ok (.aload_n 0, 1) := dk_42 (dk_at dksX3_chanceOf_0 10 rfl rfl)
theorem dX3_chanceOf_11 : decode cX3_chanceOf 11 = .ok (.getfield 55, 3) := dk_180 0 55 (dk_at dksX3_chanceOf_0 11 rfl rfl)
theorem dX3_chanceOf_14 : decode cX3_chanceOf 14 = .ok (.iconst 0, 1) := dk_3 (dk_at dksX3_chanceOf_0 14 rfl rfl)
theorem dX3_chanceOf_15 : decode cX3_chanceOf 15 = .ok (.laload, 1) := dk_47 (dk_at dksX3_chanceOf_0 15 rfl rfl)
theorem dX3_chanceOf_16 : decode cX3_chanceOf 16 = .ok (.lstore_n 3, 1) := dk_66 (dk_at dksX3_chanceOf_0 16 rfl rfl)
theorem dX3_chanceOf_17 : decode cX3_chanceOf 17 = .ok (.lload_n 3, 1) := dk_33 (dk_at dksX3_chanceOf_0 17 rfl rfl)
theorem dX3_chanceOf_18 : decode cX3_chanceOf 18 = .ok (.lload_n 1, 1) := dk_31 (dk_at dksX3_chanceOf_0 18 rfl rfl)
theorem dX3_chanceOf_19 : decode cX3_chanceOf 19 = .ok (.ldiv, 1) := dk_109 (dk_at dksX3_chanceOf_0 19 rfl rfl)
theorem dX3_chanceOf_20 : decode cX3_chanceOf 20 = .ok (.lstore 5, 2) := dk_55 5 (dk_at dksX3_chanceOf_0 20 rfl rfl)
theorem dX3_chanceOf_22 : decode cX3_chanceOf 22 = .ok (.lload_n 3, 1) := dk_33 (dk_at dksX3_chanceOf_0 22 rfl rfl)
theorem dX3_chanceOf_23 : decode cX3_chanceOf 23 = .ok (.lload_n 1, 1) := dk_31 (dk_at dksX3_chanceOf_0 23 rfl rfl)
theorem dX3_chanceOf_24 : decode cX3_chanceOf 24 = .ok (.lrem, 1) := dk_113 (dk_at dksX3_chanceOf_1 0 rfl rfl)
theorem dX3_chanceOf_25 : decode cX3_chanceOf 25 = .ok (.lstore_n 3, 1) := dk_66 (dk_at dksX3_chanceOf_1 1 rfl rfl)
theorem dX3_chanceOf_26 : decode cX3_chanceOf 26 = .ok (.iconst 0, 1) := dk_3 (dk_at dksX3_chanceOf_1 2 rfl rfl)
theorem dX3_chanceOf_27 : decode cX3_chanceOf 27 = .ok (.istore 7, 2) := dk_54 7 (dk_at dksX3_chanceOf_1 3 rfl rfl)
theorem dX3_chanceOf_29 : decode cX3_chanceOf 29 = .ok (.iload 7, 2) := dk_21 7 (dk_at dksX3_chanceOf_1 5 rfl rfl)
theorem dX3_chanceOf_31 : decode cX3_chanceOf 31 = .ok (.bipush 6, 2) := dk_16 6 (dk_at dksX3_chanceOf_1 7 rfl rfl)
theorem dX3_chanceOf_33 : decode cX3_chanceOf 33 = .ok (.if_icmp .ge 31, 3) := dk_162 0 31 (dk_at dksX3_chanceOf_1 9 rfl rfl)
theorem dX3_chanceOf_36 : decode cX3_chanceOf 36 = .ok (.ldc2_w 219, 3) := dk_20 0 219 (dk_at dksX3_chanceOf_1 12 rfl rfl)
theorem dX3_chanceOf_39 : decode cX3_chanceOf 39 = .ok (.lload_n 3, 1) := dk_33 (dk_at dksX3_chanceOf_1 15 rfl rfl)
theorem dX3_chanceOf_40 : decode cX3_chanceOf 40 = .ok (.lmul, 1) := dk_105 (dk_at dksX3_chanceOf_1 16 rfl rfl)
theorem dX3_chanceOf_41 : decode cX3_chanceOf 41 = .ok (.lstore_n 3, 1) := dk_66 (dk_at dksX3_chanceOf_1 17 rfl rfl)
theorem dX3_chanceOf_42 : decode cX3_chanceOf 42 = .ok (.ldc2_w 219, 3) := dk_20 0 219 (dk_at dksX3_chanceOf_1 18 rfl rfl)
theorem dX3_chanceOf_45 : decode cX3_chanceOf 45 = .ok (.lload 5, 2) := dk_22 5 (dk_at dksX3_chanceOf_1 21 rfl rfl)
theorem dX3_chanceOf_47 : decode cX3_chanceOf 47 = .ok (.lmul, 1) := dk_105 (dk_at dksX3_chanceOf_1 23 rfl rfl)
theorem dX3_chanceOf_48 : decode cX3_chanceOf 48 = .ok (.lload_n 3, 1) := dk_33 (dk_at dksX3_chanceOf_2 0 rfl rfl)
theorem dX3_chanceOf_49 : decode cX3_chanceOf 49 = .ok (.lload_n 1, 1) := dk_31 (dk_at dksX3_chanceOf_2 1 rfl rfl)
theorem dX3_chanceOf_50 : decode cX3_chanceOf 50 = .ok (.ldiv, 1) := dk_109 (dk_at dksX3_chanceOf_2 2 rfl rfl)
theorem dX3_chanceOf_51 : decode cX3_chanceOf 51 = .ok (.ladd, 1) := dk_97 (dk_at dksX3_chanceOf_2 3 rfl rfl)
theorem dX3_chanceOf_52 : decode cX3_chanceOf 52 = .ok (.lstore 5, 2) := dk_55 5 (dk_at dksX3_chanceOf_2 4 rfl rfl)
theorem dX3_chanceOf_54 : decode cX3_chanceOf 54 = .ok (.lload_n 3, 1) := dk_33 (dk_at dksX3_chanceOf_2 6 rfl rfl)
theorem dX3_chanceOf_55 : decode cX3_chanceOf 55 = .ok (.lload_n 1, 1) := dk_31 (dk_at dksX3_chanceOf_2 7 rfl rfl)
theorem dX3_chanceOf_56 : decode cX3_chanceOf 56 = .ok (.lrem, 1) := dk_113 (dk_at dksX3_chanceOf_2 8 rfl rfl)
theorem dX3_chanceOf_57 : decode cX3_chanceOf 57 = .ok (.lstore_n 3, 1) := dk_66 (dk_at dksX3_chanceOf_2 9 rfl rfl)
theorem dX3_chanceOf_58 : decode cX3_chanceOf 58 = .ok (.iinc 7 1, 3) := dk_132 7 1 (dk_at dksX3_chanceOf_2 10 rfl rfl)
theorem dX3_chanceOf_61 : decode cX3_chanceOf 61 = .ok (.goto (-32), 3) := dk_167 255 224 (dk_at dksX3_chanceOf_2 13 rfl rfl)
theorem dX3_chanceOf_64 : decode cX3_chanceOf 64 = .ok (.lload 5, 2) := dk_22 5 (dk_at dksX3_chanceOf_2 16 rfl rfl)
theorem dX3_chanceOf_66 : decode cX3_chanceOf 66 = .ok (.l2i, 1) := dk_136 (dk_at dksX3_chanceOf_2 18 rfl rfl)
theorem dX3_chanceOf_67 : decode cX3_chanceOf 67 = .ok (.ireturn, 1) := dk_172 (dk_at dksX3_chanceOf_2 19 rfl rfl)
abbrev cX3_left : ByteArray := prog_12_method_36_code
def yX3_left : MethodName := ⟨RX3, "left", "(IIII)J"⟩
def dkwX3_left_4 : List UInt8 := [29, 104, 96, 21, 4, 96, 47, 173]
abbrev dktX3_left_4 : List UInt8 := dkwX3_left_4 ++ []
def dkwX3_left_3 : List UInt8 := [153, 0, 11, 16, 251, 184, 0, 224, 167, 0, 23, 42, 180, 0, 61, 16, 42, 6, 27, 104, 28, 96, 104, 5]
abbrev dktX3_left_3 : List UInt8 := dkwX3_left_3 ++ dktX3_left_4
def dkwX3_left_2 : List UInt8 := [180, 0, 13, 6, 27, 104, 28, 96, 46, 2, 160, 0, 9, 16, 254, 184, 0, 224, 173, 42, 182, 0, 221]
abbrev dktX3_left_2 : List UInt8 := dkwX3_left_2 ++ dktX3_left_3
def dkwX3_left_1 : List UInt8 := [9, 20, 0, 111, 184, 0, 107, 153, 0, 28, 21, 4, 133, 9, 10, 184, 0, 107, 153, 0, 17, 42]
abbrev dktX3_left_1 : List UInt8 := dkwX3_left_1 ++ dktX3_left_2
def dkwX3_left_0 : List UInt8 := [27, 133, 9, 10, 184, 0, 107, 153, 0, 52, 28, 133, 9, 20, 0, 105, 184, 0, 107, 153, 0, 40, 29, 133]
abbrev dktX3_left_0 : List UInt8 := dkwX3_left_0 ++ dktX3_left_1
theorem dksX3_left_0 : cX3_left.data.toList.drop 0 = dktX3_left_0 := by decide +kernel
theorem dksX3_left_1 : cX3_left.data.toList.drop 24 = dktX3_left_1 := dk_seg dksX3_left_0 24 rfl rfl
theorem dksX3_left_2 : cX3_left.data.toList.drop 46 = dktX3_left_2 := dk_seg dksX3_left_1 22 rfl rfl
theorem dksX3_left_3 : cX3_left.data.toList.drop 69 = dktX3_left_3 := dk_seg dksX3_left_2 23 rfl rfl
theorem dksX3_left_4 : cX3_left.data.toList.drop 93 = dktX3_left_4 := dk_seg dksX3_left_3 24 rfl rfl
theorem dX3_left_0 : decode cX3_left 0 = .ok (.iload_n 1, 1) := dk_27 (dk_at dksX3_left_0 0 rfl rfl)
theorem dX3_left_1 : decode cX3_left 1 = .ok (.i2l, 1) := dk_133 (dk_at dksX3_left_0 1 rfl rfl)
theorem dX3_left_2 : decode cX3_left 2 = .ok (.lconst 0, 1) := dk_9 (dk_at dksX3_left_0 2 rfl rfl)
theorem dX3_left_3 : decode cX3_left 3 = .ok (.lconst 1, 1) := dk_10 (dk_at dksX3_left_0 3 rfl rfl)
theorem dX3_left_4 : decode cX3_left 4 = .ok (.invokestatic 107, 3) := dk_184 0 107 (dk_at dksX3_left_0 4 rfl rfl)
theorem dX3_left_7 : decode cX3_left 7 = .ok (.ifCond .eq 52, 3) := dk_153 0 52 (dk_at dksX3_left_0 7 rfl rfl)
theorem dX3_left_10 : decode cX3_left 10 = .ok (.iload_n 2, 1) := dk_28 (dk_at dksX3_left_0 10 rfl rfl)
theorem dX3_left_11 : decode cX3_left 11 = .ok (.i2l, 1) := dk_133 (dk_at dksX3_left_0 11 rfl rfl)
theorem dX3_left_12 : decode cX3_left 12 = .ok (.lconst 0, 1) := dk_9 (dk_at dksX3_left_0 12 rfl rfl)
theorem dX3_left_13 : decode cX3_left 13 = .ok (.ldc2_w 105, 3) := dk_20 0 105 (dk_at dksX3_left_0 13 rfl rfl)
theorem dX3_left_16 : decode cX3_left 16 = .ok (.invokestatic 107, 3) := dk_184 0 107 (dk_at dksX3_left_0 16 rfl rfl)
theorem dX3_left_19 : decode cX3_left 19 = .ok (.ifCond .eq 40, 3) := dk_153 0 40 (dk_at dksX3_left_0 19 rfl rfl)
theorem dX3_left_22 : decode cX3_left 22 = .ok (.iload_n 3, 1) := dk_29 (dk_at dksX3_left_0 22 rfl rfl)
theorem dX3_left_23 : decode cX3_left 23 = .ok (.i2l, 1) := dk_133 (dk_at dksX3_left_0 23 rfl rfl)
theorem dX3_left_24 : decode cX3_left 24 = .ok (.lconst 0, 1) := dk_9 (dk_at dksX3_left_1 0 rfl rfl)
theorem dX3_left_25 : decode cX3_left 25 = .ok (.ldc2_w 111, 3) := dk_20 0 111 (dk_at dksX3_left_1 1 rfl rfl)
theorem dX3_left_28 : decode cX3_left 28 = .ok (.invokestatic 107, 3) := dk_184 0 107 (dk_at dksX3_left_1 4 rfl rfl)
theorem dX3_left_31 : decode cX3_left 31 = .ok (.ifCond .eq 28, 3) := dk_153 0 28 (dk_at dksX3_left_1 7 rfl rfl)
theorem dX3_left_34 : decode cX3_left 34 = .ok (.iload 4, 2) := dk_21 4 (dk_at dksX3_left_1 10 rfl rfl)
theorem dX3_left_36 : decode cX3_left 36 = .ok (.i2l, 1) := dk_133 (dk_at dksX3_left_1 12 rfl rfl)
theorem dX3_left_37 : decode cX3_left 37 = .ok (.lconst 0, 1) := dk_9 (dk_at dksX3_left_1 13 rfl rfl)
theorem dX3_left_38 : decode cX3_left 38 = .ok (.lconst 1, 1) := dk_10 (dk_at dksX3_left_1 14 rfl rfl)
theorem dX3_left_39 : decode cX3_left 39 = .ok (.invokestatic 107, 3) := dk_184 0 107 (dk_at dksX3_left_1 15 rfl rfl)
theorem dX3_left_42 : decode cX3_left 42 = .ok (.ifCond .eq 17, 3) := dk_153 0 17 (dk_at dksX3_left_1 18 rfl rfl)
theorem dX3_left_45 : decode cX3_left 45 = .ok (.aload_n 0, 1) := dk_42 (dk_at dksX3_left_1 21 rfl rfl)
theorem dX3_left_46 : decode cX3_left 46 = .ok (.getfield 13, 3) := dk_180 0 13 (dk_at dksX3_left_2 0 rfl rfl)
theorem dX3_left_49 : decode cX3_left 49 = .ok (.iconst 3, 1) := dk_6 (dk_at dksX3_left_2 3 rfl rfl)
theorem dX3_left_50 : decode cX3_left 50 = .ok (.iload_n 1, 1) := dk_27 (dk_at dksX3_left_2 4 rfl rfl)
theorem dX3_left_51 : decode cX3_left 51 = .ok (.imul, 1) := dk_104 (dk_at dksX3_left_2 5 rfl rfl)
theorem dX3_left_52 : decode cX3_left 52 = .ok (.iload_n 2, 1) := dk_28 (dk_at dksX3_left_2 6 rfl rfl)
theorem dX3_left_53 : decode cX3_left 53 = .ok (.iadd, 1) := dk_96 (dk_at dksX3_left_2 7 rfl rfl)
theorem dX3_left_54 : decode cX3_left 54 = .ok (.iaload, 1) := dk_46 (dk_at dksX3_left_2 8 rfl rfl)
theorem dX3_left_55 : decode cX3_left 55 = .ok (.iconst (-1), 1) := dk_2 (dk_at dksX3_left_2 9 rfl rfl)
theorem dX3_left_56 : decode cX3_left 56 = .ok (.if_icmp .ne 9, 3) := dk_160 0 9 (dk_at dksX3_left_2 10 rfl rfl)
theorem dX3_left_59 : decode cX3_left 59 = .ok (.bipush (-2), 2) := dk_16 254 (dk_at dksX3_left_2 13 rfl rfl)
theorem dX3_left_61 : decode cX3_left 61 = .ok (.invokestatic 224, 3) := dk_184 0 224 (dk_at dksX3_left_2 15 rfl rfl)
theorem dX3_left_64 : decode cX3_left 64 = .ok (.lreturn, 1) := dk_173 (dk_at dksX3_left_2 18 rfl rfl)
theorem dX3_left_65 : decode cX3_left 65 = .ok (.aload_n 0, 1) := dk_42 (dk_at dksX3_left_2 19 rfl rfl)
theorem dX3_left_66 : decode cX3_left 66 = .ok (.invokevirtual 221, 3) := dk_182 0 221 (dk_at dksX3_left_2 20 rfl rfl)
theorem dX3_left_69 : decode cX3_left 69 = .ok (.ifCond .eq 11, 3) := dk_153 0 11 (dk_at dksX3_left_3 0 rfl rfl)
theorem dX3_left_72 : decode cX3_left 72 = .ok (.bipush (-5), 2) := dk_16 251 (dk_at dksX3_left_3 3 rfl rfl)
theorem dX3_left_74 : decode cX3_left 74 = .ok (.invokestatic 224, 3) := dk_184 0 224 (dk_at dksX3_left_3 5 rfl rfl)
theorem dX3_left_77 : decode cX3_left 77 = .ok (.goto 23, 3) := dk_167 0 23 (dk_at dksX3_left_3 8 rfl rfl)
theorem dX3_left_80 : decode cX3_left 80 = .ok (.aload_n 0, 1) := dk_42 (dk_at dksX3_left_3 11 rfl rfl)
theorem dX3_left_81 : decode cX3_left 81 = .ok (.getfield 61, 3) := dk_180 0 61 (dk_at dksX3_left_3 12 rfl rfl)
theorem dX3_left_84 : decode cX3_left 84 = .ok (.bipush 42, 2) := dk_16 42 (dk_at dksX3_left_3 15 rfl rfl)
theorem dX3_left_86 : decode cX3_left 86 = .ok (.iconst 3, 1) := dk_6 (dk_at dksX3_left_3 17 rfl rfl)
theorem dX3_left_87 : decode cX3_left 87 = .ok (.iload_n 1, 1) := dk_27 (dk_at dksX3_left_3 18 rfl rfl)
theorem dX3_left_88 : decode cX3_left 88 = .ok (.imul, 1) := dk_104 (dk_at dksX3_left_3 19 rfl rfl)
theorem dX3_left_89 : decode cX3_left 89 = .ok (.iload_n 2, 1) := dk_28 (dk_at dksX3_left_3 20 rfl rfl)
theorem dX3_left_90 : decode cX3_left 90 = .ok (.iadd, 1) := dk_96 (dk_at dksX3_left_3 21 rfl rfl)
theorem dX3_left_91 : decode cX3_left 91 = .ok (.imul, 1) := dk_104 (dk_at dksX3_left_3 22 rfl rfl)
theorem dX3_left_92 : decode cX3_left 92 = .ok (.iconst 2, 1) := dk_5 (dk_at dksX3_left_3 23 rfl rfl)
theorem dX3_left_93 : decode cX3_left 93 = .ok (.iload_n 3, 1) := dk_29 (dk_at dksX3_left_4 0 rfl rfl)
theorem dX3_left_94 : decode cX3_left 94 = .ok (.imul, 1) := dk_104 (dk_at dksX3_left_4 1 rfl rfl)
theorem dX3_left_95 : decode cX3_left 95 = .ok (.iadd, 1) := dk_96 (dk_at dksX3_left_4 2 rfl rfl)
theorem dX3_left_96 : decode cX3_left 96 = .ok (.iload 4, 2) := dk_21 4 (dk_at dksX3_left_4 3 rfl rfl)
theorem dX3_left_98 : decode cX3_left 98 = .ok (.iadd, 1) := dk_96 (dk_at dksX3_left_4 5 rfl rfl)
theorem dX3_left_99 : decode cX3_left 99 = .ok (.laload, 1) := dk_47 (dk_at dksX3_left_4 6 rfl rfl)
theorem dX3_left_100 : decode cX3_left 100 = .ok (.lreturn, 1) := dk_173 (dk_at dksX3_left_4 7 rfl rfl)
abbrev cX3_states : ByteArray := prog_12_method_37_code
def yX3_states : MethodName := ⟨RX3, "states", "()I"⟩
def dkwX3_states_0 : List UInt8 := [42, 182, 0, 221, 153, 0, 8, 16, 251, 167, 0, 7, 42, 180, 0, 187, 172]
abbrev dktX3_states_0 : List UInt8 := dkwX3_states_0 ++ []
theorem dksX3_states_0 : cX3_states.data.toList.drop 0 = dktX3_states_0 := by decide +kernel
theorem dX3_states_0 : decode cX3_states 0 = .ok (.aload_n 0, 1) := dk_42 (dk_at dksX3_states_0 0 rfl rfl)
theorem dX3_states_1 : decode cX3_states 1 = .ok (.invokevirtual 221, 3) := dk_182 0 221 (dk_at dksX3_states_0 1 rfl rfl)
theorem dX3_states_4 : decode cX3_states 4 = .ok (.ifCond .eq 8, 3) := dk_153 0 8 (dk_at dksX3_states_0 4 rfl rfl)
theorem dX3_states_7 : decode cX3_states 7 = .ok (.bipush (-5), 2) := dk_16 251 (dk_at dksX3_states_0 7 rfl rfl)
theorem dX3_states_9 : decode cX3_states 9 = .ok (.goto 7, 3) := dk_167 0 7 (dk_at dksX3_states_0 9 rfl rfl)
theorem dX3_states_12 : decode cX3_states 12 = .ok (.aload_n 0, 1) := dk_42 (dk_at dksX3_states_0 12 rfl rfl)
theorem dX3_states_13 : decode cX3_states 13 = .ok (.getfield 187, 3) := dk_180 0 187 (dk_at dksX3_states_0 13 rfl rfl)
theorem dX3_states_16 : decode cX3_states 16 = .ok (.ireturn, 1) := dk_172 (dk_at dksX3_states_0 16 rfl rfl)
abbrev cX3_ends : ByteArray := prog_12_method_38_code
def yX3_ends : MethodName := ⟨RX3, "ends", "(I)J"⟩
def dkwX3_ends_1 : List UInt8 := [153, 0, 11, 16, 251, 184, 0, 224, 167, 0, 9, 42, 180, 0, 58, 27, 47, 173]
abbrev dktX3_ends_1 : List UInt8 := dkwX3_ends_1 ++ []
def dkwX3_ends_0 : List UInt8 := [27, 133, 9, 42, 180, 0, 16, 133, 184, 0, 107, 154, 0, 9, 16, 254, 184, 0, 224, 173, 42, 182, 0, 221]
abbrev dktX3_ends_0 : List UInt8 := dkwX3_ends_0 ++ dktX3_ends_1
theorem dksX3_ends_0 : cX3_ends.data.toList.drop 0 = dktX3_ends_0 := by decide +kernel
theorem dksX3_ends_1 : cX3_ends.data.toList.drop 24 = dktX3_ends_1 := dk_seg dksX3_ends_0 24 rfl rfl
theorem dX3_ends_0 : decode cX3_ends 0 = .ok (.iload_n 1, 1) := dk_27 (dk_at dksX3_ends_0 0 rfl rfl)
theorem dX3_ends_1 : decode cX3_ends 1 = .ok (.i2l, 1) := dk_133 (dk_at dksX3_ends_0 1 rfl rfl)
theorem dX3_ends_2 : decode cX3_ends 2 = .ok (.lconst 0, 1) := dk_9 (dk_at dksX3_ends_0 2 rfl rfl)
theorem dX3_ends_3 : decode cX3_ends 3 = .ok (.aload_n 0, 1) := dk_42 (dk_at dksX3_ends_0 3 rfl rfl)
theorem dX3_ends_4 : decode cX3_ends 4 = .ok (.getfield 16, 3) := dk_180 0 16 (dk_at dksX3_ends_0 4 rfl rfl)
theorem dX3_ends_7 : decode cX3_ends 7 = .ok (.i2l, 1) := dk_133 (dk_at dksX3_ends_0 7 rfl rfl)
theorem dX3_ends_8 : decode cX3_ends 8 = .ok (.invokestatic 107, 3) := dk_184 0 107 (dk_at dksX3_ends_0 8 rfl rfl)
theorem dX3_ends_11 : decode cX3_ends 11 = .ok (.ifCond .ne 9, 3) := dk_154 0 9 (dk_at dksX3_ends_0 11 rfl rfl)
theorem dX3_ends_14 : decode cX3_ends 14 = .ok (.bipush (-2), 2) := dk_16 254 (dk_at dksX3_ends_0 14 rfl rfl)
theorem dX3_ends_16 : decode cX3_ends 16 = .ok (.invokestatic 224, 3) := dk_184 0 224 (dk_at dksX3_ends_0 16 rfl rfl)
theorem dX3_ends_19 : decode cX3_ends 19 = .ok (.lreturn, 1) := dk_173 (dk_at dksX3_ends_0 19 rfl rfl)
theorem dX3_ends_20 : decode cX3_ends 20 = .ok (.aload_n 0, 1) := dk_42 (dk_at dksX3_ends_0 20 rfl rfl)
theorem dX3_ends_21 : decode cX3_ends 21 = .ok (.invokevirtual 221, 3) := dk_182 0 221 (dk_at dksX3_ends_0 21 rfl rfl)
theorem dX3_ends_24 : decode cX3_ends 24 = .ok (.ifCond .eq 11, 3) := dk_153 0 11 (dk_at dksX3_ends_1 0 rfl rfl)
theorem dX3_ends_27 : decode cX3_ends 27 = .ok (.bipush (-5), 2) := dk_16 251 (dk_at dksX3_ends_1 3 rfl rfl)
theorem dX3_ends_29 : decode cX3_ends 29 = .ok (.invokestatic 224, 3) := dk_184 0 224 (dk_at dksX3_ends_1 5 rfl rfl)
theorem dX3_ends_32 : decode cX3_ends 32 = .ok (.goto 9, 3) := dk_167 0 9 (dk_at dksX3_ends_1 8 rfl rfl)
theorem dX3_ends_35 : decode cX3_ends 35 = .ok (.aload_n 0, 1) := dk_42 (dk_at dksX3_ends_1 11 rfl rfl)
theorem dX3_ends_36 : decode cX3_ends 36 = .ok (.getfield 58, 3) := dk_180 0 58 (dk_at dksX3_ends_1 12 rfl rfl)
theorem dX3_ends_39 : decode cX3_ends 39 = .ok (.iload_n 1, 1) := dk_27 (dk_at dksX3_ends_1 15 rfl rfl)
theorem dX3_ends_40 : decode cX3_ends 40 = .ok (.laload, 1) := dk_47 (dk_at dksX3_ends_1 16 rfl rfl)
theorem dX3_ends_41 : decode cX3_ends 41 = .ok (.lreturn, 1) := dk_173 (dk_at dksX3_ends_1 17 rfl rfl)
abbrev cX3_better : ByteArray := prog_12_method_39_code
def yX3_better : MethodName := ⟨RX3, "better", "(II)I"⟩
def dkwX3_better_4 : List UInt8 := [21, 4, 16, 251, 160, 0, 8, 18, 235, 167, 0, 7, 21, 4, 29, 100, 172]
abbrev dktX3_better_4 : List UInt8 := dkwX3_better_4 ++ []
def dkwX3_better_3 : List UInt8 := [54, 4, 42, 180, 0, 7, 16, 6, 27, 104, 28, 96, 92, 46, 4, 100, 79, 29, 16, 251, 159, 0, 10]
abbrev dktX3_better_3 : List UInt8 := dkwX3_better_3 ++ dktX3_better_4
def dkwX3_better_2 : List UInt8 := [182, 0, 232, 62, 42, 180, 0, 7, 16, 6, 27, 104, 28, 96, 92, 46, 4, 96, 79, 42, 182, 0, 232]
abbrev dktX3_better_2 : List UInt8 := dkwX3_better_2 ++ dktX3_better_3
def dkwX3_better_1 : List UInt8 := [180, 0, 7, 16, 6, 27, 104, 28, 96, 46, 4, 96, 184, 0, 122, 154, 0, 6, 18, 231, 172, 42]
abbrev dktX3_better_1 : List UInt8 := dkwX3_better_1 ++ dktX3_better_2
def dkwX3_better_0 : List UInt8 := [42, 27, 182, 0, 126, 153, 0, 35, 28, 133, 10, 20, 0, 130, 184, 0, 107, 153, 0, 23, 28, 42]
abbrev dktX3_better_0 : List UInt8 := dkwX3_better_0 ++ dktX3_better_1
theorem dksX3_better_0 : cX3_better.data.toList.drop 0 = dktX3_better_0 := by decide +kernel
theorem dksX3_better_1 : cX3_better.data.toList.drop 22 = dktX3_better_1 := dk_seg dksX3_better_0 22 rfl rfl
theorem dksX3_better_2 : cX3_better.data.toList.drop 44 = dktX3_better_2 := dk_seg dksX3_better_1 22 rfl rfl
theorem dksX3_better_3 : cX3_better.data.toList.drop 67 = dktX3_better_3 := dk_seg dksX3_better_2 23 rfl rfl
theorem dksX3_better_4 : cX3_better.data.toList.drop 90 = dktX3_better_4 := dk_seg dksX3_better_3 23 rfl rfl
theorem dX3_better_0 : decode cX3_better 0 = .ok (.aload_n 0, 1) := dk_42 (dk_at dksX3_better_0 0 rfl rfl)
theorem dX3_better_1 : decode cX3_better 1 = .ok (.iload_n 1, 1) := dk_27 (dk_at dksX3_better_0 1 rfl rfl)
theorem dX3_better_2 : decode cX3_better 2 = .ok (.invokevirtual 126, 3) := dk_182 0 126 (dk_at dksX3_better_0 2 rfl rfl)
theorem dX3_better_5 : decode cX3_better 5 = .ok (.ifCond .eq 35, 3) := dk_153 0 35 (dk_at dksX3_better_0 5 rfl rfl)
theorem dX3_better_8 : decode cX3_better 8 = .ok (.iload_n 2, 1) := dk_28 (dk_at dksX3_better_0 8 rfl rfl)
theorem dX3_better_9 : decode cX3_better 9 = .ok (.i2l, 1) := dk_133 (dk_at dksX3_better_0 9 rfl rfl)
theorem dX3_better_10 : decode cX3_better 10 = .ok (.lconst 1, 1) := dk_10 (dk_at dksX3_better_0 10 rfl rfl)
theorem dX3_better_11 : decode cX3_better 11 = .ok (.ldc2_w 130, 3) := dk_20 0 130 (dk_at dksX3_better_0 11 rfl rfl)
theorem dX3_better_14 : decode cX3_better 14 = .ok (.invokestatic 107, 3) := dk_184 0 107 (dk_at dksX3_better_0 14 rfl rfl)
theorem dX3_better_17 : decode cX3_better 17 = .ok (.ifCond .eq 23, 3) := dk_153 0 23 (dk_at dksX3_better_0 17 rfl rfl)
theorem dX3_better_20 : decode cX3_better 20 = .ok (.iload_n 2, 1) := dk_28 (dk_at dksX3_better_0 20 rfl rfl)
theorem dX3_better_21 : decode cX3_better 21 = .ok (.aload_n 0, 1) := dk_42 (dk_at dksX3_better_0 21 rfl rfl)
theorem dX3_better_22 : decode cX3_better 22 = .ok (.getfield 7, 3) := dk_180 0 7 (dk_at dksX3_better_1 0 rfl rfl)
theorem dX3_better_25 : decode cX3_better 25 = .ok (.bipush 6, 2) := dk_16 6 (dk_at dksX3_better_1 3 rfl rfl)
theorem dX3_better_27 : decode cX3_better 27 = .ok (.iload_n 1, 1) := dk_27 (dk_at dksX3_better_1 5 rfl rfl)
theorem dX3_better_28 : decode cX3_better 28 = .ok (.imul, 1) := dk_104 (dk_at dksX3_better_1 6 rfl rfl)
theorem dX3_better_29 : decode cX3_better 29 = .ok (.iload_n 2, 1) := dk_28 (dk_at dksX3_better_1 7 rfl rfl)
theorem dX3_better_30 : decode cX3_better 30 = .ok (.iadd, 1) := dk_96 (dk_at dksX3_better_1 8 rfl rfl)
theorem dX3_better_31 : decode cX3_better 31 = .ok (.iaload, 1) := dk_46 (dk_at dksX3_better_1 9 rfl rfl)
theorem dX3_better_32 : decode cX3_better 32 = .ok (.iconst 1, 1) := dk_4 (dk_at dksX3_better_1 10 rfl rfl)
theorem dX3_better_33 : decode cX3_better 33 = .ok (.iadd, 1) := dk_96 (dk_at dksX3_better_1 11 rfl rfl)
theorem dX3_better_34 : decode cX3_better 34 = .ok (.invokestatic 122, 3) := dk_184 0 122 (dk_at dksX3_better_1 12 rfl rfl)
theorem dX3_better_37 : decode cX3_better 37 = .ok (.ifCond .ne 6, 3) := dk_154 0 6 (dk_at dksX3_better_1 15 rfl rfl)
theorem dX3_better_40 : decode cX3_better 40 = .ok (.ldc 231, 2) := dk_18 231 (dk_at dksX3_better_1 18 rfl rfl)
theorem dX3_better_42 : decode cX3_better 42 = .ok (.ireturn, 1) := dk_172 (dk_at dksX3_better_1 20 rfl rfl)
theorem dX3_better_43 : decode cX3_better 43 = .ok (.aload_n 0, 1) := dk_42 (dk_at dksX3_better_1 21 rfl rfl)
theorem dX3_better_44 : decode cX3_better 44 = .ok (.invokevirtual 232, 3) := dk_182 0 232 (dk_at dksX3_better_2 0 rfl rfl)
theorem dX3_better_47 : decode cX3_better 47 = .ok (.istore_n 3, 1) := dk_62 (dk_at dksX3_better_2 3 rfl rfl)
theorem dX3_better_48 : decode cX3_better 48 = .ok (.aload_n 0, 1) := dk_42 (dk_at dksX3_better_2 4 rfl rfl)
theorem dX3_better_49 : decode cX3_better 49 = .ok (.getfield 7, 3) := dk_180 0 7 (dk_at dksX3_better_2 5 rfl rfl)
theorem dX3_better_52 : decode cX3_better 52 = .ok (.bipush 6, 2) := dk_16 6 (dk_at dksX3_better_2 8 rfl rfl)
theorem dX3_better_54 : decode cX3_better 54 = .ok (.iload_n 1, 1) := dk_27 (dk_at dksX3_better_2 10 rfl rfl)
theorem dX3_better_55 : decode cX3_better 55 = .ok (.imul, 1) := dk_104 (dk_at dksX3_better_2 11 rfl rfl)
theorem dX3_better_56 : decode cX3_better 56 = .ok (.iload_n 2, 1) := dk_28 (dk_at dksX3_better_2 12 rfl rfl)
theorem dX3_better_57 : decode cX3_better 57 = .ok (.iadd, 1) := dk_96 (dk_at dksX3_better_2 13 rfl rfl)
theorem dX3_better_58 : decode cX3_better 58 = .ok (.dup2, 1) := dk_92 (dk_at dksX3_better_2 14 rfl rfl)
theorem dX3_better_59 : decode cX3_better 59 = .ok (.iaload, 1) := dk_46 (dk_at dksX3_better_2 15 rfl rfl)
theorem dX3_better_60 : decode cX3_better 60 = .ok (.iconst 1, 1) := dk_4 (dk_at dksX3_better_2 16 rfl rfl)
theorem dX3_better_61 : decode cX3_better 61 = .ok (.iadd, 1) := dk_96 (dk_at dksX3_better_2 17 rfl rfl)
theorem dX3_better_62 : decode cX3_better 62 = .ok (.iastore, 1) := dk_79 (dk_at dksX3_better_2 18 rfl rfl)
theorem dX3_better_63 : decode cX3_better 63 = .ok (.aload_n 0, 1) := dk_42 (dk_at dksX3_better_2 19 rfl rfl)
theorem dX3_better_64 : decode cX3_better 64 = .ok (.invokevirtual 232, 3) := dk_182 0 232 (dk_at dksX3_better_2 20 rfl rfl)
theorem dX3_better_67 : decode cX3_better 67 = .ok (.istore 4, 2) := dk_54 4 (dk_at dksX3_better_3 0 rfl rfl)
theorem dX3_better_69 : decode cX3_better 69 = .ok (.aload_n 0, 1) := dk_42 (dk_at dksX3_better_3 2 rfl rfl)
theorem dX3_better_70 : decode cX3_better 70 = .ok (.getfield 7, 3) := dk_180 0 7 (dk_at dksX3_better_3 3 rfl rfl)
theorem dX3_better_73 : decode cX3_better 73 = .ok (.bipush 6, 2) := dk_16 6 (dk_at dksX3_better_3 6 rfl rfl)
theorem dX3_better_75 : decode cX3_better 75 = .ok (.iload_n 1, 1) := dk_27 (dk_at dksX3_better_3 8 rfl rfl)
theorem dX3_better_76 : decode cX3_better 76 = .ok (.imul, 1) := dk_104 (dk_at dksX3_better_3 9 rfl rfl)
theorem dX3_better_77 : decode cX3_better 77 = .ok (.iload_n 2, 1) := dk_28 (dk_at dksX3_better_3 10 rfl rfl)
theorem dX3_better_78 : decode cX3_better 78 = .ok (.iadd, 1) := dk_96 (dk_at dksX3_better_3 11 rfl rfl)
theorem dX3_better_79 : decode cX3_better 79 = .ok (.dup2, 1) := dk_92 (dk_at dksX3_better_3 12 rfl rfl)
theorem dX3_better_80 : decode cX3_better 80 = .ok (.iaload, 1) := dk_46 (dk_at dksX3_better_3 13 rfl rfl)
theorem dX3_better_81 : decode cX3_better 81 = .ok (.iconst 1, 1) := dk_4 (dk_at dksX3_better_3 14 rfl rfl)
theorem dX3_better_82 : decode cX3_better 82 = .ok (.isub, 1) := dk_100 (dk_at dksX3_better_3 15 rfl rfl)
theorem dX3_better_83 : decode cX3_better 83 = .ok (.iastore, 1) := dk_79 (dk_at dksX3_better_3 16 rfl rfl)
theorem dX3_better_84 : decode cX3_better 84 = .ok (.iload_n 3, 1) := dk_29 (dk_at dksX3_better_3 17 rfl rfl)
theorem dX3_better_85 : decode cX3_better 85 = .ok (.bipush (-5), 2) := dk_16 251 (dk_at dksX3_better_3 18 rfl rfl)
theorem dX3_better_87 : decode cX3_better 87 = .ok (.if_icmp .eq 10, 3) := dk_159 0 10 (dk_at dksX3_better_3 20 rfl rfl)
theorem dX3_better_90 : decode cX3_better 90 = .ok (.iload 4, 2) := dk_21 4 (dk_at dksX3_better_4 0 rfl rfl)
theorem dX3_better_92 : decode cX3_better 92 = .ok (.bipush (-5), 2) := dk_16 251 (dk_at dksX3_better_4 2 rfl rfl)
theorem dX3_better_94 : decode cX3_better 94 = .ok (.if_icmp .ne 8, 3) := dk_160 0 8 (dk_at dksX3_better_4 4 rfl rfl)
theorem dX3_better_97 : decode cX3_better 97 = .ok (.ldc 235, 2) := dk_18 235 (dk_at dksX3_better_4 7 rfl rfl)
theorem dX3_better_99 : decode cX3_better 99 = .ok (.goto 7, 3) := dk_167 0 7 (dk_at dksX3_better_4 9 rfl rfl)
theorem dX3_better_102 : decode cX3_better 102 = .ok (.iload 4, 2) := dk_21 4 (dk_at dksX3_better_4 12 rfl rfl)
theorem dX3_better_104 : decode cX3_better 104 = .ok (.iload_n 3, 1) := dk_29 (dk_at dksX3_better_4 14 rfl rfl)
theorem dX3_better_105 : decode cX3_better 105 = .ok (.isub, 1) := dk_100 (dk_at dksX3_better_4 15 rfl rfl)
theorem dX3_better_106 : decode cX3_better 106 = .ok (.ireturn, 1) := dk_172 (dk_at dksX3_better_4 16 rfl rfl)
abbrev cX3_without : ByteArray := prog_12_method_40_code
def yX3_without : MethodName := ⟨RX3, "without", "(I)I"⟩
def dkwX3_without_3 : List UInt8 := [16, 251, 167, 0, 7, 42, 182, 0, 228, 172]
abbrev dktX3_without_3 : List UInt8 := dkwX3_without_3 ++ []
def dkwX3_without_2 : List UInt8 := [96, 46, 79, 132, 2, 1, 167, 255, 234, 42, 180, 0, 23, 5, 2, 79, 42, 182, 0, 216, 153, 0, 8]
abbrev dktX3_without_2 : List UInt8 := dkwX3_without_2 ++ dktX3_without_3
def dkwX3_without_1 : List UInt8 := [172, 42, 3, 182, 0, 213, 27, 61, 28, 5, 162, 0, 23, 42, 180, 0, 23, 28, 42, 180, 0, 23, 28, 4]
abbrev dktX3_without_1 : List UInt8 := dkwX3_without_1 ++ dktX3_without_2
def dkwX3_without_0 : List UInt8 := [27, 133, 9, 20, 0, 105, 184, 0, 107, 153, 0, 13, 42, 180, 0, 13, 27, 46, 2, 160, 0, 6, 16, 254]
abbrev dktX3_without_0 : List UInt8 := dkwX3_without_0 ++ dktX3_without_1
theorem dksX3_without_0 : cX3_without.data.toList.drop 0 = dktX3_without_0 := by decide +kernel
theorem dksX3_without_1 : cX3_without.data.toList.drop 24 = dktX3_without_1 := dk_seg dksX3_without_0 24 rfl rfl
theorem dksX3_without_2 : cX3_without.data.toList.drop 48 = dktX3_without_2 := dk_seg dksX3_without_1 24 rfl rfl
theorem dksX3_without_3 : cX3_without.data.toList.drop 71 = dktX3_without_3 := dk_seg dksX3_without_2 23 rfl rfl
theorem dX3_without_0 : decode cX3_without 0 = .ok (.iload_n 1, 1) := dk_27 (dk_at dksX3_without_0 0 rfl rfl)
theorem dX3_without_1 : decode cX3_without 1 = .ok (.i2l, 1) := dk_133 (dk_at dksX3_without_0 1 rfl rfl)
theorem dX3_without_2 : decode cX3_without 2 = .ok (.lconst 0, 1) := dk_9 (dk_at dksX3_without_0 2 rfl rfl)
theorem dX3_without_3 : decode cX3_without 3 = .ok (.ldc2_w 105, 3) := dk_20 0 105 (dk_at dksX3_without_0 3 rfl rfl)
theorem dX3_without_6 : decode cX3_without 6 = .ok (.invokestatic 107, 3) := dk_184 0 107 (dk_at dksX3_without_0 6 rfl rfl)
theorem dX3_without_9 : decode cX3_without 9 = .ok (.ifCond .eq 13, 3) := dk_153 0 13 (dk_at dksX3_without_0 9 rfl rfl)
theorem dX3_without_12 : decode cX3_without 12 = .ok (.aload_n 0, 1) := dk_42 (dk_at dksX3_without_0 12 rfl rfl)
theorem dX3_without_13 : decode cX3_without 13 = .ok (.getfield 13, 3) := dk_180 0 13 (dk_at dksX3_without_0 13 rfl rfl)
theorem dX3_without_16 : decode cX3_without 16 = .ok (.iload_n 1, 1) := dk_27 (dk_at dksX3_without_0 16 rfl rfl)
theorem dX3_without_17 : decode cX3_without 17 = .ok (.iaload, 1) := dk_46 (dk_at dksX3_without_0 17 rfl rfl)
theorem dX3_without_18 : decode cX3_without 18 = .ok (.iconst (-1), 1) := dk_2 (dk_at dksX3_without_0 18 rfl rfl)
theorem dX3_without_19 : decode cX3_without 19 = .ok (.if_icmp .ne 6, 3) := dk_160 0 6 (dk_at dksX3_without_0 19 rfl rfl)
theorem dX3_without_22 : decode cX3_without 22 = .ok (.bipush (-2), 2) := dk_16 254 (dk_at dksX3_without_0 22 rfl rfl)
theorem dX3_without_24 : decode cX3_without 24 = .ok (.ireturn, 1) := dk_172 (dk_at dksX3_without_1 0 rfl rfl)
theorem dX3_without_25 : decode cX3_without 25 = .ok (.aload_n 0, 1) := dk_42 (dk_at dksX3_without_1 1 rfl rfl)
theorem dX3_without_26 : decode cX3_without 26 = .ok (.iconst 0, 1) := dk_3 (dk_at dksX3_without_1 2 rfl rfl)
theorem dX3_without_27 : decode cX3_without 27 = .ok (.invokevirtual 213, 3) := dk_182 0 213 (dk_at dksX3_without_1 3 rfl rfl)
theorem dX3_without_30 : decode cX3_without 30 = .ok (.iload_n 1, 1) := dk_27 (dk_at dksX3_without_1 6 rfl rfl)
theorem dX3_without_31 : decode cX3_without 31 = .ok (.istore_n 2, 1) := dk_61 (dk_at dksX3_without_1 7 rfl rfl)
theorem dX3_without_32 : decode cX3_without 32 = .ok (.iload_n 2, 1) := dk_28 (dk_at dksX3_without_1 8 rfl rfl)
theorem dX3_without_33 : decode cX3_without 33 = .ok (.iconst 2, 1) := dk_5 (dk_at dksX3_without_1 9 rfl rfl)
theorem dX3_without_34 : decode cX3_without 34 = .ok (.if_icmp .ge 23, 3) := dk_162 0 23 (dk_at dksX3_without_1 10 rfl rfl)
theorem dX3_without_37 : decode cX3_without 37 = .ok (.aload_n 0, 1) := dk_42 (dk_at dksX3_without_1 13 rfl rfl)
theorem dX3_without_38 : decode cX3_without 38 = .ok (.getfield 23, 3) := dk_180 0 23 (dk_at dksX3_without_1 14 rfl rfl)
theorem dX3_without_41 : decode cX3_without 41 = .ok (.iload_n 2, 1) := dk_28 (dk_at dksX3_without_1 17 rfl rfl)
theorem dX3_without_42 : decode cX3_without 42 = .ok (.aload_n 0, 1) := dk_42 (dk_at dksX3_without_1 18 rfl rfl)
theorem dX3_without_43 : decode cX3_without 43 = .ok (.getfield 23, 3) := dk_180 0 23 (dk_at dksX3_without_1 19 rfl rfl)
theorem dX3_without_46 : decode cX3_without 46 = .ok (.iload_n 2, 1) := dk_28 (dk_at dksX3_without_1 22 rfl rfl)
theorem dX3_without_47 : decode cX3_without 47 = .ok (.iconst 1, 1) := dk_4 (dk_at dksX3_without_1 23 rfl rfl)
theorem dX3_without_48 : decode cX3_without 48 = .ok (.iadd, 1) := dk_96 (dk_at dksX3_without_2 0 rfl rfl)
theorem dX3_without_49 : decode cX3_without 49 = .ok (.iaload, 1) := dk_46 (dk_at dksX3_without_2 1 rfl rfl)
theorem dX3_without_50 : decode cX3_without 50 = .ok (.iastore, 1) := dk_79 (dk_at dksX3_without_2 2 rfl rfl)
theorem dX3_without_51 : decode cX3_without 51 = .ok (.iinc 2 1, 3) := dk_132 2 1 (dk_at dksX3_without_2 3 rfl rfl)
theorem dX3_without_54 : decode cX3_without 54 = .ok (.goto (-22), 3) := dk_167 255 234 (dk_at dksX3_without_2 6 rfl rfl)
theorem dX3_without_57 : decode cX3_without 57 = .ok (.aload_n 0, 1) := dk_42 (dk_at dksX3_without_2 9 rfl rfl)
theorem dX3_without_58 : decode cX3_without 58 = .ok (.getfield 23, 3) := dk_180 0 23 (dk_at dksX3_without_2 10 rfl rfl)
theorem dX3_without_61 : decode cX3_without 61 = .ok (.iconst 2, 1) := dk_5 (dk_at dksX3_without_2 13 rfl rfl)
theorem dX3_without_62 : decode cX3_without 62 = .ok (.iconst (-1), 1) := dk_2 (dk_at dksX3_without_2 14 rfl rfl)
theorem dX3_without_63 : decode cX3_without 63 = .ok (.iastore, 1) := dk_79 (dk_at dksX3_without_2 15 rfl rfl)
theorem dX3_without_64 : decode cX3_without 64 = .ok (.aload_n 0, 1) := dk_42 (dk_at dksX3_without_2 16 rfl rfl)
theorem dX3_without_65 : decode cX3_without 65 = .ok (.invokevirtual 216, 3) := dk_182 0 216 (dk_at dksX3_without_2 17 rfl rfl)
theorem dX3_without_68 : decode cX3_without 68 = .ok (.ifCond .eq 8, 3) := dk_153 0 8 (dk_at dksX3_without_2 20 rfl rfl)
theorem dX3_without_71 : decode cX3_without 71 = .ok (.bipush (-5), 2) := dk_16 251 (dk_at dksX3_without_3 0 rfl rfl)
theorem dX3_without_73 : decode cX3_without 73 = .ok (.goto 7, 3) := dk_167 0 7 (dk_at dksX3_without_3 2 rfl rfl)
theorem dX3_without_76 : decode cX3_without 76 = .ok (.aload_n 0, 1) := dk_42 (dk_at dksX3_without_3 5 rfl rfl)
theorem dX3_without_77 : decode cX3_without 77 = .ok (.invokevirtual 228, 3) := dk_182 0 228 (dk_at dksX3_without_3 6 rfl rfl)
theorem dX3_without_80 : decode cX3_without 80 = .ok (.ireturn, 1) := dk_172 (dk_at dksX3_without_3 9 rfl rfl)
abbrev cX3_surprised : ByteArray := prog_12_method_41_code
def yX3_surprised : MethodName := ⟨RX3, "surprised", "(I)I"⟩
def dkwX3_surprised_1 : List UInt8 := [181, 0, 145, 42, 182, 0, 216, 153, 0, 8, 16, 251, 167, 0, 7, 42, 182, 0, 228, 172]
abbrev dktX3_surprised_1 : List UInt8 := dkwX3_surprised_1 ++ []
def dkwX3_surprised_0 : List UInt8 := [27, 133, 20, 0, 132, 10, 184, 0, 107, 154, 0, 6, 16, 254, 172, 42, 3, 182, 0, 213, 42, 27]
abbrev dktX3_surprised_0 : List UInt8 := dkwX3_surprised_0 ++ dktX3_surprised_1
theorem dksX3_surprised_0 : cX3_surprised.data.toList.drop 0 = dktX3_surprised_0 := by decide +kernel
theorem dksX3_surprised_1 : cX3_surprised.data.toList.drop 22 = dktX3_surprised_1 := dk_seg dksX3_surprised_0 22 rfl rfl
theorem dX3_surprised_0 : decode cX3_surprised 0 = .ok (.iload_n 1, 1) := dk_27 (dk_at dksX3_surprised_0 0 rfl rfl)
theorem dX3_surprised_1 : decode cX3_surprised 1 = .ok (.i2l, 1) := dk_133 (dk_at dksX3_surprised_0 1 rfl rfl)
theorem dX3_surprised_2 : decode cX3_surprised 2 = .ok (.ldc2_w 132, 3) := dk_20 0 132 (dk_at dksX3_surprised_0 2 rfl rfl)
theorem dX3_surprised_5 : decode cX3_surprised 5 = .ok (.lconst 1, 1) := dk_10 (dk_at dksX3_surprised_0 5 rfl rfl)
theorem dX3_surprised_6 : decode cX3_surprised 6 = .ok (.invokestatic 107, 3) := dk_184 0 107 (dk_at dksX3_surprised_0 6 rfl rfl)
theorem dX3_surprised_9 : decode cX3_surprised 9 = .ok (.ifCond .ne 6, 3) := dk_154 0 6 (dk_at dksX3_surprised_0 9 rfl rfl)
theorem dX3_surprised_12 : decode cX3_surprised 12 = .ok (.bipush (-2), 2) := dk_16 254 (dk_at dksX3_surprised_0 12 rfl rfl)
theorem dX3_surprised_14 : decode cX3_surprised 14 = .ok (.ireturn, 1) := dk_172 (dk_at dksX3_surprised_0 14 rfl rfl)
theorem dX3_surprised_15 : decode cX3_surprised 15 = .ok (.aload_n 0, 1) := dk_42 (dk_at dksX3_surprised_0 15 rfl rfl)
theorem dX3_surprised_16 : decode cX3_surprised 16 = .ok (.iconst 0, 1) := dk_3 (dk_at dksX3_surprised_0 16 rfl rfl)
theorem dX3_surprised_17 : decode cX3_surprised 17 = .ok (.invokevirtual 213, 3) := dk_182 0 213 (dk_at dksX3_surprised_0 17 rfl rfl)
theorem dX3_surprised_20 : decode cX3_surprised 20 = .ok (.aload_n 0, 1) := dk_42 (dk_at dksX3_surprised_0 20 rfl rfl)
theorem dX3_surprised_21 : decode cX3_surprised 21 = .ok (.iload_n 1, 1) := dk_27 (dk_at dksX3_surprised_0 21 rfl rfl)
theorem dX3_surprised_22 : decode cX3_surprised 22 = .ok (.putfield 145, 3) := dk_181 0 145 (dk_at dksX3_surprised_1 0 rfl rfl)
theorem dX3_surprised_25 : decode cX3_surprised 25 = .ok (.aload_n 0, 1) := dk_42 (dk_at dksX3_surprised_1 3 rfl rfl)
theorem dX3_surprised_26 : decode cX3_surprised 26 = .ok (.invokevirtual 216, 3) := dk_182 0 216 (dk_at dksX3_surprised_1 4 rfl rfl)
theorem dX3_surprised_29 : decode cX3_surprised 29 = .ok (.ifCond .eq 8, 3) := dk_153 0 8 (dk_at dksX3_surprised_1 7 rfl rfl)
theorem dX3_surprised_32 : decode cX3_surprised 32 = .ok (.bipush (-5), 2) := dk_16 251 (dk_at dksX3_surprised_1 10 rfl rfl)
theorem dX3_surprised_34 : decode cX3_surprised 34 = .ok (.goto 7, 3) := dk_167 0 7 (dk_at dksX3_surprised_1 12 rfl rfl)
theorem dX3_surprised_37 : decode cX3_surprised 37 = .ok (.aload_n 0, 1) := dk_42 (dk_at dksX3_surprised_1 15 rfl rfl)
theorem dX3_surprised_38 : decode cX3_surprised 38 = .ok (.invokevirtual 228, 3) := dk_182 0 228 (dk_at dksX3_surprised_1 16 rfl rfl)
theorem dX3_surprised_41 : decode cX3_surprised 41 = .ok (.ireturn, 1) := dk_172 (dk_at dksX3_surprised_1 19 rfl rfl)
abbrev cX3_fight : ByteArray := prog_12_method_42_code
def yX3_fight : MethodName := ⟨RX3, "fight", "(III)I"⟩
def dkwX3_fight_3 : List UInt8 := [180, 0, 236, 4, 96, 181, 0, 236, 42, 180, 0, 236, 172]
abbrev dktX3_fight_3 : List UInt8 := dkwX3_fight_3 ++ []
def dkwX3_fight_2 : List UInt8 := [180, 0, 236, 104, 4, 96, 28, 79, 42, 180, 0, 67, 6, 42, 180, 0, 236, 104, 5, 96, 29, 79, 42, 89]
abbrev dktX3_fight_2 : List UInt8 := dkwX3_fight_2 ++ dktX3_fight_3
def dkwX3_fight_1 : List UInt8 := [160, 0, 6, 16, 252, 172, 42, 180, 0, 67, 6, 42, 180, 0, 236, 104, 27, 79, 42, 180, 0, 67, 6, 42]
abbrev dktX3_fight_1 : List UInt8 := dkwX3_fight_1 ++ dktX3_fight_2
def dkwX3_fight_0 : List UInt8 := [42, 27, 28, 29, 182, 0, 134, 153, 0, 8, 27, 2, 160, 0, 6, 16, 254, 172, 42, 180, 0, 236, 16, 6]
abbrev dktX3_fight_0 : List UInt8 := dkwX3_fight_0 ++ dktX3_fight_1
theorem dksX3_fight_0 : cX3_fight.data.toList.drop 0 = dktX3_fight_0 := by decide +kernel
theorem dksX3_fight_1 : cX3_fight.data.toList.drop 24 = dktX3_fight_1 := dk_seg dksX3_fight_0 24 rfl rfl
theorem dksX3_fight_2 : cX3_fight.data.toList.drop 48 = dktX3_fight_2 := dk_seg dksX3_fight_1 24 rfl rfl
theorem dksX3_fight_3 : cX3_fight.data.toList.drop 72 = dktX3_fight_3 := dk_seg dksX3_fight_2 24 rfl rfl
theorem dX3_fight_0 : decode cX3_fight 0 = .ok (.aload_n 0, 1) := dk_42 (dk_at dksX3_fight_0 0 rfl rfl)
theorem dX3_fight_1 : decode cX3_fight 1 = .ok (.iload_n 1, 1) := dk_27 (dk_at dksX3_fight_0 1 rfl rfl)
theorem dX3_fight_2 : decode cX3_fight 2 = .ok (.iload_n 2, 1) := dk_28 (dk_at dksX3_fight_0 2 rfl rfl)
theorem dX3_fight_3 : decode cX3_fight 3 = .ok (.iload_n 3, 1) := dk_29 (dk_at dksX3_fight_0 3 rfl rfl)
theorem dX3_fight_4 : decode cX3_fight 4 = .ok (.invokevirtual 134, 3) := dk_182 0 134 (dk_at dksX3_fight_0 4 rfl rfl)
theorem dX3_fight_7 : decode cX3_fight 7 = .ok (.ifCond .eq 8, 3) := dk_153 0 8 (dk_at dksX3_fight_0 7 rfl rfl)
theorem dX3_fight_10 : decode cX3_fight 10 = .ok (.iload_n 1, 1) := dk_27 (dk_at dksX3_fight_0 10 rfl rfl)
theorem dX3_fight_11 : decode cX3_fight 11 = .ok (.iconst (-1), 1) := dk_2 (dk_at dksX3_fight_0 11 rfl rfl)
theorem dX3_fight_12 : decode cX3_fight 12 = .ok (.if_icmp .ne 6, 3) := dk_160 0 6 (dk_at dksX3_fight_0 12 rfl rfl)
theorem dX3_fight_15 : decode cX3_fight 15 = .ok (.bipush (-2), 2) := dk_16 254 (dk_at dksX3_fight_0 15 rfl rfl)
theorem dX3_fight_17 : decode cX3_fight 17 = .ok (.ireturn, 1) := dk_172 (dk_at dksX3_fight_0 17 rfl rfl)
theorem dX3_fight_18 : decode cX3_fight 18 = .ok (.aload_n 0, 1) := dk_42 (dk_at dksX3_fight_0 18 rfl rfl)
theorem dX3_fight_19 : decode cX3_fight 19 = .ok (.getfield 236, 3) := dk_180 0 236 (dk_at dksX3_fight_0 19 rfl rfl)
theorem dX3_fight_22 : decode cX3_fight 22 = .ok (.bipush 6, 2) := dk_16 6 (dk_at dksX3_fight_0 22 rfl rfl)
theorem dX3_fight_24 : decode cX3_fight 24 = .ok (.if_icmp .ne 6, 3) := dk_160 0 6 (dk_at dksX3_fight_1 0 rfl rfl)
theorem dX3_fight_27 : decode cX3_fight 27 = .ok (.bipush (-4), 2) := dk_16 252 (dk_at dksX3_fight_1 3 rfl rfl)
theorem dX3_fight_29 : decode cX3_fight 29 = .ok (.ireturn, 1) := dk_172 (dk_at dksX3_fight_1 5 rfl rfl)
theorem dX3_fight_30 : decode cX3_fight 30 = .ok (.aload_n 0, 1) := dk_42 (dk_at dksX3_fight_1 6 rfl rfl)
theorem dX3_fight_31 : decode cX3_fight 31 = .ok (.getfield 67, 3) := dk_180 0 67 (dk_at dksX3_fight_1 7 rfl rfl)
theorem dX3_fight_34 : decode cX3_fight 34 = .ok (.iconst 3, 1) := dk_6 (dk_at dksX3_fight_1 10 rfl rfl)
theorem dX3_fight_35 : decode cX3_fight 35 = .ok (.aload_n 0, 1) := dk_42 (dk_at dksX3_fight_1 11 rfl rfl)
theorem dX3_fight_36 : decode cX3_fight 36 = .ok (.getfield 236, 3) := dk_180 0 236 (dk_at dksX3_fight_1 12 rfl rfl)
theorem dX3_fight_39 : decode cX3_fight 39 = .ok (.imul, 1) := dk_104 (dk_at dksX3_fight_1 15 rfl rfl)
theorem dX3_fight_40 : decode cX3_fight 40 = .ok (.iload_n 1, 1) := dk_27 (dk_at dksX3_fight_1 16 rfl rfl)
theorem dX3_fight_41 : decode cX3_fight 41 = .ok (.iastore, 1) := dk_79 (dk_at dksX3_fight_1 17 rfl rfl)
theorem dX3_fight_42 : decode cX3_fight 42 = .ok (.aload_n 0, 1) := dk_42 (dk_at dksX3_fight_1 18 rfl rfl)
theorem dX3_fight_43 : decode cX3_fight 43 = .ok (.getfield 67, 3) := dk_180 0 67 (dk_at dksX3_fight_1 19 rfl rfl)
theorem dX3_fight_46 : decode cX3_fight 46 = .ok (.iconst 3, 1) := dk_6 (dk_at dksX3_fight_1 22 rfl rfl)
theorem dX3_fight_47 : decode cX3_fight 47 = .ok (.aload_n 0, 1) := dk_42 (dk_at dksX3_fight_1 23 rfl rfl)
theorem dX3_fight_48 : decode cX3_fight 48 = .ok (.getfield 236, 3) := dk_180 0 236 (dk_at dksX3_fight_2 0 rfl rfl)
theorem dX3_fight_51 : decode cX3_fight 51 = .ok (.imul, 1) := dk_104 (dk_at dksX3_fight_2 3 rfl rfl)
theorem dX3_fight_52 : decode cX3_fight 52 = .ok (.iconst 1, 1) := dk_4 (dk_at dksX3_fight_2 4 rfl rfl)
theorem dX3_fight_53 : decode cX3_fight 53 = .ok (.iadd, 1) := dk_96 (dk_at dksX3_fight_2 5 rfl rfl)
theorem dX3_fight_54 : decode cX3_fight 54 = .ok (.iload_n 2, 1) := dk_28 (dk_at dksX3_fight_2 6 rfl rfl)
theorem dX3_fight_55 : decode cX3_fight 55 = .ok (.iastore, 1) := dk_79 (dk_at dksX3_fight_2 7 rfl rfl)
theorem dX3_fight_56 : decode cX3_fight 56 = .ok (.aload_n 0, 1) := dk_42 (dk_at dksX3_fight_2 8 rfl rfl)
theorem dX3_fight_57 : decode cX3_fight 57 = .ok (.getfield 67, 3) := dk_180 0 67 (dk_at dksX3_fight_2 9 rfl rfl)
theorem dX3_fight_60 : decode cX3_fight 60 = .ok (.iconst 3, 1) := dk_6 (dk_at dksX3_fight_2 12 rfl rfl)
theorem dX3_fight_61 : decode cX3_fight 61 = .ok (.aload_n 0, 1) := dk_42 (dk_at dksX3_fight_2 13 rfl rfl)
theorem dX3_fight_62 : decode cX3_fight 62 = .ok (.getfield 236, 3) := dk_180 0 236 (dk_at dksX3_fight_2 14 rfl rfl)
theorem dX3_fight_65 : decode cX3_fight 65 = .ok (.imul, 1) := dk_104 (dk_at dksX3_fight_2 17 rfl rfl)
theorem dX3_fight_66 : decode cX3_fight 66 = .ok (.iconst 2, 1) := dk_5 (dk_at dksX3_fight_2 18 rfl rfl)
theorem dX3_fight_67 : decode cX3_fight 67 = .ok (.iadd, 1) := dk_96 (dk_at dksX3_fight_2 19 rfl rfl)
theorem dX3_fight_68 : decode cX3_fight 68 = .ok (.iload_n 3, 1) := dk_29 (dk_at dksX3_fight_2 20 rfl rfl)
theorem dX3_fight_69 : decode cX3_fight 69 = .ok (.iastore, 1) := dk_79 (dk_at dksX3_fight_2 21 rfl rfl)
theorem dX3_fight_70 : decode cX3_fight 70 = .ok (.aload_n 0, 1) := dk_42 (dk_at dksX3_fight_2 22 rfl rfl)
theorem dX3_fight_71 : decode cX3_fight 71 = .ok (.dup, 1) := dk_89 (dk_at dksX3_fight_2 23 rfl rfl)
theorem dX3_fight_72 : decode cX3_fight 72 = .ok (.getfield 236, 3) := dk_180 0 236 (dk_at dksX3_fight_3 0 rfl rfl)
theorem dX3_fight_75 : decode cX3_fight 75 = .ok (.iconst 1, 1) := dk_4 (dk_at dksX3_fight_3 3 rfl rfl)
theorem dX3_fight_76 : decode cX3_fight 76 = .ok (.iadd, 1) := dk_96 (dk_at dksX3_fight_3 4 rfl rfl)
theorem dX3_fight_77 : decode cX3_fight 77 = .ok (.putfield 236, 3) := dk_181 0 236 (dk_at dksX3_fight_3 5 rfl rfl)
theorem dX3_fight_80 : decode cX3_fight 80 = .ok (.aload_n 0, 1) := dk_42 (dk_at dksX3_fight_3 8 rfl rfl)
theorem dX3_fight_81 : decode cX3_fight 81 = .ok (.getfield 236, 3) := dk_180 0 236 (dk_at dksX3_fight_3 9 rfl rfl)
theorem dX3_fight_84 : decode cX3_fight 84 = .ok (.ireturn, 1) := dk_172 (dk_at dksX3_fight_3 12 rfl rfl)
abbrev cX3_rest : ByteArray := prog_12_method_43_code
def yX3_rest : MethodName := ⟨RX3, "rest", "()I"⟩
def dkwX3_rest_0 : List UInt8 := [42, 180, 0, 236, 60, 42, 3, 181, 0, 236, 27, 172]
abbrev dktX3_rest_0 : List UInt8 := dkwX3_rest_0 ++ []
theorem dksX3_rest_0 : cX3_rest.data.toList.drop 0 = dktX3_rest_0 := by decide +kernel
theorem dX3_rest_0 : decode cX3_rest 0 = .ok (.aload_n 0, 1) := dk_42 (dk_at dksX3_rest_0 0 rfl rfl)
theorem dX3_rest_1 : decode cX3_rest 1 = .ok (.getfield 236, 3) := dk_180 0 236 (dk_at dksX3_rest_0 1 rfl rfl)
theorem dX3_rest_4 : decode cX3_rest 4 = .ok (.istore_n 1, 1) := dk_60 (dk_at dksX3_rest_0 4 rfl rfl)
theorem dX3_rest_5 : decode cX3_rest 5 = .ok (.aload_n 0, 1) := dk_42 (dk_at dksX3_rest_0 5 rfl rfl)
theorem dX3_rest_6 : decode cX3_rest 6 = .ok (.iconst 0, 1) := dk_3 (dk_at dksX3_rest_0 6 rfl rfl)
theorem dX3_rest_7 : decode cX3_rest 7 = .ok (.putfield 236, 3) := dk_181 0 236 (dk_at dksX3_rest_0 7 rfl rfl)
theorem dX3_rest_10 : decode cX3_rest 10 = .ok (.iload_n 1, 1) := dk_27 (dk_at dksX3_rest_0 10 rfl rfl)
theorem dX3_rest_11 : decode cX3_rest 11 = .ok (.ireturn, 1) := dk_172 (dk_at dksX3_rest_0 11 rfl rfl)
abbrev cX3_purse : ByteArray := prog_12_method_44_code
def yX3_purse : MethodName := ⟨RX3, "purse", "(II)I"⟩
def dkwX3_purse_1 : List UInt8 := [16, 254, 172, 42, 27, 181, 0, 70, 42, 28, 181, 0, 73, 4, 172]
abbrev dktX3_purse_1 : List UInt8 := dkwX3_purse_1 ++ []
def dkwX3_purse_0 : List UInt8 := [27, 133, 9, 20, 0, 113, 184, 0, 107, 153, 0, 15, 28, 133, 10, 20, 0, 115, 184, 0, 107, 154, 0, 6]
abbrev dktX3_purse_0 : List UInt8 := dkwX3_purse_0 ++ dktX3_purse_1
theorem dksX3_purse_0 : cX3_purse.data.toList.drop 0 = dktX3_purse_0 := by decide +kernel
theorem dksX3_purse_1 : cX3_purse.data.toList.drop 24 = dktX3_purse_1 := dk_seg dksX3_purse_0 24 rfl rfl
theorem dX3_purse_0 : decode cX3_purse 0 = .ok (.iload_n 1, 1) := dk_27 (dk_at dksX3_purse_0 0 rfl rfl)
theorem dX3_purse_1 : decode cX3_purse 1 = .ok (.i2l, 1) := dk_133 (dk_at dksX3_purse_0 1 rfl rfl)
theorem dX3_purse_2 : decode cX3_purse 2 = .ok (.lconst 0, 1) := dk_9 (dk_at dksX3_purse_0 2 rfl rfl)
theorem dX3_purse_3 : decode cX3_purse 3 = .ok (.ldc2_w 113, 3) := dk_20 0 113 (dk_at dksX3_purse_0 3 rfl rfl)
theorem dX3_purse_6 : decode cX3_purse 6 = .ok (.invokestatic 107, 3) := dk_184 0 107 (dk_at dksX3_purse_0 6 rfl rfl)
theorem dX3_purse_9 : decode cX3_purse 9 = .ok (.ifCond .eq 15, 3) := dk_153 0 15 (dk_at dksX3_purse_0 9 rfl rfl)
theorem dX3_purse_12 : decode cX3_purse 12 = .ok (.iload_n 2, 1) := dk_28 (dk_at dksX3_purse_0 12 rfl rfl)
theorem dX3_purse_13 : decode cX3_purse 13 = .ok (.i2l, 1) := dk_133 (dk_at dksX3_purse_0 13 rfl rfl)
theorem dX3_purse_14 : decode cX3_purse 14 = .ok (.lconst 1, 1) := dk_10 (dk_at dksX3_purse_0 14 rfl rfl)
theorem dX3_purse_15 : decode cX3_purse 15 = .ok (.ldc2_w 115, 3) := dk_20 0 115 (dk_at dksX3_purse_0 15 rfl rfl)
theorem dX3_purse_18 : decode cX3_purse 18 = .ok (.invokestatic 107, 3) := dk_184 0 107 (dk_at dksX3_purse_0 18 rfl rfl)
theorem dX3_purse_21 : decode cX3_purse 21 = .ok (.ifCond .ne 6, 3) := dk_154 0 6 (dk_at dksX3_purse_0 21 rfl rfl)
theorem dX3_purse_24 : decode cX3_purse 24 = .ok (.bipush (-2), 2) := dk_16 254 (dk_at dksX3_purse_1 0 rfl rfl)
theorem dX3_purse_26 : decode cX3_purse 26 = .ok (.ireturn, 1) := dk_172 (dk_at dksX3_purse_1 2 rfl rfl)
theorem dX3_purse_27 : decode cX3_purse 27 = .ok (.aload_n 0, 1) := dk_42 (dk_at dksX3_purse_1 3 rfl rfl)
theorem dX3_purse_28 : decode cX3_purse 28 = .ok (.iload_n 1, 1) := dk_27 (dk_at dksX3_purse_1 4 rfl rfl)
theorem dX3_purse_29 : decode cX3_purse 29 = .ok (.putfield 70, 3) := dk_181 0 70 (dk_at dksX3_purse_1 5 rfl rfl)
theorem dX3_purse_32 : decode cX3_purse 32 = .ok (.aload_n 0, 1) := dk_42 (dk_at dksX3_purse_1 8 rfl rfl)
theorem dX3_purse_33 : decode cX3_purse 33 = .ok (.iload_n 2, 1) := dk_28 (dk_at dksX3_purse_1 9 rfl rfl)
theorem dX3_purse_34 : decode cX3_purse 34 = .ok (.putfield 73, 3) := dk_181 0 73 (dk_at dksX3_purse_1 10 rfl rfl)
theorem dX3_purse_37 : decode cX3_purse 37 = .ok (.iconst 1, 1) := dk_4 (dk_at dksX3_purse_1 13 rfl rfl)
theorem dX3_purse_38 : decode cX3_purse 38 = .ok (.ireturn, 1) := dk_172 (dk_at dksX3_purse_1 14 rfl rfl)
abbrev cX3_day : ByteArray := prog_12_method_47_code
def yX3_day : MethodName := ⟨RX3, "day", "()I"⟩
theorem dX3_day_0 : decode cX3_day 0 = .ok (.aload_n 0, 1) := by decide +kernel
theorem dX3_day_1 : decode cX3_day 1 = .ok (.invokevirtual 245, 3) := by decide +kernel
theorem dX3_day_4 : decode cX3_day 4 = .ok (.ireturn, 1) := by decide +kernel
abbrev cX3_findUse : ByteArray := prog_12_method_46_code
def yX3_findUse : MethodName := ⟨RX3, "findUse", "()I"⟩
def dkwX3_findUse_9 : List UInt8 := [21, 5, 61, 21, 6, 62, 42, 21, 4, 181, 0, 242, 132, 4, 1, 167, 255, 145, 28, 172]
abbrev dktX3_findUse_9 : List UInt8 := dkwX3_findUse_9 ++ []
def dkwX3_findUse_8 : List UInt8 := [180, 0, 70, 163, 0, 33, 21, 5, 28, 163, 0, 15, 21, 5, 28, 160, 0, 21, 21, 6, 29, 162, 0, 15]
abbrev dktX3_findUse_8 : List UInt8 := dkwX3_findUse_8 ++ dktX3_findUse_9
def dkwX3_findUse_7 : List UInt8 := [54, 5, 21, 6, 21, 4, 21, 7, 122, 4, 126, 96, 54, 6, 132, 7, 1, 167, 255, 210, 21, 6, 42]
abbrev dktX3_findUse_7 : List UInt8 := dkwX3_findUse_7 ++ dktX3_findUse_8
def dkwX3_findUse_6 : List UInt8 := [162, 0, 43, 21, 5, 42, 180, 0, 76, 5, 21, 7, 104, 21, 4, 21, 7, 122, 4, 126, 96, 46, 96]
abbrev dktX3_findUse_6 : List UInt8 := dkwX3_findUse_6 ++ dktX3_findUse_7
def dkwX3_findUse_5 : List UInt8 := [42, 180, 0, 236, 120, 162, 0, 106, 3, 54, 5, 3, 54, 6, 3, 54, 7, 21, 7, 42, 180, 0, 236]
abbrev dktX3_findUse_5 : List UInt8 := dkwX3_findUse_5 ++ dktX3_findUse_6
def dkwX3_findUse_4 : List UInt8 := [60, 132, 2, 1, 167, 255, 181, 27, 153, 0, 6, 16, 251, 172, 2, 61, 3, 62, 3, 54, 4, 21, 4, 4]
abbrev dktX3_findUse_4 : List UInt8 := dkwX3_findUse_4 ++ dktX3_findUse_5
def dkwX3_findUse_3 : List UInt8 := [28, 104, 46, 155, 0, 16, 42, 180, 0, 76, 5, 28, 104, 4, 96, 46, 156, 0, 7, 4, 167, 0, 4, 3]
abbrev dktX3_findUse_3 : List UInt8 := dkwX3_findUse_3 ++ dktX3_findUse_4
def dkwX3_findUse_2 : List UInt8 := [180, 0, 76, 5, 28, 104, 4, 96, 42, 28, 4, 182, 0, 239, 79, 27, 154, 0, 27, 42, 180, 0, 76, 5]
abbrev dktX3_findUse_2 : List UInt8 := dkwX3_findUse_2 ++ dktX3_findUse_3
def dkwX3_findUse_1 : List UInt8 := [28, 42, 180, 0, 236, 162, 0, 73, 42, 180, 0, 76, 5, 28, 104, 42, 28, 3, 182, 0, 239, 79, 42]
abbrev dktX3_findUse_1 : List UInt8 := dkwX3_findUse_1 ++ dktX3_findUse_2
def dkwX3_findUse_0 : List UInt8 := [42, 180, 0, 236, 153, 0, 13, 42, 180, 0, 13, 3, 46, 2, 160, 0, 6, 16, 253, 172, 3, 60, 3, 61]
abbrev dktX3_findUse_0 : List UInt8 := dkwX3_findUse_0 ++ dktX3_findUse_1
theorem dksX3_findUse_0 : cX3_findUse.data.toList.drop 0 = dktX3_findUse_0 := by decide +kernel
theorem dksX3_findUse_1 : cX3_findUse.data.toList.drop 24 = dktX3_findUse_1 := dk_seg dksX3_findUse_0 24 rfl rfl
theorem dksX3_findUse_2 : cX3_findUse.data.toList.drop 47 = dktX3_findUse_2 := dk_seg dksX3_findUse_1 23 rfl rfl
theorem dksX3_findUse_3 : cX3_findUse.data.toList.drop 71 = dktX3_findUse_3 := dk_seg dksX3_findUse_2 24 rfl rfl
theorem dksX3_findUse_4 : cX3_findUse.data.toList.drop 95 = dktX3_findUse_4 := dk_seg dksX3_findUse_3 24 rfl rfl
theorem dksX3_findUse_5 : cX3_findUse.data.toList.drop 119 = dktX3_findUse_5 := dk_seg dksX3_findUse_4 24 rfl rfl
theorem dksX3_findUse_6 : cX3_findUse.data.toList.drop 142 = dktX3_findUse_6 := dk_seg dksX3_findUse_5 23 rfl rfl
theorem dksX3_findUse_7 : cX3_findUse.data.toList.drop 165 = dktX3_findUse_7 := dk_seg dksX3_findUse_6 23 rfl rfl
theorem dksX3_findUse_8 : cX3_findUse.data.toList.drop 188 = dktX3_findUse_8 := dk_seg dksX3_findUse_7 23 rfl rfl
theorem dksX3_findUse_9 : cX3_findUse.data.toList.drop 212 = dktX3_findUse_9 := dk_seg dksX3_findUse_8 24 rfl rfl
theorem dX3_findUse_0 : decode cX3_findUse 0 = .ok (.aload_n 0, 1) := dk_42 (dk_at dksX3_findUse_0 0 rfl rfl)
theorem dX3_findUse_1 : decode cX3_findUse 1 = .ok (.getfield 236, 3) := dk_180 0 236 (dk_at dksX3_findUse_0 1 rfl rfl)
theorem dX3_findUse_4 : decode cX3_findUse 4 = .ok (.ifCond .eq 13, 3) := dk_153 0 13 (dk_at dksX3_findUse_0 4 rfl rfl)
theorem dX3_findUse_7 : decode cX3_findUse 7 = .ok (.aload_n 0, 1) := dk_42 (dk_at dksX3_findUse_0 7 rfl rfl)
theorem dX3_findUse_8 : decode cX3_findUse 8 = .ok (.getfield 13, 3) := dk_180 0 13 (dk_at dksX3_findUse_0 8 rfl rfl)
theorem dX3_findUse_11 : decode cX3_findUse 11 = .ok (.iconst 0, 1) := dk_3 (dk_at dksX3_findUse_0 11 rfl rfl)
theorem dX3_findUse_12 : decode cX3_findUse 12 = .ok (.iaload, 1) := dk_46 (dk_at dksX3_findUse_0 12 rfl rfl)
theorem dX3_findUse_13 : decode cX3_findUse 13 = .ok (.iconst (-1), 1) := dk_2 (dk_at dksX3_findUse_0 13 rfl rfl)
theorem dX3_findUse_14 : decode cX3_findUse 14 = .ok (.if_icmp .ne 6, 3) := dk_160 0 6 (dk_at dksX3_findUse_0 14 rfl rfl)
theorem dX3_findUse_17 : decode cX3_findUse 17 = .ok (.bipush (-3), 2) := dk_16 253 (dk_at dksX3_findUse_0 17 rfl rfl)
theorem dX3_findUse_19 : decode cX3_findUse 19 = .ok (.ireturn, 1) := dk_172 (dk_at dksX3_findUse_0 19 rfl rfl)
theorem dX3_findUse_20 : decode cX3_findUse 20 = .ok (.iconst 0, 1) := dk_3 (dk_at dksX3_findUse_0 20 rfl rfl)
theorem dX3_findUse_21 : decode cX3_findUse 21 = .ok (.istore_n 1, 1) := dk_60 (dk_at dksX3_findUse_0 21 rfl rfl)
theorem dX3_findUse_22 : decode cX3_findUse 22 = .ok (.iconst 0, 1) := dk_3 (dk_at dksX3_findUse_0 22 rfl rfl)
theorem dX3_findUse_23 : decode cX3_findUse 23 = .ok (.istore_n 2, 1) := dk_61 (dk_at dksX3_findUse_0 23 rfl rfl)
theorem dX3_findUse_24 : decode cX3_findUse 24 = .ok (.iload_n 2, 1) := dk_28 (dk_at dksX3_findUse_1 0 rfl rfl)
theorem dX3_findUse_25 : decode cX3_findUse 25 = .ok (.aload_n 0, 1) := dk_42 (dk_at dksX3_findUse_1 1 rfl rfl)
theorem dX3_findUse_26 : decode cX3_findUse 26 = .ok (.getfield 236, 3) := dk_180 0 236 (dk_at dksX3_findUse_1 2 rfl rfl)
theorem dX3_findUse_29 : decode cX3_findUse 29 = .ok (.if_icmp .ge 73, 3) := dk_162 0 73 (dk_at dksX3_findUse_1 5 rfl rfl)
theorem dX3_findUse_32 : decode cX3_findUse 32 = .ok (.aload_n 0, 1) := dk_42 (dk_at dksX3_findUse_1 8 rfl rfl)
theorem dX3_findUse_33 : decode cX3_findUse 33 = .ok (.getfield 76, 3) := dk_180 0 76 (dk_at dksX3_findUse_1 9 rfl rfl)
theorem dX3_findUse_36 : decode cX3_findUse 36 = .ok (.iconst 2, 1) := dk_5 (dk_at dksX3_findUse_1 12 rfl rfl)
theorem dX3_findUse_37 : decode cX3_findUse 37 = .ok (.iload_n 2, 1) := dk_28 (dk_at dksX3_findUse_1 13 rfl rfl)
theorem dX3_findUse_38 : decode cX3_findUse 38 = .ok (.imul, 1) := dk_104 (dk_at dksX3_findUse_1 14 rfl rfl)
theorem dX3_findUse_39 : decode cX3_findUse 39 = .ok (.aload_n 0, 1) := dk_42 (dk_at dksX3_findUse_1 15 rfl rfl)
theorem dX3_findUse_40 : decode cX3_findUse 40 = .ok (.iload_n 2, 1) := dk_28 (dk_at dksX3_findUse_1 16 rfl rfl)
theorem dX3_findUse_41 : decode cX3_findUse 41 = .ok (.iconst 0, 1) := dk_3 (dk_at dksX3_findUse_1 17 rfl rfl)
theorem dX3_findUse_42 : decode cX3_findUse 42 = .ok (.invokevirtual 239, 3) := dk_182 0 239 (dk_at dksX3_findUse_1 18 rfl rfl)
theorem dX3_findUse_45 : decode cX3_findUse 45 = .ok (.iastore, 1) := dk_79 (dk_at dksX3_findUse_1 21 rfl rfl)
theorem dX3_findUse_46 : decode cX3_findUse 46 = .ok (.aload_n 0, 1) := dk_42 (dk_at dksX3_findUse_1 22 rfl rfl)
theorem dX3_findUse_47 : decode cX3_findUse 47 = .ok (.getfield 76, 3) := dk_180 0 76 (dk_at dksX3_findUse_2 0 rfl rfl)
theorem dX3_findUse_50 : decode cX3_findUse 50 = .ok (.iconst 2, 1) := dk_5 (dk_at dksX3_findUse_2 3 rfl rfl)
theorem dX3_findUse_51 : decode cX3_findUse 51 = .ok (.iload_n 2, 1) := dk_28 (dk_at dksX3_findUse_2 4 rfl rfl)
theorem dX3_findUse_52 : decode cX3_findUse 52 = .ok (.imul, 1) := dk_104 (dk_at dksX3_findUse_2 5 rfl rfl)
theorem dX3_findUse_53 : decode cX3_findUse 53 = .ok (.iconst 1, 1) := dk_4 (dk_at dksX3_findUse_2 6 rfl rfl)
theorem dX3_findUse_54 : decode cX3_findUse 54 = .ok (.iadd, 1) := dk_96 (dk_at dksX3_findUse_2 7 rfl rfl)
theorem dX3_findUse_55 : decode cX3_findUse 55 = .ok (.aload_n 0, 1) := dk_42 (dk_at dksX3_findUse_2 8 rfl rfl)
theorem dX3_findUse_56 : decode cX3_findUse 56 = .ok (.iload_n 2, 1) := dk_28 (dk_at dksX3_findUse_2 9 rfl rfl)
theorem dX3_findUse_57 : decode cX3_findUse 57 = .ok (.iconst 1, 1) := dk_4 (dk_at dksX3_findUse_2 10 rfl rfl)
theorem dX3_findUse_58 : decode cX3_findUse 58 = .ok (.invokevirtual 239, 3) := dk_182 0 239 (dk_at dksX3_findUse_2 11 rfl rfl)
theorem dX3_findUse_61 : decode cX3_findUse 61 = .ok (.iastore, 1) := dk_79 (dk_at dksX3_findUse_2 14 rfl rfl)
theorem dX3_findUse_62 : decode cX3_findUse 62 = .ok (.iload_n 1, 1) := dk_27 (dk_at dksX3_findUse_2 15 rfl rfl)
theorem dX3_findUse_63 : decode cX3_findUse 63 = .ok (.ifCond .ne 27, 3) := dk_154 0 27 (dk_at dksX3_findUse_2 16 rfl rfl)
theorem dX3_findUse_66 : decode cX3_findUse 66 = .ok (.aload_n 0, 1) := dk_42 (dk_at dksX3_findUse_2 19 rfl rfl)
theorem dX3_findUse_67 : decode cX3_findUse 67 = .ok (.getfield 76, 3) := dk_180 0 76 (dk_at dksX3_findUse_2 20 rfl rfl)
theorem dX3_findUse_70 : decode cX3_findUse 70 = .ok (.iconst 2, 1) := dk_5 (dk_at dksX3_findUse_2 23 rfl rfl)
theorem dX3_findUse_71 : decode cX3_findUse 71 = .ok (.iload_n 2, 1) := dk_28 (dk_at dksX3_findUse_3 0 rfl rfl)
theorem dX3_findUse_72 : decode cX3_findUse 72 = .ok (.imul, 1) := dk_104 (dk_at dksX3_findUse_3 1 rfl rfl)
theorem dX3_findUse_73 : decode cX3_findUse 73 = .ok (.iaload, 1) := dk_46 (dk_at dksX3_findUse_3 2 rfl rfl)
theorem dX3_findUse_74 : decode cX3_findUse 74 = .ok (.ifCond .lt 16, 3) := dk_155 0 16 (dk_at dksX3_findUse_3 3 rfl rfl)
theorem dX3_findUse_77 : decode cX3_findUse 77 = .ok (.aload_n 0, 1) := dk_42 (dk_at dksX3_findUse_3 6 rfl rfl)
theorem dX3_findUse_78 : decode cX3_findUse 78 = .ok (.getfield 76, 3) := dk_180 0 76 (dk_at dksX3_findUse_3 7 rfl rfl)
theorem dX3_findUse_81 : decode cX3_findUse 81 = .ok (.iconst 2, 1) := dk_5 (dk_at dksX3_findUse_3 10 rfl rfl)
theorem dX3_findUse_82 : decode cX3_findUse 82 = .ok (.iload_n 2, 1) := dk_28 (dk_at dksX3_findUse_3 11 rfl rfl)
theorem dX3_findUse_83 : decode cX3_findUse 83 = .ok (.imul, 1) := dk_104 (dk_at dksX3_findUse_3 12 rfl rfl)
theorem dX3_findUse_84 : decode cX3_findUse 84 = .ok (.iconst 1, 1) := dk_4 (dk_at dksX3_findUse_3 13 rfl rfl)
theorem dX3_findUse_85 : decode cX3_findUse 85 = .ok (.iadd, 1) := dk_96 (dk_at dksX3_findUse_3 14 rfl rfl)
theorem dX3_findUse_86 : decode cX3_findUse 86 = .ok (.iaload, 1) := dk_46 (dk_at dksX3_findUse_3 15 rfl rfl)
theorem dX3_findUse_87 : decode cX3_findUse 87 = .ok (.ifCond .ge 7, 3) := dk_156 0 7 (dk_at dksX3_findUse_3 16 rfl rfl)
theorem dX3_findUse_90 : decode cX3_findUse 90 = .ok (.iconst 1, 1) := dk_4 (dk_at dksX3_findUse_3 19 rfl rfl)
theorem dX3_findUse_91 : decode cX3_findUse 91 = .ok (.goto 4, 3) := dk_167 0 4 (dk_at dksX3_findUse_3 20 rfl rfl)
theorem dX3_findUse_94 : decode cX3_findUse 94 = .ok (.iconst 0, 1) := dk_3 (dk_at dksX3_findUse_3 23 rfl rfl)
theorem dX3_findUse_95 : decode cX3_findUse 95 = .ok (.istore_n 1, 1) := dk_60 (dk_at dksX3_findUse_4 0 rfl rfl)
theorem dX3_findUse_96 : decode cX3_findUse 96 = .ok (.iinc 2 1, 3) := dk_132 2 1 (dk_at dksX3_findUse_4 1 rfl rfl)
theorem dX3_findUse_99 : decode cX3_findUse 99 = .ok (.goto (-75), 3) := dk_167 255 181 (dk_at dksX3_findUse_4 4 rfl rfl)
theorem dX3_findUse_102 : decode cX3_findUse 102 = .ok (.iload_n 1, 1) := dk_27 (dk_at dksX3_findUse_4 7 rfl rfl)
theorem dX3_findUse_103 : decode cX3_findUse 103 = .ok (.ifCond .eq 6, 3) := dk_153 0 6 (dk_at dksX3_findUse_4 8 rfl rfl)
theorem dX3_findUse_106 : decode cX3_findUse 106 = .ok (.bipush (-5), 2) := dk_16 251 (dk_at dksX3_findUse_4 11 rfl rfl)
theorem dX3_findUse_108 : decode cX3_findUse 108 = .ok (.ireturn, 1) := dk_172 (dk_at dksX3_findUse_4 13 rfl rfl)
theorem dX3_findUse_109 : decode cX3_findUse 109 = .ok (.iconst (-1), 1) := dk_2 (dk_at dksX3_findUse_4 14 rfl rfl)
theorem dX3_findUse_110 : decode cX3_findUse 110 = .ok (.istore_n 2, 1) := dk_61 (dk_at dksX3_findUse_4 15 rfl rfl)
theorem dX3_findUse_111 : decode cX3_findUse 111 = .ok (.iconst 0, 1) := dk_3 (dk_at dksX3_findUse_4 16 rfl rfl)
theorem dX3_findUse_112 : decode cX3_findUse 112 = .ok (.istore_n 3, 1) := dk_62 (dk_at dksX3_findUse_4 17 rfl rfl)
theorem dX3_findUse_113 : decode cX3_findUse 113 = .ok (.iconst 0, 1) := dk_3 (dk_at dksX3_findUse_4 18 rfl rfl)
theorem dX3_findUse_114 : decode cX3_findUse 114 = .ok (.istore 4, 2) := dk_54 4 (dk_at dksX3_findUse_4 19 rfl rfl)
theorem dX3_findUse_116 : decode cX3_findUse 116 = .ok (.iload 4, 2) := dk_21 4 (dk_at dksX3_findUse_4 21 rfl rfl)
theorem dX3_findUse_118 : decode cX3_findUse 118 = .ok (.iconst 1, 1) := dk_4 (dk_at dksX3_findUse_4 23 rfl rfl)
theorem dX3_findUse_119 : decode cX3_findUse 119 = .ok (.aload_n 0, 1) := dk_42 (dk_at dksX3_findUse_5 0 rfl rfl)
theorem dX3_findUse_120 : decode cX3_findUse 120 = .ok (.getfield 236, 3) := dk_180 0 236 (dk_at dksX3_findUse_5 1 rfl rfl)
theorem dX3_findUse_123 : decode cX3_findUse 123 = .ok (.ishl, 1) := dk_120 (dk_at dksX3_findUse_5 4 rfl rfl)
theorem dX3_findUse_124 : decode cX3_findUse 124 = .ok (.if_icmp .ge 106, 3) := dk_162 0 106 (dk_at dksX3_findUse_5 5 rfl rfl)
theorem dX3_findUse_127 : decode cX3_findUse 127 = .ok (.iconst 0, 1) := dk_3 (dk_at dksX3_findUse_5 8 rfl rfl)
theorem dX3_findUse_128 : decode cX3_findUse 128 = .ok (.istore 5, 2) := dk_54 5 (dk_at dksX3_findUse_5 9 rfl rfl)
theorem dX3_findUse_130 : decode cX3_findUse 130 = .ok (.iconst 0, 1) := dk_3 (dk_at dksX3_findUse_5 11 rfl rfl)
theorem dX3_findUse_131 : decode cX3_findUse 131 = .ok (.istore 6, 2) := dk_54 6 (dk_at dksX3_findUse_5 12 rfl rfl)
theorem dX3_findUse_133 : decode cX3_findUse 133 = .ok (.iconst 0, 1) := dk_3 (dk_at dksX3_findUse_5 14 rfl rfl)
theorem dX3_findUse_134 : decode cX3_findUse 134 = .ok (.istore 7, 2) := dk_54 7 (dk_at dksX3_findUse_5 15 rfl rfl)
theorem dX3_findUse_136 : decode cX3_findUse 136 = .ok (.iload 7, 2) := dk_21 7 (dk_at dksX3_findUse_5 17 rfl rfl)
theorem dX3_findUse_138 : decode cX3_findUse 138 = .ok (.aload_n 0, 1) := dk_42 (dk_at dksX3_findUse_5 19 rfl rfl)
theorem dX3_findUse_139 : decode cX3_findUse 139 = .ok (.getfield 236, 3) := dk_180 0 236 (dk_at dksX3_findUse_5 20 rfl rfl)
theorem dX3_findUse_142 : decode cX3_findUse 142 = .ok (.if_icmp .ge 43, 3) := dk_162 0 43 (dk_at dksX3_findUse_6 0 rfl rfl)
theorem dX3_findUse_145 : decode cX3_findUse 145 = .ok (.iload 5, 2) := dk_21 5 (dk_at dksX3_findUse_6 3 rfl rfl)
theorem dX3_findUse_147 : decode cX3_findUse 147 = .ok (.aload_n 0, 1) := dk_42 (dk_at dksX3_findUse_6 5 rfl rfl)
theorem dX3_findUse_148 : decode cX3_findUse 148 = .ok (.getfield 76, 3) := dk_180 0 76 (dk_at dksX3_findUse_6 6 rfl rfl)
theorem dX3_findUse_151 : decode cX3_findUse 151 = .ok (.iconst 2, 1) := dk_5 (dk_at dksX3_findUse_6 9 rfl rfl)
theorem dX3_findUse_152 : decode cX3_findUse 152 = .ok (.iload 7, 2) := dk_21 7 (dk_at dksX3_findUse_6 10 rfl rfl)
theorem dX3_findUse_154 : decode cX3_findUse 154 = .ok (.imul, 1) := dk_104 (dk_at dksX3_findUse_6 12 rfl rfl)
theorem dX3_findUse_155 : decode cX3_findUse 155 = .ok (.iload 4, 2) := dk_21 4 (dk_at dksX3_findUse_6 13 rfl rfl)
theorem dX3_findUse_157 : decode cX3_findUse 157 = .ok (.iload 7, 2) := dk_21 7 (dk_at dksX3_findUse_6 15 rfl rfl)
theorem dX3_findUse_159 : decode cX3_findUse 159 = .ok (.ishr, 1) := dk_122 (dk_at dksX3_findUse_6 17 rfl rfl)
theorem dX3_findUse_160 : decode cX3_findUse 160 = .ok (.iconst 1, 1) := dk_4 (dk_at dksX3_findUse_6 18 rfl rfl)
theorem dX3_findUse_161 : decode cX3_findUse 161 = .ok (.iand, 1) := dk_126 (dk_at dksX3_findUse_6 19 rfl rfl)
theorem dX3_findUse_162 : decode cX3_findUse 162 = .ok (.iadd, 1) := dk_96 (dk_at dksX3_findUse_6 20 rfl rfl)
theorem dX3_findUse_163 : decode cX3_findUse 163 = .ok (.iaload, 1) := dk_46 (dk_at dksX3_findUse_6 21 rfl rfl)
theorem dX3_findUse_164 : decode cX3_findUse 164 = .ok (.iadd, 1) := dk_96 (dk_at dksX3_findUse_6 22 rfl rfl)
theorem dX3_findUse_165 : decode cX3_findUse 165 = .ok (.istore 5, 2) := dk_54 5 (dk_at dksX3_findUse_7 0 rfl rfl)
theorem dX3_findUse_167 : decode cX3_findUse 167 = .ok (.iload 6, 2) := dk_21 6 (dk_at dksX3_findUse_7 2 rfl rfl)
theorem dX3_findUse_169 : decode cX3_findUse 169 = .ok (.iload 4, 2) := dk_21 4 (dk_at dksX3_findUse_7 4 rfl rfl)
theorem dX3_findUse_171 : decode cX3_findUse 171 = .ok (.iload 7, 2) := dk_21 7 (dk_at dksX3_findUse_7 6 rfl rfl)
theorem dX3_findUse_173 : decode cX3_findUse 173 = .ok (.ishr, 1) := dk_122 (dk_at dksX3_findUse_7 8 rfl rfl)
theorem dX3_findUse_174 : decode cX3_findUse 174 = .ok (.iconst 1, 1) := dk_4 (dk_at dksX3_findUse_7 9 rfl rfl)
theorem dX3_findUse_175 : decode cX3_findUse 175 = .ok (.iand, 1) := dk_126 (dk_at dksX3_findUse_7 10 rfl rfl)
theorem dX3_findUse_176 : decode cX3_findUse 176 = .ok (.iadd, 1) := dk_96 (dk_at dksX3_findUse_7 11 rfl rfl)
theorem dX3_findUse_177 : decode cX3_findUse 177 = .ok (.istore 6, 2) := dk_54 6 (dk_at dksX3_findUse_7 12 rfl rfl)
theorem dX3_findUse_179 : decode cX3_findUse 179 = .ok (.iinc 7 1, 3) := dk_132 7 1 (dk_at dksX3_findUse_7 14 rfl rfl)
theorem dX3_findUse_182 : decode cX3_findUse 182 = .ok (.goto (-46), 3) := dk_167 255 210 (dk_at dksX3_findUse_7 17 rfl rfl)
theorem dX3_findUse_185 : decode cX3_findUse 185 = .ok (.iload 6, 2) := dk_21 6 (dk_at dksX3_findUse_7 20 rfl rfl)
theorem dX3_findUse_187 : decode cX3_findUse 187 = .ok (.aload_n 0, 1) := dk_42 (dk_at dksX3_findUse_7 22 rfl rfl)
theorem dX3_findUse_188 : decode cX3_findUse 188 = .ok (.getfield 70, 3) := dk_180 0 70 (dk_at dksX3_findUse_8 0 rfl rfl)
theorem dX3_findUse_191 : decode cX3_findUse 191 = .ok (.if_icmp .gt 33, 3) := dk_163 0 33 (dk_at dksX3_findUse_8 3 rfl rfl)
theorem dX3_findUse_194 : decode cX3_findUse 194 = .ok (.iload 5, 2) := dk_21 5 (dk_at dksX3_findUse_8 6 rfl rfl)
theorem dX3_findUse_196 : decode cX3_findUse 196 = .ok (.iload_n 2, 1) := dk_28 (dk_at dksX3_findUse_8 8 rfl rfl)
theorem dX3_findUse_197 : decode cX3_findUse 197 = .ok (.if_icmp .gt 15, 3) := dk_163 0 15 (dk_at dksX3_findUse_8 9 rfl rfl)
theorem dX3_findUse_200 : decode cX3_findUse 200 = .ok (.iload 5, 2) := dk_21 5 (dk_at dksX3_findUse_8 12 rfl rfl)
theorem dX3_findUse_202 : decode cX3_findUse 202 = .ok (.iload_n 2, 1) := dk_28 (dk_at dksX3_findUse_8 14 rfl rfl)
theorem dX3_findUse_203 : decode cX3_findUse 203 = .ok (.if_icmp .ne 21, 3) := dk_160 0 21 (dk_at dksX3_findUse_8 15 rfl rfl)
theorem dX3_findUse_206 : decode cX3_findUse 206 = .ok (.iload 6, 2) := dk_21 6 (dk_at dksX3_findUse_8 18 rfl rfl)
theorem dX3_findUse_208 : decode cX3_findUse 208 = .ok (.iload_n 3, 1) := dk_29 (dk_at dksX3_findUse_8 20 rfl rfl)
theorem dX3_findUse_209 : decode cX3_findUse 209 = .ok (.if_icmp .ge 15, 3) := dk_162 0 15 (dk_at dksX3_findUse_8 21 rfl rfl)
theorem dX3_findUse_212 : decode cX3_findUse 212 = .ok (.iload 5, 2) := dk_21 5 (dk_at dksX3_findUse_9 0 rfl rfl)
theorem dX3_findUse_214 : decode cX3_findUse 214 = .ok (.istore_n 2, 1) := dk_61 (dk_at dksX3_findUse_9 2 rfl rfl)
theorem dX3_findUse_215 : decode cX3_findUse 215 = .ok (.iload 6, 2) := dk_21 6 (dk_at dksX3_findUse_9 3 rfl rfl)
theorem dX3_findUse_217 : decode cX3_findUse 217 = .ok (.istore_n 3, 1) := dk_62 (dk_at dksX3_findUse_9 5 rfl rfl)
theorem dX3_findUse_218 : decode cX3_findUse 218 = .ok (.aload_n 0, 1) := dk_42 (dk_at dksX3_findUse_9 6 rfl rfl)
theorem dX3_findUse_219 : decode cX3_findUse 219 = .ok (.iload 4, 2) := dk_21 4 (dk_at dksX3_findUse_9 7 rfl rfl)
theorem dX3_findUse_221 : decode cX3_findUse 221 = .ok (.putfield 242, 3) := dk_181 0 242 (dk_at dksX3_findUse_9 9 rfl rfl)
theorem dX3_findUse_224 : decode cX3_findUse 224 = .ok (.iinc 4 1, 3) := dk_132 4 1 (dk_at dksX3_findUse_9 12 rfl rfl)
theorem dX3_findUse_227 : decode cX3_findUse 227 = .ok (.goto (-111), 3) := dk_167 255 145 (dk_at dksX3_findUse_9 15 rfl rfl)
theorem dX3_findUse_230 : decode cX3_findUse 230 = .ok (.iload_n 2, 1) := dk_28 (dk_at dksX3_findUse_9 18 rfl rfl)
theorem dX3_findUse_231 : decode cX3_findUse 231 = .ok (.ireturn, 1) := dk_172 (dk_at dksX3_findUse_9 19 rfl rfl)
abbrev cX3_oddsOf : ByteArray := prog_12_method_45_code
def yX3_oddsOf : MethodName := ⟨RX3, "oddsOf", "(IZ)I"⟩
def dkwX3_oddsOf_2 : List UInt8 := [182, 0, 216, 153, 0, 8, 16, 251, 167, 0, 7, 42, 182, 0, 228, 172]
abbrev dktX3_oddsOf_2 : List UInt8 := dkwX3_oddsOf_2 ++ []
def dkwX3_oddsOf_1 : List UInt8 := [180, 0, 23, 6, 29, 96, 42, 180, 0, 67, 6, 27, 104, 29, 96, 46, 79, 132, 3, 1, 167, 255, 230, 42]
abbrev dktX3_oddsOf_1 : List UInt8 := dkwX3_oddsOf_1 ++ dktX3_oddsOf_2
def dkwX3_oddsOf_0 : List UInt8 := [42, 28, 153, 0, 10, 42, 180, 0, 73, 167, 0, 4, 3, 182, 0, 213, 3, 62, 29, 6, 162, 0, 27, 42]
abbrev dktX3_oddsOf_0 : List UInt8 := dkwX3_oddsOf_0 ++ dktX3_oddsOf_1
theorem dksX3_oddsOf_0 : cX3_oddsOf.data.toList.drop 0 = dktX3_oddsOf_0 := by decide +kernel
theorem dksX3_oddsOf_1 : cX3_oddsOf.data.toList.drop 24 = dktX3_oddsOf_1 := dk_seg dksX3_oddsOf_0 24 rfl rfl
theorem dksX3_oddsOf_2 : cX3_oddsOf.data.toList.drop 48 = dktX3_oddsOf_2 := dk_seg dksX3_oddsOf_1 24 rfl rfl
theorem dX3_oddsOf_0 : decode cX3_oddsOf 0 = .ok (.aload_n 0, 1) := dk_42 (dk_at dksX3_oddsOf_0 0 rfl rfl)
theorem dX3_oddsOf_1 : decode cX3_oddsOf 1 = .ok (.iload_n 2, 1) := dk_28 (dk_at dksX3_oddsOf_0 1 rfl rfl)
theorem dX3_oddsOf_2 : decode cX3_oddsOf 2 = .ok (.ifCond .eq 10, 3) := dk_153 0 10 (dk_at dksX3_oddsOf_0 2 rfl rfl)
theorem dX3_oddsOf_5 : decode cX3_oddsOf 5 = .ok (.aload_n 0, 1) := dk_42 (dk_at dksX3_oddsOf_0 5 rfl rfl)
theorem dX3_oddsOf_6 : decode cX3_oddsOf 6 = .ok (.getfield 73, 3) := dk_180 0 73 (dk_at dksX3_oddsOf_0 6 rfl rfl)
theorem dX3_oddsOf_9 : decode cX3_oddsOf 9 = .ok (.goto 4, 3) := dk_167 0 4 (dk_at dksX3_oddsOf_0 9 rfl rfl)
theorem dX3_oddsOf_12 : decode cX3_oddsOf 12 = .ok (.iconst 0, 1) := dk_3 (dk_at dksX3_oddsOf_0 12 rfl rfl)
theorem dX3_oddsOf_13 : decode cX3_oddsOf 13 = .ok (.invokevirtual 213, 3) := dk_182 0 213 (dk_at dksX3_oddsOf_0 13 rfl rfl)
theorem dX3_oddsOf_16 : decode cX3_oddsOf 16 = .ok (.iconst 0, 1) := dk_3 (dk_at dksX3_oddsOf_0 16 rfl rfl)
theorem dX3_oddsOf_17 : decode cX3_oddsOf 17 = .ok (.istore_n 3, 1) := dk_62 (dk_at dksX3_oddsOf_0 17 rfl rfl)
theorem dX3_oddsOf_18 : decode cX3_oddsOf 18 = .ok (.iload_n 3, 1) := dk_29 (dk_at dksX3_oddsOf_0 18 rfl rfl)
theorem dX3_oddsOf_19 : decode cX3_oddsOf 19 = .ok (.iconst 3, 1) := dk_6 (dk_at dksX3_oddsOf_0 19 rfl rfl)
theorem dX3_oddsOf_20 : decode cX3_oddsOf 20 = .ok (.if_icmp .ge 27, 3) := dk_162 0 27 (dk_at dksX3_oddsOf_0 20 rfl rfl)
theorem dX3_oddsOf_23 : decode cX3_oddsOf 23 = .ok (.aload_n 0, 1) := dk_42 (dk_at dksX3_oddsOf_0 23 rfl rfl)
theorem dX3_oddsOf_24 : decode cX3_oddsOf 24 = .ok (.getfield 23, 3) := dk_180 0 23 (dk_at dksX3_oddsOf_1 0 rfl rfl)
theorem dX3_oddsOf_27 : decode cX3_oddsOf 27 = .ok (.iconst 3, 1) := dk_6 (dk_at dksX3_oddsOf_1 3 rfl rfl)
theorem dX3_oddsOf_28 : decode cX3_oddsOf 28 = .ok (.iload_n 3, 1) := dk_29 (dk_at dksX3_oddsOf_1 4 rfl rfl)
theorem dX3_oddsOf_29 : decode cX3_oddsOf 29 = .ok (.iadd, 1) := dk_96 (dk_at dksX3_oddsOf_1 5 rfl rfl)
theorem dX3_oddsOf_30 : decode cX3_oddsOf 30 = .ok (.aload_n 0, 1) := dk_42 (dk_at dksX3_oddsOf_1 6 rfl rfl)
theorem dX3_oddsOf_31 : decode cX3_oddsOf 31 = .ok (.getfield 67, 3) := dk_180 0 67 (dk_at dksX3_oddsOf_1 7 rfl rfl)
theorem dX3_oddsOf_34 : decode cX3_oddsOf 34 = .ok (.iconst 3, 1) := dk_6 (dk_at dksX3_oddsOf_1 10 rfl rfl)
theorem dX3_oddsOf_35 : decode cX3_oddsOf 35 = .ok (.iload_n 1, 1) := dk_27 (dk_at dksX3_oddsOf_1 11 rfl rfl)
theorem dX3_oddsOf_36 : decode cX3_oddsOf 36 = .ok (.imul, 1) := dk_104 (dk_at dksX3_oddsOf_1 12 rfl rfl)
theorem dX3_oddsOf_37 : decode cX3_oddsOf 37 = .ok (.iload_n 3, 1) := dk_29 (dk_at dksX3_oddsOf_1 13 rfl rfl)
theorem dX3_oddsOf_38 : decode cX3_oddsOf 38 = .ok (.iadd, 1) := dk_96 (dk_at dksX3_oddsOf_1 14 rfl rfl)
theorem dX3_oddsOf_39 : decode cX3_oddsOf 39 = .ok (.iaload, 1) := dk_46 (dk_at dksX3_oddsOf_1 15 rfl rfl)
theorem dX3_oddsOf_40 : decode cX3_oddsOf 40 = .ok (.iastore, 1) := dk_79 (dk_at dksX3_oddsOf_1 16 rfl rfl)
theorem dX3_oddsOf_41 : decode cX3_oddsOf 41 = .ok (.iinc 3 1, 3) := dk_132 3 1 (dk_at dksX3_oddsOf_1 17 rfl rfl)
theorem dX3_oddsOf_44 : decode cX3_oddsOf 44 = .ok (.goto (-26), 3) := dk_167 255 230 (dk_at dksX3_oddsOf_1 20 rfl rfl)
theorem dX3_oddsOf_47 : decode cX3_oddsOf 47 = .ok (.aload_n 0, 1) := dk_42 (dk_at dksX3_oddsOf_1 23 rfl rfl)
theorem dX3_oddsOf_48 : decode cX3_oddsOf 48 = .ok (.invokevirtual 216, 3) := dk_182 0 216 (dk_at dksX3_oddsOf_2 0 rfl rfl)
theorem dX3_oddsOf_51 : decode cX3_oddsOf 51 = .ok (.ifCond .eq 8, 3) := dk_153 0 8 (dk_at dksX3_oddsOf_2 3 rfl rfl)
theorem dX3_oddsOf_54 : decode cX3_oddsOf 54 = .ok (.bipush (-5), 2) := dk_16 251 (dk_at dksX3_oddsOf_2 6 rfl rfl)
theorem dX3_oddsOf_56 : decode cX3_oddsOf 56 = .ok (.goto 7, 3) := dk_167 0 7 (dk_at dksX3_oddsOf_2 8 rfl rfl)
theorem dX3_oddsOf_59 : decode cX3_oddsOf 59 = .ok (.aload_n 0, 1) := dk_42 (dk_at dksX3_oddsOf_2 11 rfl rfl)
theorem dX3_oddsOf_60 : decode cX3_oddsOf 60 = .ok (.invokevirtual 228, 3) := dk_182 0 228 (dk_at dksX3_oddsOf_2 12 rfl rfl)
theorem dX3_oddsOf_63 : decode cX3_oddsOf 63 = .ok (.ireturn, 1) := dk_172 (dk_at dksX3_oddsOf_2 15 rfl rfl)
abbrev cX3_use : ByteArray := prog_12_method_48_code
def yX3_use : MethodName := ⟨RX3, "use", "()I"⟩
def dkwX3_use_0 : List UInt8 := [42, 182, 0, 245, 60, 27, 156, 0, 7, 27, 167, 0, 7, 42, 180, 0, 242, 172]
abbrev dktX3_use_0 : List UInt8 := dkwX3_use_0 ++ []
theorem dksX3_use_0 : cX3_use.data.toList.drop 0 = dktX3_use_0 := by decide +kernel
theorem dX3_use_0 : decode cX3_use 0 = .ok (.aload_n 0, 1) := dk_42 (dk_at dksX3_use_0 0 rfl rfl)
theorem dX3_use_1 : decode cX3_use 1 = .ok (.invokevirtual 245, 3) := dk_182 0 245 (dk_at dksX3_use_0 1 rfl rfl)
theorem dX3_use_4 : decode cX3_use 4 = .ok (.istore_n 1, 1) := dk_60 (dk_at dksX3_use_0 4 rfl rfl)
theorem dX3_use_5 : decode cX3_use 5 = .ok (.iload_n 1, 1) := dk_27 (dk_at dksX3_use_0 5 rfl rfl)
theorem dX3_use_6 : decode cX3_use 6 = .ok (.ifCond .ge 7, 3) := dk_156 0 7 (dk_at dksX3_use_0 6 rfl rfl)
theorem dX3_use_9 : decode cX3_use 9 = .ok (.iload_n 1, 1) := dk_27 (dk_at dksX3_use_0 9 rfl rfl)
theorem dX3_use_10 : decode cX3_use 10 = .ok (.goto 7, 3) := dk_167 0 7 (dk_at dksX3_use_0 10 rfl rfl)
theorem dX3_use_13 : decode cX3_use 13 = .ok (.aload_n 0, 1) := dk_42 (dk_at dksX3_use_0 13 rfl rfl)
theorem dX3_use_14 : decode cX3_use 14 = .ok (.getfield 242, 3) := dk_180 0 242 (dk_at dksX3_use_0 14 rfl rfl)
theorem dX3_use_17 : decode cX3_use 17 = .ok (.ireturn, 1) := dk_172 (dk_at dksX3_use_0 17 rfl rfl)
abbrev cX3_odds : ByteArray := prog_12_method_49_code
def yX3_odds : MethodName := ⟨RX3, "odds", "(II)I"⟩
def dkwX3_odds_2 : List UInt8 := [4, 160, 0, 7, 4, 167, 0, 4, 3, 182, 0, 239, 172]
abbrev dktX3_odds_2 : List UInt8 := dkwX3_odds_2 ++ []
def dkwX3_odds_1 : List UInt8 := [154, 0, 6, 16, 254, 172, 42, 180, 0, 13, 3, 46, 2, 160, 0, 8, 16, 253, 167, 0, 18, 42, 27, 28]
abbrev dktX3_odds_1 : List UInt8 := dkwX3_odds_1 ++ dktX3_odds_2
def dkwX3_odds_0 : List UInt8 := [27, 133, 9, 42, 180, 0, 236, 4, 100, 133, 184, 0, 107, 153, 0, 13, 28, 133, 9, 10, 184, 0, 107]
abbrev dktX3_odds_0 : List UInt8 := dkwX3_odds_0 ++ dktX3_odds_1
theorem dksX3_odds_0 : cX3_odds.data.toList.drop 0 = dktX3_odds_0 := by decide +kernel
theorem dksX3_odds_1 : cX3_odds.data.toList.drop 23 = dktX3_odds_1 := dk_seg dksX3_odds_0 23 rfl rfl
theorem dksX3_odds_2 : cX3_odds.data.toList.drop 47 = dktX3_odds_2 := dk_seg dksX3_odds_1 24 rfl rfl
theorem dX3_odds_0 : decode cX3_odds 0 = .ok (.iload_n 1, 1) := dk_27 (dk_at dksX3_odds_0 0 rfl rfl)
theorem dX3_odds_1 : decode cX3_odds 1 = .ok (.i2l, 1) := dk_133 (dk_at dksX3_odds_0 1 rfl rfl)
theorem dX3_odds_2 : decode cX3_odds 2 = .ok (.lconst 0, 1) := dk_9 (dk_at dksX3_odds_0 2 rfl rfl)
theorem dX3_odds_3 : decode cX3_odds 3 = .ok (.aload_n 0, 1) := dk_42 (dk_at dksX3_odds_0 3 rfl rfl)
theorem dX3_odds_4 : decode cX3_odds 4 = .ok (.getfield 236, 3) := dk_180 0 236 (dk_at dksX3_odds_0 4 rfl rfl)
theorem dX3_odds_7 : decode cX3_odds 7 = .ok (.iconst 1, 1) := dk_4 (dk_at dksX3_odds_0 7 rfl rfl)
theorem dX3_odds_8 : decode cX3_odds 8 = .ok (.isub, 1) := dk_100 (dk_at dksX3_odds_0 8 rfl rfl)
theorem dX3_odds_9 : decode cX3_odds 9 = .ok (.i2l, 1) := dk_133 (dk_at dksX3_odds_0 9 rfl rfl)
theorem dX3_odds_10 : decode cX3_odds 10 = .ok (.invokestatic 107, 3) := dk_184 0 107 (dk_at dksX3_odds_0 10 rfl rfl)
theorem dX3_odds_13 : decode cX3_odds 13 = .ok (.ifCond .eq 13, 3) := dk_153 0 13 (dk_at dksX3_odds_0 13 rfl rfl)
theorem dX3_odds_16 : decode cX3_odds 16 = .ok (.iload_n 2, 1) := dk_28 (dk_at dksX3_odds_0 16 rfl rfl)
theorem dX3_odds_17 : decode cX3_odds 17 = .ok (.i2l, 1) := dk_133 (dk_at dksX3_odds_0 17 rfl rfl)
theorem dX3_odds_18 : decode cX3_odds 18 = .ok (.lconst 0, 1) := dk_9 (dk_at dksX3_odds_0 18 rfl rfl)
theorem dX3_odds_19 : decode cX3_odds 19 = .ok (.lconst 1, 1) := dk_10 (dk_at dksX3_odds_0 19 rfl rfl)
theorem dX3_odds_20 : decode cX3_odds 20 = .ok (.invokestatic 107, 3) := dk_184 0 107 (dk_at dksX3_odds_0 20 rfl rfl)
theorem dX3_odds_23 : decode cX3_odds 23 = .ok (.ifCond .ne 6, 3) := dk_154 0 6 (dk_at dksX3_odds_1 0 rfl rfl)
theorem dX3_odds_26 : decode cX3_odds 26 = .ok (.bipush (-2), 2) := dk_16 254 (dk_at dksX3_odds_1 3 rfl rfl)
theorem dX3_odds_28 : decode cX3_odds 28 = .ok (.ireturn, 1) := dk_172 (dk_at dksX3_odds_1 5 rfl rfl)
theorem dX3_odds_29 : decode cX3_odds 29 = .ok (.aload_n 0, 1) := dk_42 (dk_at dksX3_odds_1 6 rfl rfl)
theorem dX3_odds_30 : decode cX3_odds 30 = .ok (.getfield 13, 3) := dk_180 0 13 (dk_at dksX3_odds_1 7 rfl rfl)
theorem dX3_odds_33 : decode cX3_odds 33 = .ok (.iconst 0, 1) := dk_3 (dk_at dksX3_odds_1 10 rfl rfl)
theorem dX3_odds_34 : decode cX3_odds 34 = .ok (.iaload, 1) := dk_46 (dk_at dksX3_odds_1 11 rfl rfl)
theorem dX3_odds_35 : decode cX3_odds 35 = .ok (.iconst (-1), 1) := dk_2 (dk_at dksX3_odds_1 12 rfl rfl)
theorem dX3_odds_36 : decode cX3_odds 36 = .ok (.if_icmp .ne 8, 3) := dk_160 0 8 (dk_at dksX3_odds_1 13 rfl rfl)
theorem dX3_odds_39 : decode cX3_odds 39 = .ok (.bipush (-3), 2) := dk_16 253 (dk_at dksX3_odds_1 16 rfl rfl)
theorem dX3_odds_41 : decode cX3_odds 41 = .ok (.goto 18, 3) := dk_167 0 18 (dk_at dksX3_odds_1 18 rfl rfl)
theorem dX3_odds_44 : decode cX3_odds 44 = .ok (.aload_n 0, 1) := dk_42 (dk_at dksX3_odds_1 21 rfl rfl)
theorem dX3_odds_45 : decode cX3_odds 45 = .ok (.iload_n 1, 1) := dk_27 (dk_at dksX3_odds_1 22 rfl rfl)
theorem dX3_odds_46 : decode cX3_odds 46 = .ok (.iload_n 2, 1) := dk_28 (dk_at dksX3_odds_1 23 rfl rfl)
theorem dX3_odds_47 : decode cX3_odds 47 = .ok (.iconst 1, 1) := dk_4 (dk_at dksX3_odds_2 0 rfl rfl)
theorem dX3_odds_48 : decode cX3_odds 48 = .ok (.if_icmp .ne 7, 3) := dk_160 0 7 (dk_at dksX3_odds_2 1 rfl rfl)
theorem dX3_odds_51 : decode cX3_odds 51 = .ok (.iconst 1, 1) := dk_4 (dk_at dksX3_odds_2 4 rfl rfl)
theorem dX3_odds_52 : decode cX3_odds 52 = .ok (.goto 4, 3) := dk_167 0 4 (dk_at dksX3_odds_2 5 rfl rfl)
theorem dX3_odds_55 : decode cX3_odds 55 = .ok (.iconst 0, 1) := dk_3 (dk_at dksX3_odds_2 8 rfl rfl)
theorem dX3_odds_56 : decode cX3_odds 56 = .ok (.invokevirtual 239, 3) := dk_182 0 239 (dk_at dksX3_odds_2 9 rfl rfl)
theorem dX3_odds_59 : decode cX3_odds 59 = .ok (.ireturn, 1) := dk_172 (dk_at dksX3_odds_2 12 rfl rfl)
abbrev cX3_wish : ByteArray := prog_12_method_50_code
def yX3_wish : MethodName := ⟨RX3, "wish", "(II)I"⟩
def dkwX3_wish_8 : List UInt8 := [4, 96, 181, 0, 250, 132, 4, 1, 167, 255, 126, 132, 3, 1, 167, 255, 101, 42, 180, 0, 250, 172]
abbrev dktX3_wish_8 : List UInt8 := dkwX3_wish_8 ++ []
def dkwX3_wish_7 : List UInt8 := [17, 1, 0, 16, 16, 29, 104, 96, 167, 0, 10, 16, 16, 29, 104, 21, 4, 96, 79, 42, 89, 180, 0, 250]
abbrev dktX3_wish_7 : List UInt8 := dkwX3_wish_7 ++ dktX3_wish_8
def dkwX3_wish_6 : List UInt8 := [27, 133, 28, 133, 184, 0, 107, 153, 0, 46, 42, 180, 0, 79, 42, 180, 0, 250, 21, 4, 29, 162, 0, 14]
abbrev dktX3_wish_6 : List UInt8 := dkwX3_wish_6 ++ dktX3_wish_7
def dkwX3_wish_5 : List UInt8 := [8, 2, 79, 42, 182, 0, 216, 153, 0, 8, 16, 251, 167, 0, 7, 42, 182, 0, 228, 54, 5, 21, 5, 133]
abbrev dktX3_wish_5 : List UInt8 := dkwX3_wish_5 ++ dktX3_wish_6
def dkwX3_wish_4 : List UInt8 := [29, 79, 42, 180, 0, 23, 7, 21, 4, 29, 162, 0, 7, 2, 167, 0, 5, 21, 4, 79, 42, 180, 0, 23]
abbrev dktX3_wish_4 : List UInt8 := dkwX3_wish_4 ++ dktX3_wish_5
def dkwX3_wish_3 : List UInt8 := [16, 6, 162, 0, 129, 21, 4, 42, 180, 0, 119, 162, 0, 120, 42, 3, 182, 0, 213, 42, 180, 0, 23, 6]
abbrev dktX3_wish_3 : List UInt8 := dkwX3_wish_3 ++ dktX3_wish_4
def dkwX3_wish_2 : List UInt8 := [3, 62, 29, 16, 6, 162, 0, 155, 29, 42, 180, 0, 119, 162, 0, 147, 29, 4, 100, 54, 4, 21, 4]
abbrev dktX3_wish_2 : List UInt8 := dkwX3_wish_2 ++ dktX3_wish_3
def dkwX3_wish_1 : List UInt8 := [154, 0, 6, 16, 254, 172, 42, 180, 0, 13, 3, 46, 2, 160, 0, 6, 16, 253, 172, 42, 3, 181, 0, 250]
abbrev dktX3_wish_1 : List UInt8 := dkwX3_wish_1 ++ dktX3_wish_2
def dkwX3_wish_0 : List UInt8 := [27, 133, 9, 20, 0, 248, 184, 0, 107, 153, 0, 16, 28, 133, 27, 133, 20, 0, 248, 184, 0, 107]
abbrev dktX3_wish_0 : List UInt8 := dkwX3_wish_0 ++ dktX3_wish_1
theorem dksX3_wish_0 : cX3_wish.data.toList.drop 0 = dktX3_wish_0 := by decide +kernel
theorem dksX3_wish_1 : cX3_wish.data.toList.drop 22 = dktX3_wish_1 := dk_seg dksX3_wish_0 22 rfl rfl
theorem dksX3_wish_2 : cX3_wish.data.toList.drop 46 = dktX3_wish_2 := dk_seg dksX3_wish_1 24 rfl rfl
theorem dksX3_wish_3 : cX3_wish.data.toList.drop 69 = dktX3_wish_3 := dk_seg dksX3_wish_2 23 rfl rfl
theorem dksX3_wish_4 : cX3_wish.data.toList.drop 93 = dktX3_wish_4 := dk_seg dksX3_wish_3 24 rfl rfl
theorem dksX3_wish_5 : cX3_wish.data.toList.drop 117 = dktX3_wish_5 := dk_seg dksX3_wish_4 24 rfl rfl
theorem dksX3_wish_6 : cX3_wish.data.toList.drop 141 = dktX3_wish_6 := dk_seg dksX3_wish_5 24 rfl rfl
theorem dksX3_wish_7 : cX3_wish.data.toList.drop 165 = dktX3_wish_7 := dk_seg dksX3_wish_6 24 rfl rfl
theorem dksX3_wish_8 : cX3_wish.data.toList.drop 189 = dktX3_wish_8 := dk_seg dksX3_wish_7 24 rfl rfl
theorem dX3_wish_0 : decode cX3_wish 0 = .ok (.iload_n 1, 1) := dk_27 (dk_at dksX3_wish_0 0 rfl rfl)
theorem dX3_wish_1 : decode cX3_wish 1 = .ok (.i2l, 1) := dk_133 (dk_at dksX3_wish_0 1 rfl rfl)
theorem dX3_wish_2 : decode cX3_wish 2 = .ok (.lconst 0, 1) := dk_9 (dk_at dksX3_wish_0 2 rfl rfl)
theorem dX3_wish_3 : decode cX3_wish 3 = .ok (.ldc2_w 248, 3) := dk_20 0 248 (dk_at dksX3_wish_0 3 rfl rfl)
theorem dX3_wish_6 : decode cX3_wish 6 = .ok (.invokestatic 107, 3) := dk_184 0 107 (dk_at dksX3_wish_0 6 rfl rfl)
theorem dX3_wish_9 : decode cX3_wish 9 = .ok (.ifCond .eq 16, 3) := dk_153 0 16 (dk_at dksX3_wish_0 9 rfl rfl)
theorem dX3_wish_12 : decode cX3_wish 12 = .ok (.iload_n 2, 1) := dk_28 (dk_at dksX3_wish_0 12 rfl rfl)
theorem dX3_wish_13 : decode cX3_wish 13 = .ok (.i2l, 1) := dk_133 (dk_at dksX3_wish_0 13 rfl rfl)
theorem dX3_wish_14 : decode cX3_wish 14 = .ok (.iload_n 1, 1) := dk_27 (dk_at dksX3_wish_0 14 rfl rfl)
theorem dX3_wish_15 : decode cX3_wish 15 = .ok (.i2l, 1) := dk_133 (dk_at dksX3_wish_0 15 rfl rfl)
theorem dX3_wish_16 : decode cX3_wish 16 = .ok (.ldc2_w 248, 3) := dk_20 0 248 (dk_at dksX3_wish_0 16 rfl rfl)
theorem dX3_wish_19 : decode cX3_wish 19 = .ok (.invokestatic 107, 3) := dk_184 0 107 (dk_at dksX3_wish_0 19 rfl rfl)
theorem dX3_wish_22 : decode cX3_wish 22 = .ok (.ifCond .ne 6, 3) := dk_154 0 6 (dk_at dksX3_wish_1 0 rfl rfl)
theorem dX3_wish_25 : decode cX3_wish 25 = .ok (.bipush (-2), 2) := dk_16 254 (dk_at dksX3_wish_1 3 rfl rfl)
theorem dX3_wish_27 : decode cX3_wish 27 = .ok (.ireturn, 1) := dk_172 (dk_at dksX3_wish_1 5 rfl rfl)
theorem dX3_wish_28 : decode cX3_wish 28 = .ok (.aload_n 0, 1) := dk_42 (dk_at dksX3_wish_1 6 rfl rfl)
theorem dX3_wish_29 : decode cX3_wish 29 = .ok (.getfield 13, 3) := dk_180 0 13 (dk_at dksX3_wish_1 7 rfl rfl)
theorem dX3_wish_32 : decode cX3_wish 32 = .ok (.iconst 0, 1) := dk_3 (dk_at dksX3_wish_1 10 rfl rfl)
theorem dX3_wish_33 : decode cX3_wish 33 = .ok (.iaload, 1) := dk_46 (dk_at dksX3_wish_1 11 rfl rfl)
theorem dX3_wish_34 : decode cX3_wish 34 = .ok (.iconst (-1), 1) := dk_2 (dk_at dksX3_wish_1 12 rfl rfl)
theorem dX3_wish_35 : decode cX3_wish 35 = .ok (.if_icmp .ne 6, 3) := dk_160 0 6 (dk_at dksX3_wish_1 13 rfl rfl)
theorem dX3_wish_38 : decode cX3_wish 38 = .ok (.bipush (-3), 2) := dk_16 253 (dk_at dksX3_wish_1 16 rfl rfl)
theorem dX3_wish_40 : decode cX3_wish 40 = .ok (.ireturn, 1) := dk_172 (dk_at dksX3_wish_1 18 rfl rfl)
theorem dX3_wish_41 : decode cX3_wish 41 = .ok (.aload_n 0, 1) := dk_42 (dk_at dksX3_wish_1 19 rfl rfl)
theorem dX3_wish_42 : decode cX3_wish 42 = .ok (.iconst 0, 1) := dk_3 (dk_at dksX3_wish_1 20 rfl rfl)
theorem dX3_wish_43 : decode cX3_wish 43 = .ok (.putfield 250, 3) := dk_181 0 250 (dk_at dksX3_wish_1 21 rfl rfl)
theorem dX3_wish_46 : decode cX3_wish 46 = .ok (.iconst 0, 1) := dk_3 (dk_at dksX3_wish_2 0 rfl rfl)
theorem dX3_wish_47 : decode cX3_wish 47 = .ok (.istore_n 3, 1) := dk_62 (dk_at dksX3_wish_2 1 rfl rfl)
theorem dX3_wish_48 : decode cX3_wish 48 = .ok (.iload_n 3, 1) := dk_29 (dk_at dksX3_wish_2 2 rfl rfl)
theorem dX3_wish_49 : decode cX3_wish 49 = .ok (.bipush 6, 2) := dk_16 6 (dk_at dksX3_wish_2 3 rfl rfl)
theorem dX3_wish_51 : decode cX3_wish 51 = .ok (.if_icmp .ge 155, 3) := dk_162 0 155 (dk_at dksX3_wish_2 5 rfl rfl)
theorem dX3_wish_54 : decode cX3_wish 54 = .ok (.iload_n 3, 1) := dk_29 (dk_at dksX3_wish_2 8 rfl rfl)
theorem dX3_wish_55 : decode cX3_wish 55 = .ok (.aload_n 0, 1) := dk_42 (dk_at dksX3_wish_2 9 rfl rfl)
theorem dX3_wish_56 : decode cX3_wish 56 = .ok (.getfield 119, 3) := dk_180 0 119 (dk_at dksX3_wish_2 10 rfl rfl)
theorem dX3_wish_59 : decode cX3_wish 59 = .ok (.if_icmp .ge 147, 3) := dk_162 0 147 (dk_at dksX3_wish_2 13 rfl rfl)
theorem dX3_wish_62 : decode cX3_wish 62 = .ok (.iload_n 3, 1) := dk_29 (dk_at dksX3_wish_2 16 rfl rfl)
theorem dX3_wish_63 : decode cX3_wish 63 = .ok (.iconst 1, 1) := dk_4 (dk_at dksX3_wish_2 17 rfl rfl)
theorem dX3_wish_64 : decode cX3_wish 64 = .ok (.isub, 1) := dk_100 (dk_at dksX3_wish_2 18 rfl rfl)
theorem dX3_wish_65 : decode cX3_wish 65 = .ok (.istore 4, 2) := dk_54 4 (dk_at dksX3_wish_2 19 rfl rfl)
theorem dX3_wish_67 : decode cX3_wish 67 = .ok (.iload 4, 2) := dk_21 4 (dk_at dksX3_wish_2 21 rfl rfl)
theorem dX3_wish_69 : decode cX3_wish 69 = .ok (.bipush 6, 2) := dk_16 6 (dk_at dksX3_wish_3 0 rfl rfl)
theorem dX3_wish_71 : decode cX3_wish 71 = .ok (.if_icmp .ge 129, 3) := dk_162 0 129 (dk_at dksX3_wish_3 2 rfl rfl)
theorem dX3_wish_74 : decode cX3_wish 74 = .ok (.iload 4, 2) := dk_21 4 (dk_at dksX3_wish_3 5 rfl rfl)
theorem dX3_wish_76 : decode cX3_wish 76 = .ok (.aload_n 0, 1) := dk_42 (dk_at dksX3_wish_3 7 rfl rfl)
theorem dX3_wish_77 : decode cX3_wish 77 = .ok (.getfield 119, 3) := dk_180 0 119 (dk_at dksX3_wish_3 8 rfl rfl)
theorem dX3_wish_80 : decode cX3_wish 80 = .ok (.if_icmp .ge 120, 3) := dk_162 0 120 (dk_at dksX3_wish_3 11 rfl rfl)
theorem dX3_wish_83 : decode cX3_wish 83 = .ok (.aload_n 0, 1) := dk_42 (dk_at dksX3_wish_3 14 rfl rfl)
theorem dX3_wish_84 : decode cX3_wish 84 = .ok (.iconst 0, 1) := dk_3 (dk_at dksX3_wish_3 15 rfl rfl)
theorem dX3_wish_85 : decode cX3_wish 85 = .ok (.invokevirtual 213, 3) := dk_182 0 213 (dk_at dksX3_wish_3 16 rfl rfl)
theorem dX3_wish_88 : decode cX3_wish 88 = .ok (.aload_n 0, 1) := dk_42 (dk_at dksX3_wish_3 19 rfl rfl)
theorem dX3_wish_89 : decode cX3_wish 89 = .ok (.getfield 23, 3) := dk_180 0 23 (dk_at dksX3_wish_3 20 rfl rfl)
theorem dX3_wish_92 : decode cX3_wish 92 = .ok (.iconst 3, 1) := dk_6 (dk_at dksX3_wish_3 23 rfl rfl)
theorem dX3_wish_93 : decode cX3_wish 93 = .ok (.iload_n 3, 1) := dk_29 (dk_at dksX3_wish_4 0 rfl rfl)
theorem dX3_wish_94 : decode cX3_wish 94 = .ok (.iastore, 1) := dk_79 (dk_at dksX3_wish_4 1 rfl rfl)
theorem dX3_wish_95 : decode cX3_wish 95 = .ok (.aload_n 0, 1) := dk_42 (dk_at dksX3_wish_4 2 rfl rfl)
theorem dX3_wish_96 : decode cX3_wish 96 = .ok (.getfield 23, 3) := dk_180 0 23 (dk_at dksX3_wish_4 3 rfl rfl)
theorem dX3_wish_99 : decode cX3_wish 99 = .ok (.iconst 4, 1) := dk_7 (dk_at dksX3_wish_4 6 rfl rfl)
theorem dX3_wish_100 : decode cX3_wish 100 = .ok (.iload 4, 2) := dk_21 4 (dk_at dksX3_wish_4 7 rfl rfl)
theorem dX3_wish_102 : decode cX3_wish 102 = .ok (.iload_n 3, 1) := dk_29 (dk_at dksX3_wish_4 9 rfl rfl)
theorem dX3_wish_103 : decode cX3_wish 103 = .ok (.if_icmp .ge 7, 3) := dk_162 0 7 (dk_at dksX3_wish_4 10 rfl rfl)
theorem dX3_wish_106 : decode cX3_wish 106 = .ok (.iconst (-1), 1) := dk_2 (dk_at dksX3_wish_4 13 rfl rfl)
theorem dX3_wish_107 : decode cX3_wish 107 = .ok (.goto 5, 3) := dk_167 0 5 (dk_at dksX3_wish_4 14 rfl rfl)
theorem dX3_wish_110 : decode cX3_wish 110 = .ok (.iload 4, 2) := dk_21 4 (dk_at dksX3_wish_4 17 rfl rfl)
theorem dX3_wish_112 : decode cX3_wish 112 = .ok (.iastore, 1) := dk_79 (dk_at dksX3_wish_4 19 rfl rfl)
theorem dX3_wish_113 : decode cX3_wish 113 = .ok (.aload_n 0, 1) := dk_42 (dk_at dksX3_wish_4 20 rfl rfl)
theorem dX3_wish_114 : decode cX3_wish 114 = .ok (.getfield 23, 3) := dk_180 0 23 (dk_at dksX3_wish_4 21 rfl rfl)
theorem dX3_wish_117 : decode cX3_wish 117 = .ok (.iconst 5, 1) := dk_8 (dk_at dksX3_wish_5 0 rfl rfl)
theorem dX3_wish_118 : decode cX3_wish 118 = .ok (.iconst (-1), 1) := dk_2 (dk_at dksX3_wish_5 1 rfl rfl)
theorem dX3_wish_119 : decode cX3_wish 119 = .ok (.iastore, 1) := dk_79 (dk_at dksX3_wish_5 2 rfl rfl)
theorem dX3_wish_120 : decode cX3_wish 120 = .ok (.aload_n 0, 1) := dk_42 (dk_at dksX3_wish_5 3 rfl rfl)
theorem dX3_wish_121 : decode cX3_wish 121 = .ok (.invokevirtual 216, 3) := dk_182 0 216 (dk_at dksX3_wish_5 4 rfl rfl)
theorem dX3_wish_124 : decode cX3_wish 124 = .ok (.ifCond .eq 8, 3) := dk_153 0 8 (dk_at dksX3_wish_5 7 rfl rfl)
theorem dX3_wish_127 : decode cX3_wish 127 = .ok (.bipush (-5), 2) := dk_16 251 (dk_at dksX3_wish_5 10 rfl rfl)
theorem dX3_wish_129 : decode cX3_wish 129 = .ok (.goto 7, 3) := dk_167 0 7 (dk_at dksX3_wish_5 12 rfl rfl)
theorem dX3_wish_132 : decode cX3_wish 132 = .ok (.aload_n 0, 1) := dk_42 (dk_at dksX3_wish_5 15 rfl rfl)
theorem dX3_wish_133 : decode cX3_wish 133 = .ok (.invokevirtual 228, 3) := dk_182 0 228 (dk_at dksX3_wish_5 16 rfl rfl)
theorem dX3_wish_136 : decode cX3_wish 136 = .ok (.istore 5, 2) := dk_54 5 (dk_at dksX3_wish_5 19 rfl rfl)
theorem dX3_wish_138 : decode cX3_wish 138 = .ok (.iload 5, 2) := dk_21 5 (dk_at dksX3_wish_5 21 rfl rfl)
theorem dX3_wish_140 : decode cX3_wish 140 = .ok (.i2l, 1) := dk_133 (dk_at dksX3_wish_5 23 rfl rfl)
theorem dX3_wish_141 : decode cX3_wish 141 = .ok (.iload_n 1, 1) := dk_27 (dk_at dksX3_wish_6 0 rfl rfl)
theorem dX3_wish_142 : decode cX3_wish 142 = .ok (.i2l, 1) := dk_133 (dk_at dksX3_wish_6 1 rfl rfl)
theorem dX3_wish_143 : decode cX3_wish 143 = .ok (.iload_n 2, 1) := dk_28 (dk_at dksX3_wish_6 2 rfl rfl)
theorem dX3_wish_144 : decode cX3_wish 144 = .ok (.i2l, 1) := dk_133 (dk_at dksX3_wish_6 3 rfl rfl)
theorem dX3_wish_145 : decode cX3_wish 145 = .ok (.invokestatic 107, 3) := dk_184 0 107 (dk_at dksX3_wish_6 4 rfl rfl)
theorem dX3_wish_148 : decode cX3_wish 148 = .ok (.ifCond .eq 46, 3) := dk_153 0 46 (dk_at dksX3_wish_6 7 rfl rfl)
theorem dX3_wish_151 : decode cX3_wish 151 = .ok (.aload_n 0, 1) := dk_42 (dk_at dksX3_wish_6 10 rfl rfl)
theorem dX3_wish_152 : decode cX3_wish 152 = .ok (.getfield 79, 3) := dk_180 0 79 (dk_at dksX3_wish_6 11 rfl rfl)
theorem dX3_wish_155 : decode cX3_wish 155 = .ok (.aload_n 0, 1) := dk_42 (dk_at dksX3_wish_6 14 rfl rfl)
theorem dX3_wish_156 : decode cX3_wish 156 = .ok (.getfield 250, 3) := dk_180 0 250 (dk_at dksX3_wish_6 15 rfl rfl)
theorem dX3_wish_159 : decode cX3_wish 159 = .ok (.iload 4, 2) := dk_21 4 (dk_at dksX3_wish_6 18 rfl rfl)
theorem dX3_wish_161 : decode cX3_wish 161 = .ok (.iload_n 3, 1) := dk_29 (dk_at dksX3_wish_6 20 rfl rfl)
theorem dX3_wish_162 : decode cX3_wish 162 = .ok (.if_icmp .ge 14, 3) := dk_162 0 14 (dk_at dksX3_wish_6 21 rfl rfl)
theorem dX3_wish_165 : decode cX3_wish 165 = .ok (.sipush 256, 3) := dk_17 1 0 (dk_at dksX3_wish_7 0 rfl rfl)
theorem dX3_wish_168 : decode cX3_wish 168 = .ok (.bipush 16, 2) := dk_16 16 (dk_at dksX3_wish_7 3 rfl rfl)
theorem dX3_wish_170 : decode cX3_wish 170 = .ok (.iload_n 3, 1) := dk_29 (dk_at dksX3_wish_7 5 rfl rfl)
theorem dX3_wish_171 : decode cX3_wish 171 = .ok (.imul, 1) := dk_104 (dk_at dksX3_wish_7 6 rfl rfl)
theorem dX3_wish_172 : decode cX3_wish 172 = .ok (.iadd, 1) := dk_96 (dk_at dksX3_wish_7 7 rfl rfl)
theorem dX3_wish_173 : decode cX3_wish 173 = .ok (.goto 10, 3) := dk_167 0 10 (dk_at dksX3_wish_7 8 rfl rfl)
theorem dX3_wish_176 : decode cX3_wish 176 = .ok (.bipush 16, 2) := dk_16 16 (dk_at dksX3_wish_7 11 rfl rfl)
theorem dX3_wish_178 : decode cX3_wish 178 = .ok (.iload_n 3, 1) := dk_29 (dk_at dksX3_wish_7 13 rfl rfl)
theorem dX3_wish_179 : decode cX3_wish 179 = .ok (.imul, 1) := dk_104 (dk_at dksX3_wish_7 14 rfl rfl)
theorem dX3_wish_180 : decode cX3_wish 180 = .ok (.iload 4, 2) := dk_21 4 (dk_at dksX3_wish_7 15 rfl rfl)
theorem dX3_wish_182 : decode cX3_wish 182 = .ok (.iadd, 1) := dk_96 (dk_at dksX3_wish_7 17 rfl rfl)
theorem dX3_wish_183 : decode cX3_wish 183 = .ok (.iastore, 1) := dk_79 (dk_at dksX3_wish_7 18 rfl rfl)
theorem dX3_wish_184 : decode cX3_wish 184 = .ok (.aload_n 0, 1) := dk_42 (dk_at dksX3_wish_7 19 rfl rfl)
theorem dX3_wish_185 : decode cX3_wish 185 = .ok (.dup, 1) := dk_89 (dk_at dksX3_wish_7 20 rfl rfl)
theorem dX3_wish_186 : decode cX3_wish 186 = .ok (.getfield 250, 3) := dk_180 0 250 (dk_at dksX3_wish_7 21 rfl rfl)
theorem dX3_wish_189 : decode cX3_wish 189 = .ok (.iconst 1, 1) := dk_4 (dk_at dksX3_wish_8 0 rfl rfl)
theorem dX3_wish_190 : decode cX3_wish 190 = .ok (.iadd, 1) := dk_96 (dk_at dksX3_wish_8 1 rfl rfl)
theorem dX3_wish_191 : decode cX3_wish 191 = .ok (.putfield 250, 3) := dk_181 0 250 (dk_at dksX3_wish_8 2 rfl rfl)
theorem dX3_wish_194 : decode cX3_wish 194 = .ok (.iinc 4 1, 3) := dk_132 4 1 (dk_at dksX3_wish_8 5 rfl rfl)
theorem dX3_wish_197 : decode cX3_wish 197 = .ok (.goto (-130), 3) := dk_167 255 126 (dk_at dksX3_wish_8 8 rfl rfl)
theorem dX3_wish_200 : decode cX3_wish 200 = .ok (.iinc 3 1, 3) := dk_132 3 1 (dk_at dksX3_wish_8 11 rfl rfl)
theorem dX3_wish_203 : decode cX3_wish 203 = .ok (.goto (-155), 3) := dk_167 255 101 (dk_at dksX3_wish_8 14 rfl rfl)
theorem dX3_wish_206 : decode cX3_wish 206 = .ok (.aload_n 0, 1) := dk_42 (dk_at dksX3_wish_8 17 rfl rfl)
theorem dX3_wish_207 : decode cX3_wish 207 = .ok (.getfield 250, 3) := dk_180 0 250 (dk_at dksX3_wish_8 18 rfl rfl)
theorem dX3_wish_210 : decode cX3_wish 210 = .ok (.ireturn, 1) := dk_172 (dk_at dksX3_wish_8 21 rfl rfl)
abbrev cX3_band : ByteArray := prog_12_method_51_code
def yX3_band : MethodName := ⟨RX3, "band", "(I)I"⟩
def dkwX3_band_1 : List UInt8 := [167, 0, 5, 16, 254, 172]
abbrev dktX3_band_1 : List UInt8 := dkwX3_band_1 ++ []
def dkwX3_band_0 : List UInt8 := [27, 133, 9, 42, 180, 0, 250, 4, 100, 133, 184, 0, 107, 153, 0, 12, 42, 180, 0, 79, 27, 46]
abbrev dktX3_band_0 : List UInt8 := dkwX3_band_0 ++ dktX3_band_1
theorem dksX3_band_0 : cX3_band.data.toList.drop 0 = dktX3_band_0 := by decide +kernel
theorem dksX3_band_1 : cX3_band.data.toList.drop 22 = dktX3_band_1 := dk_seg dksX3_band_0 22 rfl rfl
theorem dX3_band_0 : decode cX3_band 0 = .ok (.iload_n 1, 1) := dk_27 (dk_at dksX3_band_0 0 rfl rfl)
theorem dX3_band_1 : decode cX3_band 1 = .ok (.i2l, 1) := dk_133 (dk_at dksX3_band_0 1 rfl rfl)
theorem dX3_band_2 : decode cX3_band 2 = .ok (.lconst 0, 1) := dk_9 (dk_at dksX3_band_0 2 rfl rfl)
theorem dX3_band_3 : decode cX3_band 3 = .ok (.aload_n 0, 1) := dk_42 (dk_at dksX3_band_0 3 rfl rfl)
theorem dX3_band_4 : decode cX3_band 4 = .ok (.getfield 250, 3) := dk_180 0 250 (dk_at dksX3_band_0 4 rfl rfl)
theorem dX3_band_7 : decode cX3_band 7 = .ok (.iconst 1, 1) := dk_4 (dk_at dksX3_band_0 7 rfl rfl)
theorem dX3_band_8 : decode cX3_band 8 = .ok (.isub, 1) := dk_100 (dk_at dksX3_band_0 8 rfl rfl)
theorem dX3_band_9 : decode cX3_band 9 = .ok (.i2l, 1) := dk_133 (dk_at dksX3_band_0 9 rfl rfl)
theorem dX3_band_10 : decode cX3_band 10 = .ok (.invokestatic 107, 3) := dk_184 0 107 (dk_at dksX3_band_0 10 rfl rfl)
theorem dX3_band_13 : decode cX3_band 13 = .ok (.ifCond .eq 12, 3) := dk_153 0 12 (dk_at dksX3_band_0 13 rfl rfl)
theorem dX3_band_16 : decode cX3_band 16 = .ok (.aload_n 0, 1) := dk_42 (dk_at dksX3_band_0 16 rfl rfl)
theorem dX3_band_17 : decode cX3_band 17 = .ok (.getfield 79, 3) := dk_180 0 79 (dk_at dksX3_band_0 17 rfl rfl)
theorem dX3_band_20 : decode cX3_band 20 = .ok (.iload_n 1, 1) := dk_27 (dk_at dksX3_band_0 20 rfl rfl)
theorem dX3_band_21 : decode cX3_band 21 = .ok (.iaload, 1) := dk_46 (dk_at dksX3_band_0 21 rfl rfl)
theorem dX3_band_22 : decode cX3_band 22 = .ok (.goto 5, 3) := dk_167 0 5 (dk_at dksX3_band_1 0 rfl rfl)
theorem dX3_band_25 : decode cX3_band 25 = .ok (.bipush (-2), 2) := dk_16 254 (dk_at dksX3_band_1 3 rfl rfl)
theorem dX3_band_27 : decode cX3_band 27 = .ok (.ireturn, 1) := dk_172 (dk_at dksX3_band_1 5 rfl rfl)
abbrev cX3_play : ByteArray := prog_12_method_52_code
def yX3_play : MethodName := ⟨RX3, "play", "(I)I"⟩
def dkwX3_play_12 : List UInt8 := [21, 6, 46, 79, 132, 6, 1, 167, 255, 218, 29, 172]
abbrev dktX3_play_12 : List UInt8 := dkwX3_play_12 ++ []
def dkwX3_play_11 : List UInt8 := [42, 180, 0, 85, 21, 6, 42, 180, 0, 23, 21, 6, 46, 79, 42, 180, 0, 88, 21, 6, 42, 180, 0, 32]
abbrev dktX3_play_11 : List UInt8 := dkwX3_play_11 ++ dktX3_play_12
def dkwX3_play_10 : List UInt8 := [180, 0, 82, 4, 28, 79, 42, 180, 0, 82, 5, 21, 4, 79, 3, 54, 6, 21, 6, 16, 6, 162, 0, 37]
abbrev dktX3_play_10 : List UInt8 := dkwX3_play_10 ++ dktX3_play_11
def dkwX3_play_9 : List UInt8 := [96, 167, 0, 7, 42, 180, 0, 16, 54, 4, 132, 6, 1, 167, 255, 97, 42, 180, 0, 82, 3, 29, 79, 42]
abbrev dktX3_play_9 : List UInt8 := dkwX3_play_9 ++ dktX3_play_10
def dkwX3_play_8 : List UInt8 := [42, 21, 7, 182, 0, 209, 42, 182, 0, 172, 62, 29, 5, 162, 0, 15, 21, 6, 42, 180, 0, 148, 108, 4]
abbrev dktX3_play_8 : List UInt8 := dkwX3_play_8 ++ dktX3_play_9
def dkwX3_play_7 : List UInt8 := [42, 180, 0, 7, 16, 6, 42, 180, 0, 23, 21, 7, 46, 104, 5, 96, 46, 133, 184, 0, 107, 153, 0, 9]
abbrev dktX3_play_7 : List UInt8 := dkwX3_play_7 ++ dktX3_play_8
def dkwX3_play_6 : List UInt8 := [182, 1, 0, 172, 42, 180, 0, 97, 16, 60, 27, 104, 28, 96, 46, 54, 8, 132, 2, 1, 21, 8, 133, 10]
abbrev dktX3_play_6 : List UInt8 := dkwX3_play_6 ++ dktX3_play_7
def dkwX3_play_5 : List UInt8 := [42, 180, 0, 35, 21, 7, 3, 84, 167, 0, 69, 28, 42, 180, 0, 94, 27, 46, 160, 0, 9, 42, 5]
abbrev dktX3_play_5 : List UInt8 := dkwX3_play_5 ++ dktX3_play_6
def dkwX3_play_4 : List UInt8 := [21, 7, 21, 6, 42, 180, 0, 148, 108, 182, 0, 199, 153, 0, 117, 42, 21, 7, 182, 0, 202, 153, 0, 14]
abbrev dktX3_play_4 : List UInt8 := dkwX3_play_4 ++ dktX3_play_5
def dkwX3_play_3 : List UInt8 := [162, 0, 158, 29, 5, 160, 0, 153, 42, 180, 0, 29, 21, 6, 42, 180, 0, 148, 112, 46, 54, 7, 42]
abbrev dktX3_play_3 : List UInt8 := dkwX3_play_3 ++ dktX3_play_4
def dkwX3_play_2 : List UInt8 := [167, 0, 7, 42, 180, 0, 16, 54, 4, 42, 182, 0, 190, 54, 5, 3, 54, 6, 21, 6, 21, 5]
abbrev dktX3_play_2 : List UInt8 := dkwX3_play_2 ++ dktX3_play_3
def dkwX3_play_1 : List UInt8 := [172, 42, 3, 182, 0, 213, 42, 182, 0, 184, 3, 61, 42, 182, 0, 172, 62, 29, 5, 162, 0, 7, 3]
abbrev dktX3_play_1 : List UInt8 := dkwX3_play_1 ++ dktX3_play_2
def dkwX3_play_0 : List UInt8 := [27, 184, 0, 253, 154, 0, 6, 16, 254, 172, 42, 180, 0, 91, 27, 46, 156, 0, 9, 42, 4, 182, 1, 0]
abbrev dktX3_play_0 : List UInt8 := dkwX3_play_0 ++ dktX3_play_1
theorem dksX3_play_0 : cX3_play.data.toList.drop 0 = dktX3_play_0 := by decide +kernel
theorem dksX3_play_1 : cX3_play.data.toList.drop 24 = dktX3_play_1 := dk_seg dksX3_play_0 24 rfl rfl
theorem dksX3_play_2 : cX3_play.data.toList.drop 47 = dktX3_play_2 := dk_seg dksX3_play_1 23 rfl rfl
theorem dksX3_play_3 : cX3_play.data.toList.drop 69 = dktX3_play_3 := dk_seg dksX3_play_2 22 rfl rfl
theorem dksX3_play_4 : cX3_play.data.toList.drop 92 = dktX3_play_4 := dk_seg dksX3_play_3 23 rfl rfl
theorem dksX3_play_5 : cX3_play.data.toList.drop 116 = dktX3_play_5 := dk_seg dksX3_play_4 24 rfl rfl
theorem dksX3_play_6 : cX3_play.data.toList.drop 139 = dktX3_play_6 := dk_seg dksX3_play_5 23 rfl rfl
theorem dksX3_play_7 : cX3_play.data.toList.drop 163 = dktX3_play_7 := dk_seg dksX3_play_6 24 rfl rfl
theorem dksX3_play_8 : cX3_play.data.toList.drop 187 = dktX3_play_8 := dk_seg dksX3_play_7 24 rfl rfl
theorem dksX3_play_9 : cX3_play.data.toList.drop 211 = dktX3_play_9 := dk_seg dksX3_play_8 24 rfl rfl
theorem dksX3_play_10 : cX3_play.data.toList.drop 235 = dktX3_play_10 := dk_seg dksX3_play_9 24 rfl rfl
theorem dksX3_play_11 : cX3_play.data.toList.drop 259 = dktX3_play_11 := dk_seg dksX3_play_10 24 rfl rfl
theorem dksX3_play_12 : cX3_play.data.toList.drop 283 = dktX3_play_12 := dk_seg dksX3_play_11 24 rfl rfl
theorem dX3_play_0 : decode cX3_play 0 = .ok (.iload_n 1, 1) := dk_27 (dk_at dksX3_play_0 0 rfl rfl)
theorem dX3_play_1 : decode cX3_play 1 = .ok (.invokestatic 253, 3) := dk_184 0 253 (dk_at dksX3_play_0 1 rfl rfl)
theorem dX3_play_4 : decode cX3_play 4 = .ok (.ifCond .ne 6, 3) := dk_154 0 6 (dk_at dksX3_play_0 4 rfl rfl)
theorem dX3_play_7 : decode cX3_play 7 = .ok (.bipush (-2), 2) := dk_16 254 (dk_at dksX3_play_0 7 rfl rfl)
theorem dX3_play_9 : decode cX3_play 9 = .ok (.ireturn, 1) := dk_172 (dk_at dksX3_play_0 9 rfl rfl)
theorem dX3_play_10 : decode cX3_play 10 = .ok (.aload_n 0, 1) := dk_42 (dk_at dksX3_play_0 10 rfl rfl)
theorem dX3_play_11 : decode cX3_play 11 = .ok (.getfield 91, 3) := dk_180 0 91 (dk_at dksX3_play_0 11 rfl rfl)
theorem dX3_play_14 : decode cX3_play 14 = .ok (.iload_n 1, 1) := dk_27 (dk_at dksX3_play_0 14 rfl rfl)
theorem dX3_play_15 : decode cX3_play 15 = .ok (.iaload, 1) := dk_46 (dk_at dksX3_play_0 15 rfl rfl)
theorem dX3_play_16 : decode cX3_play 16 = .ok (.ifCond .ge 9, 3) := dk_156 0 9 (dk_at dksX3_play_0 16 rfl rfl)
theorem dX3_play_19 : decode cX3_play 19 = .ok (.aload_n 0, 1) := dk_42 (dk_at dksX3_play_0 19 rfl rfl)
theorem dX3_play_20 : decode cX3_play 20 = .ok (.iconst 1, 1) := dk_4 (dk_at dksX3_play_0 20 rfl rfl)
theorem dX3_play_21 : decode cX3_play 21 = .ok (.invokevirtual 256, 3) := dk_182 1 0 (dk_at dksX3_play_0 21 rfl rfl)
theorem dX3_play_24 : decode cX3_play 24 = .ok (.ireturn, 1) := dk_172 (dk_at dksX3_play_1 0 rfl rfl)
theorem dX3_play_25 : decode cX3_play 25 = .ok (.aload_n 0, 1) := dk_42 (dk_at dksX3_play_1 1 rfl rfl)
theorem dX3_play_26 : decode cX3_play 26 = .ok (.iconst 0, 1) := dk_3 (dk_at dksX3_play_1 2 rfl rfl)
theorem dX3_play_27 : decode cX3_play 27 = .ok (.invokevirtual 213, 3) := dk_182 0 213 (dk_at dksX3_play_1 3 rfl rfl)
theorem dX3_play_30 : decode cX3_play 30 = .ok (.aload_n 0, 1) := dk_42 (dk_at dksX3_play_1 6 rfl rfl)
theorem dX3_play_31 : decode cX3_play 31 = .ok (.invokevirtual 184, 3) := dk_182 0 184 (dk_at dksX3_play_1 7 rfl rfl)
theorem dX3_play_34 : decode cX3_play 34 = .ok (.iconst 0, 1) := dk_3 (dk_at dksX3_play_1 10 rfl rfl)
theorem dX3_play_35 : decode cX3_play 35 = .ok (.istore_n 2, 1) := dk_61 (dk_at dksX3_play_1 11 rfl rfl)
theorem dX3_play_36 : decode cX3_play 36 = .ok (.aload_n 0, 1) := dk_42 (dk_at dksX3_play_1 12 rfl rfl)
theorem dX3_play_37 : decode cX3_play 37 = .ok (.invokevirtual 172, 3) := dk_182 0 172 (dk_at dksX3_play_1 13 rfl rfl)
theorem dX3_play_40 : decode cX3_play 40 = .ok (.istore_n 3, 1) := dk_62 (dk_at dksX3_play_1 16 rfl rfl)
theorem dX3_play_41 : decode cX3_play 41 = .ok (.iload_n 3, 1) := dk_29 (dk_at dksX3_play_1 17 rfl rfl)
theorem dX3_play_42 : decode cX3_play 42 = .ok (.iconst 2, 1) := dk_5 (dk_at dksX3_play_1 18 rfl rfl)
theorem dX3_play_43 : decode cX3_play 43 = .ok (.if_icmp .ge 7, 3) := dk_162 0 7 (dk_at dksX3_play_1 19 rfl rfl)
theorem dX3_play_46 : decode cX3_play 46 = .ok (.iconst 0, 1) := dk_3 (dk_at dksX3_play_1 22 rfl rfl)
theorem dX3_play_47 : decode cX3_play 47 = .ok (.goto 7, 3) := dk_167 0 7 (dk_at dksX3_play_2 0 rfl rfl)
theorem dX3_play_50 : decode cX3_play 50 = .ok (.aload_n 0, 1) := dk_42 (dk_at dksX3_play_2 3 rfl rfl)
theorem dX3_play_51 : decode cX3_play 51 = .ok (.getfield 16, 3) := dk_180 0 16 (dk_at dksX3_play_2 4 rfl rfl)
theorem dX3_play_54 : decode cX3_play 54 = .ok (.istore 4, 2) := dk_54 4 (dk_at dksX3_play_2 7 rfl rfl)
theorem dX3_play_56 : decode cX3_play 56 = .ok (.aload_n 0, 1) := dk_42 (dk_at dksX3_play_2 9 rfl rfl)
theorem dX3_play_57 : decode cX3_play 57 = .ok (.invokevirtual 190, 3) := dk_182 0 190 (dk_at dksX3_play_2 10 rfl rfl)
theorem dX3_play_60 : decode cX3_play 60 = .ok (.istore 5, 2) := dk_54 5 (dk_at dksX3_play_2 13 rfl rfl)
theorem dX3_play_62 : decode cX3_play 62 = .ok (.iconst 0, 1) := dk_3 (dk_at dksX3_play_2 15 rfl rfl)
theorem dX3_play_63 : decode cX3_play 63 = .ok (.istore 6, 2) := dk_54 6 (dk_at dksX3_play_2 16 rfl rfl)
theorem dX3_play_65 : decode cX3_play 65 = .ok (.iload 6, 2) := dk_21 6 (dk_at dksX3_play_2 18 rfl rfl)
theorem dX3_play_67 : decode cX3_play 67 = .ok (.iload 5, 2) := dk_21 5 (dk_at dksX3_play_2 20 rfl rfl)
theorem dX3_play_69 : decode cX3_play 69 = .ok (.if_icmp .ge 158, 3) := dk_162 0 158 (dk_at dksX3_play_3 0 rfl rfl)
theorem dX3_play_72 : decode cX3_play 72 = .ok (.iload_n 3, 1) := dk_29 (dk_at dksX3_play_3 3 rfl rfl)
theorem dX3_play_73 : decode cX3_play 73 = .ok (.iconst 2, 1) := dk_5 (dk_at dksX3_play_3 4 rfl rfl)
theorem dX3_play_74 : decode cX3_play 74 = .ok (.if_icmp .ne 153, 3) := dk_160 0 153 (dk_at dksX3_play_3 5 rfl rfl)
theorem dX3_play_77 : decode cX3_play 77 = .ok (.aload_n 0, 1) := dk_42 (dk_at dksX3_play_3 8 rfl rfl)
theorem dX3_play_78 : decode cX3_play 78 = .ok (.getfield 29, 3) := dk_180 0 29 (dk_at dksX3_play_3 9 rfl rfl)
theorem dX3_play_81 : decode cX3_play 81 = .ok (.iload 6, 2) := dk_21 6 (dk_at dksX3_play_3 12 rfl rfl)
theorem dX3_play_83 : decode cX3_play 83 = .ok (.aload_n 0, 1) := dk_42 (dk_at dksX3_play_3 14 rfl rfl)
theorem dX3_play_84 : decode cX3_play 84 = .ok (.getfield 148, 3) := dk_180 0 148 (dk_at dksX3_play_3 15 rfl rfl)
theorem dX3_play_87 : decode cX3_play 87 = .ok (.irem, 1) := dk_112 (dk_at dksX3_play_3 18 rfl rfl)
theorem dX3_play_88 : decode cX3_play 88 = .ok (.iaload, 1) := dk_46 (dk_at dksX3_play_3 19 rfl rfl)
theorem dX3_play_89 : decode cX3_play 89 = .ok (.istore 7, 2) := dk_54 7 (dk_at dksX3_play_3 20 rfl rfl)
theorem dX3_play_91 : decode cX3_play 91 = .ok (.aload_n 0, 1) := dk_42 (dk_at dksX3_play_3 22 rfl rfl)
theorem dX3_play_92 : decode cX3_play 92 = .ok (.iload 7, 2) := dk_21 7 (dk_at dksX3_play_4 0 rfl rfl)
theorem dX3_play_94 : decode cX3_play 94 = .ok (.iload 6, 2) := dk_21 6 (dk_at dksX3_play_4 2 rfl rfl)
theorem dX3_play_96 : decode cX3_play 96 = .ok (.aload_n 0, 1) := dk_42 (dk_at dksX3_play_4 4 rfl rfl)
theorem dX3_play_97 : decode cX3_play 97 = .ok (.getfield 148, 3) := dk_180 0 148 (dk_at dksX3_play_4 5 rfl rfl)
theorem dX3_play_100 : decode cX3_play 100 = .ok (.idiv, 1) := dk_108 (dk_at dksX3_play_4 8 rfl rfl)
theorem dX3_play_101 : decode cX3_play 101 = .ok (.invokevirtual 199, 3) := dk_182 0 199 (dk_at dksX3_play_4 9 rfl rfl)
theorem dX3_play_104 : decode cX3_play 104 = .ok (.ifCond .eq 117, 3) := dk_153 0 117 (dk_at dksX3_play_4 12 rfl rfl)
theorem dX3_play_107 : decode cX3_play 107 = .ok (.aload_n 0, 1) := dk_42 (dk_at dksX3_play_4 15 rfl rfl)
theorem dX3_play_108 : decode cX3_play 108 = .ok (.iload 7, 2) := dk_21 7 (dk_at dksX3_play_4 16 rfl rfl)
theorem dX3_play_110 : decode cX3_play 110 = .ok (.invokevirtual 202, 3) := dk_182 0 202 (dk_at dksX3_play_4 18 rfl rfl)
theorem dX3_play_113 : decode cX3_play 113 = .ok (.ifCond .eq 14, 3) := dk_153 0 14 (dk_at dksX3_play_4 21 rfl rfl)
theorem dX3_play_116 : decode cX3_play 116 = .ok (.aload_n 0, 1) := dk_42 (dk_at dksX3_play_5 0 rfl rfl)
theorem dX3_play_117 : decode cX3_play 117 = .ok (.getfield 35, 3) := dk_180 0 35 (dk_at dksX3_play_5 1 rfl rfl)
theorem dX3_play_120 : decode cX3_play 120 = .ok (.iload 7, 2) := dk_21 7 (dk_at dksX3_play_5 4 rfl rfl)
theorem dX3_play_122 : decode cX3_play 122 = .ok (.iconst 0, 1) := dk_3 (dk_at dksX3_play_5 6 rfl rfl)
theorem dX3_play_123 : decode cX3_play 123 = .ok (.bastore, 1) := dk_84 (dk_at dksX3_play_5 7 rfl rfl)
theorem dX3_play_124 : decode cX3_play 124 = .ok (.goto 69, 3) := dk_167 0 69 (dk_at dksX3_play_5 8 rfl rfl)
theorem dX3_play_127 : decode cX3_play 127 = .ok (.iload_n 2, 1) := dk_28 (dk_at dksX3_play_5 11 rfl rfl)
theorem dX3_play_128 : decode cX3_play 128 = .ok (.aload_n 0, 1) := dk_42 (dk_at dksX3_play_5 12 rfl rfl)
theorem dX3_play_129 : decode cX3_play 129 = .ok (.getfield 94, 3) := dk_180 0 94 (dk_at dksX3_play_5 13 rfl rfl)
theorem dX3_play_132 : decode cX3_play 132 = .ok (.iload_n 1, 1) := dk_27 (dk_at dksX3_play_5 16 rfl rfl)
theorem dX3_play_133 : decode cX3_play 133 = .ok (.iaload, 1) := dk_46 (dk_at dksX3_play_5 17 rfl rfl)
theorem dX3_play_134 : decode cX3_play 134 = .ok (.if_icmp .ne 9, 3) := dk_160 0 9 (dk_at dksX3_play_5 18 rfl rfl)
theorem dX3_play_137 : decode cX3_play 137 = .ok (.aload_n 0, 1) := dk_42 (dk_at dksX3_play_5 21 rfl rfl)
theorem dX3_play_138 : decode cX3_play 138 = .ok (.iconst 2, 1) := dk_5 (dk_at dksX3_play_5 22 rfl rfl)
theorem dX3_play_139 : decode cX3_play 139 = .ok (.invokevirtual 256, 3) := dk_182 1 0 (dk_at dksX3_play_6 0 rfl rfl)
theorem dX3_play_142 : decode cX3_play 142 = .ok (.ireturn, 1) := dk_172 (dk_at dksX3_play_6 3 rfl rfl)
theorem dX3_play_143 : decode cX3_play 143 = .ok (.aload_n 0, 1) := dk_42 (dk_at dksX3_play_6 4 rfl rfl)
theorem dX3_play_144 : decode cX3_play 144 = .ok (.getfield 97, 3) := dk_180 0 97 (dk_at dksX3_play_6 5 rfl rfl)
theorem dX3_play_147 : decode cX3_play 147 = .ok (.bipush 60, 2) := dk_16 60 (dk_at dksX3_play_6 8 rfl rfl)
theorem dX3_play_149 : decode cX3_play 149 = .ok (.iload_n 1, 1) := dk_27 (dk_at dksX3_play_6 10 rfl rfl)
theorem dX3_play_150 : decode cX3_play 150 = .ok (.imul, 1) := dk_104 (dk_at dksX3_play_6 11 rfl rfl)
theorem dX3_play_151 : decode cX3_play 151 = .ok (.iload_n 2, 1) := dk_28 (dk_at dksX3_play_6 12 rfl rfl)
theorem dX3_play_152 : decode cX3_play 152 = .ok (.iadd, 1) := dk_96 (dk_at dksX3_play_6 13 rfl rfl)
theorem dX3_play_153 : decode cX3_play 153 = .ok (.iaload, 1) := dk_46 (dk_at dksX3_play_6 14 rfl rfl)
theorem dX3_play_154 : decode cX3_play 154 = .ok (.istore 8, 2) := dk_54 8 (dk_at dksX3_play_6 15 rfl rfl)
theorem dX3_play_156 : decode cX3_play 156 = .ok (.iinc 2 1, 3) := dk_132 2 1 (dk_at dksX3_play_6 17 rfl rfl)
theorem dX3_play_159 : decode cX3_play 159 = .ok (.iload 8, 2) := dk_21 8 (dk_at dksX3_play_6 20 rfl rfl)
theorem dX3_play_161 : decode cX3_play 161 = .ok (.i2l, 1) := dk_133 (dk_at dksX3_play_6 22 rfl rfl)
theorem dX3_play_162 : decode cX3_play 162 = .ok (.lconst 1, 1) := dk_10 (dk_at dksX3_play_6 23 rfl rfl)
theorem dX3_play_163 : decode cX3_play 163 = .ok (.aload_n 0, 1) := dk_42 (dk_at dksX3_play_7 0 rfl rfl)
theorem dX3_play_164 : decode cX3_play 164 = .ok (.getfield 7, 3) := dk_180 0 7 (dk_at dksX3_play_7 1 rfl rfl)
theorem dX3_play_167 : decode cX3_play 167 = .ok (.bipush 6, 2) := dk_16 6 (dk_at dksX3_play_7 4 rfl rfl)
theorem dX3_play_169 : decode cX3_play 169 = .ok (.aload_n 0, 1) := dk_42 (dk_at dksX3_play_7 6 rfl rfl)
theorem dX3_play_170 : decode cX3_play 170 = .ok (.getfield 23, 3) := dk_180 0 23 (dk_at dksX3_play_7 7 rfl rfl)
theorem dX3_play_173 : decode cX3_play 173 = .ok (.iload 7, 2) := dk_21 7 (dk_at dksX3_play_7 10 rfl rfl)
theorem dX3_play_175 : decode cX3_play 175 = .ok (.iaload, 1) := dk_46 (dk_at dksX3_play_7 12 rfl rfl)
theorem dX3_play_176 : decode cX3_play 176 = .ok (.imul, 1) := dk_104 (dk_at dksX3_play_7 13 rfl rfl)
theorem dX3_play_177 : decode cX3_play 177 = .ok (.iconst 2, 1) := dk_5 (dk_at dksX3_play_7 14 rfl rfl)
theorem dX3_play_178 : decode cX3_play 178 = .ok (.iadd, 1) := dk_96 (dk_at dksX3_play_7 15 rfl rfl)
theorem dX3_play_179 : decode cX3_play 179 = .ok (.iaload, 1) := dk_46 (dk_at dksX3_play_7 16 rfl rfl)
theorem dX3_play_180 : decode cX3_play 180 = .ok (.i2l, 1) := dk_133 (dk_at dksX3_play_7 17 rfl rfl)
theorem dX3_play_181 : decode cX3_play 181 = .ok (.invokestatic 107, 3) := dk_184 0 107 (dk_at dksX3_play_7 18 rfl rfl)
theorem dX3_play_184 : decode cX3_play 184 = .ok (.ifCond .eq 9, 3) := dk_153 0 9 (dk_at dksX3_play_7 21 rfl rfl)
theorem dX3_play_187 : decode cX3_play 187 = .ok (.aload_n 0, 1) := dk_42 (dk_at dksX3_play_8 0 rfl rfl)
theorem dX3_play_188 : decode cX3_play 188 = .ok (.iload 7, 2) := dk_21 7 (dk_at dksX3_play_8 1 rfl rfl)
theorem dX3_play_190 : decode cX3_play 190 = .ok (.invokevirtual 209, 3) := dk_182 0 209 (dk_at dksX3_play_8 3 rfl rfl)
theorem dX3_play_193 : decode cX3_play 193 = .ok (.aload_n 0, 1) := dk_42 (dk_at dksX3_play_8 6 rfl rfl)
theorem dX3_play_194 : decode cX3_play 194 = .ok (.invokevirtual 172, 3) := dk_182 0 172 (dk_at dksX3_play_8 7 rfl rfl)
theorem dX3_play_197 : decode cX3_play 197 = .ok (.istore_n 3, 1) := dk_62 (dk_at dksX3_play_8 10 rfl rfl)
theorem dX3_play_198 : decode cX3_play 198 = .ok (.iload_n 3, 1) := dk_29 (dk_at dksX3_play_8 11 rfl rfl)
theorem dX3_play_199 : decode cX3_play 199 = .ok (.iconst 2, 1) := dk_5 (dk_at dksX3_play_8 12 rfl rfl)
theorem dX3_play_200 : decode cX3_play 200 = .ok (.if_icmp .ge 15, 3) := dk_162 0 15 (dk_at dksX3_play_8 13 rfl rfl)
theorem dX3_play_203 : decode cX3_play 203 = .ok (.iload 6, 2) := dk_21 6 (dk_at dksX3_play_8 16 rfl rfl)
theorem dX3_play_205 : decode cX3_play 205 = .ok (.aload_n 0, 1) := dk_42 (dk_at dksX3_play_8 18 rfl rfl)
theorem dX3_play_206 : decode cX3_play 206 = .ok (.getfield 148, 3) := dk_180 0 148 (dk_at dksX3_play_8 19 rfl rfl)
theorem dX3_play_209 : decode cX3_play 209 = .ok (.idiv, 1) := dk_108 (dk_at dksX3_play_8 22 rfl rfl)
theorem dX3_play_210 : decode cX3_play 210 = .ok (.iconst 1, 1) := dk_4 (dk_at dksX3_play_8 23 rfl rfl)
theorem dX3_play_211 : decode cX3_play 211 = .ok (.iadd, 1) := dk_96 (dk_at dksX3_play_9 0 rfl rfl)
theorem dX3_play_212 : decode cX3_play 212 = .ok (.goto 7, 3) := dk_167 0 7 (dk_at dksX3_play_9 1 rfl rfl)
theorem dX3_play_215 : decode cX3_play 215 = .ok (.aload_n 0, 1) := dk_42 (dk_at dksX3_play_9 4 rfl rfl)
theorem dX3_play_216 : decode cX3_play 216 = .ok (.getfield 16, 3) := dk_180 0 16 (dk_at dksX3_play_9 5 rfl rfl)
theorem dX3_play_219 : decode cX3_play 219 = .ok (.istore 4, 2) := dk_54 4 (dk_at dksX3_play_9 8 rfl rfl)
theorem dX3_play_221 : decode cX3_play 221 = .ok (.iinc 6 1, 3) := dk_132 6 1 (dk_at dksX3_play_9 10 rfl rfl)
theorem dX3_play_224 : decode cX3_play 224 = .ok (.goto (-159), 3) := dk_167 255 97 (dk_at dksX3_play_9 13 rfl rfl)
theorem dX3_play_227 : decode cX3_play 227 = .ok (.aload_n 0, 1) := dk_42 (dk_at dksX3_play_9 16 rfl rfl)
theorem dX3_play_228 : decode cX3_play 228 = .ok (.getfield 82, 3) := dk_180 0 82 (dk_at dksX3_play_9 17 rfl rfl)
theorem dX3_play_231 : decode cX3_play 231 = .ok (.iconst 0, 1) := dk_3 (dk_at dksX3_play_9 20 rfl rfl)
theorem dX3_play_232 : decode cX3_play 232 = .ok (.iload_n 3, 1) := dk_29 (dk_at dksX3_play_9 21 rfl rfl)
theorem dX3_play_233 : decode cX3_play 233 = .ok (.iastore, 1) := dk_79 (dk_at dksX3_play_9 22 rfl rfl)
theorem dX3_play_234 : decode cX3_play 234 = .ok (.aload_n 0, 1) := dk_42 (dk_at dksX3_play_9 23 rfl rfl)
theorem dX3_play_235 : decode cX3_play 235 = .ok (.getfield 82, 3) := dk_180 0 82 (dk_at dksX3_play_10 0 rfl rfl)
theorem dX3_play_238 : decode cX3_play 238 = .ok (.iconst 1, 1) := dk_4 (dk_at dksX3_play_10 3 rfl rfl)
theorem dX3_play_239 : decode cX3_play 239 = .ok (.iload_n 2, 1) := dk_28 (dk_at dksX3_play_10 4 rfl rfl)
theorem dX3_play_240 : decode cX3_play 240 = .ok (.iastore, 1) := dk_79 (dk_at dksX3_play_10 5 rfl rfl)
theorem dX3_play_241 : decode cX3_play 241 = .ok (.aload_n 0, 1) := dk_42 (dk_at dksX3_play_10 6 rfl rfl)
theorem dX3_play_242 : decode cX3_play 242 = .ok (.getfield 82, 3) := dk_180 0 82 (dk_at dksX3_play_10 7 rfl rfl)
theorem dX3_play_245 : decode cX3_play 245 = .ok (.iconst 2, 1) := dk_5 (dk_at dksX3_play_10 10 rfl rfl)
theorem dX3_play_246 : decode cX3_play 246 = .ok (.iload 4, 2) := dk_21 4 (dk_at dksX3_play_10 11 rfl rfl)
theorem dX3_play_248 : decode cX3_play 248 = .ok (.iastore, 1) := dk_79 (dk_at dksX3_play_10 13 rfl rfl)
theorem dX3_play_249 : decode cX3_play 249 = .ok (.iconst 0, 1) := dk_3 (dk_at dksX3_play_10 14 rfl rfl)
theorem dX3_play_250 : decode cX3_play 250 = .ok (.istore 6, 2) := dk_54 6 (dk_at dksX3_play_10 15 rfl rfl)
theorem dX3_play_252 : decode cX3_play 252 = .ok (.iload 6, 2) := dk_21 6 (dk_at dksX3_play_10 17 rfl rfl)
theorem dX3_play_254 : decode cX3_play 254 = .ok (.bipush 6, 2) := dk_16 6 (dk_at dksX3_play_10 19 rfl rfl)
theorem dX3_play_256 : decode cX3_play 256 = .ok (.if_icmp .ge 37, 3) := dk_162 0 37 (dk_at dksX3_play_10 21 rfl rfl)
theorem dX3_play_259 : decode cX3_play 259 = .ok (.aload_n 0, 1) := dk_42 (dk_at dksX3_play_11 0 rfl rfl)
theorem dX3_play_260 : decode cX3_play 260 = .ok (.getfield 85, 3) := dk_180 0 85 (dk_at dksX3_play_11 1 rfl rfl)
theorem dX3_play_263 : decode cX3_play 263 = .ok (.iload 6, 2) := dk_21 6 (dk_at dksX3_play_11 4 rfl rfl)
theorem dX3_play_265 : decode cX3_play 265 = .ok (.aload_n 0, 1) := dk_42 (dk_at dksX3_play_11 6 rfl rfl)
theorem dX3_play_266 : decode cX3_play 266 = .ok (.getfield 23, 3) := dk_180 0 23 (dk_at dksX3_play_11 7 rfl rfl)
theorem dX3_play_269 : decode cX3_play 269 = .ok (.iload 6, 2) := dk_21 6 (dk_at dksX3_play_11 10 rfl rfl)
theorem dX3_play_271 : decode cX3_play 271 = .ok (.iaload, 1) := dk_46 (dk_at dksX3_play_11 12 rfl rfl)
theorem dX3_play_272 : decode cX3_play 272 = .ok (.iastore, 1) := dk_79 (dk_at dksX3_play_11 13 rfl rfl)
theorem dX3_play_273 : decode cX3_play 273 = .ok (.aload_n 0, 1) := dk_42 (dk_at dksX3_play_11 14 rfl rfl)
theorem dX3_play_274 : decode cX3_play 274 = .ok (.getfield 88, 3) := dk_180 0 88 (dk_at dksX3_play_11 15 rfl rfl)
theorem dX3_play_277 : decode cX3_play 277 = .ok (.iload 6, 2) := dk_21 6 (dk_at dksX3_play_11 18 rfl rfl)
theorem dX3_play_279 : decode cX3_play 279 = .ok (.aload_n 0, 1) := dk_42 (dk_at dksX3_play_11 20 rfl rfl)
theorem dX3_play_280 : decode cX3_play 280 = .ok (.getfield 32, 3) := dk_180 0 32 (dk_at dksX3_play_11 21 rfl rfl)
theorem dX3_play_283 : decode cX3_play 283 = .ok (.iload 6, 2) := dk_21 6 (dk_at dksX3_play_12 0 rfl rfl)
theorem dX3_play_285 : decode cX3_play 285 = .ok (.iaload, 1) := dk_46 (dk_at dksX3_play_12 2 rfl rfl)
theorem dX3_play_286 : decode cX3_play 286 = .ok (.iastore, 1) := dk_79 (dk_at dksX3_play_12 3 rfl rfl)
theorem dX3_play_287 : decode cX3_play 287 = .ok (.iinc 6 1, 3) := dk_132 6 1 (dk_at dksX3_play_12 4 rfl rfl)
theorem dX3_play_290 : decode cX3_play 290 = .ok (.goto (-38), 3) := dk_167 255 218 (dk_at dksX3_play_12 7 rfl rfl)
theorem dX3_play_293 : decode cX3_play 293 = .ok (.iload_n 3, 1) := dk_29 (dk_at dksX3_play_12 10 rfl rfl)
theorem dX3_play_294 : decode cX3_play 294 = .ok (.ireturn, 1) := dk_172 (dk_at dksX3_play_12 11 rfl rfl)
abbrev cX3_isSheet : ByteArray := prog_12_method_55_code
def yX3_isSheet : MethodName := ⟨RX3, "isSheet", "(I)Z"⟩
def dkwX3_isSheet_0 : List UInt8 := [26, 133, 9, 20, 1, 9, 184, 0, 107, 172]
abbrev dktX3_isSheet_0 : List UInt8 := dkwX3_isSheet_0 ++ []
theorem dksX3_isSheet_0 : cX3_isSheet.data.toList.drop 0 = dktX3_isSheet_0 := by decide +kernel
theorem dX3_isSheet_0 : decode cX3_isSheet 0 = .ok (.iload_n 0, 1) := dk_26 (dk_at dksX3_isSheet_0 0 rfl rfl)
theorem dX3_isSheet_1 : decode cX3_isSheet 1 = .ok (.i2l, 1) := dk_133 (dk_at dksX3_isSheet_0 1 rfl rfl)
theorem dX3_isSheet_2 : decode cX3_isSheet 2 = .ok (.lconst 0, 1) := dk_9 (dk_at dksX3_isSheet_0 2 rfl rfl)
theorem dX3_isSheet_3 : decode cX3_isSheet 3 = .ok (.ldc2_w 265, 3) := dk_20 1 9 (dk_at dksX3_isSheet_0 3 rfl rfl)
theorem dX3_isSheet_6 : decode cX3_isSheet 6 = .ok (.invokestatic 107, 3) := dk_184 0 107 (dk_at dksX3_isSheet_0 6 rfl rfl)
theorem dX3_isSheet_9 : decode cX3_isSheet 9 = .ok (.ireturn, 1) := dk_172 (dk_at dksX3_isSheet_0 9 rfl rfl)
abbrev cX3_met : ByteArray := prog_12_method_54_code
def yX3_met : MethodName := ⟨RX3, "met", "(I)I"⟩
def dkwX3_met_0 : List UInt8 := [42, 27, 181, 1, 6, 16, 246, 27, 100, 172]
abbrev dktX3_met_0 : List UInt8 := dkwX3_met_0 ++ []
theorem dksX3_met_0 : cX3_met.data.toList.drop 0 = dktX3_met_0 := by decide +kernel
theorem dX3_met_0 : decode cX3_met 0 = .ok (.aload_n 0, 1) := dk_42 (dk_at dksX3_met_0 0 rfl rfl)
theorem dX3_met_1 : decode cX3_met 1 = .ok (.iload_n 1, 1) := dk_27 (dk_at dksX3_met_0 1 rfl rfl)
theorem dX3_met_2 : decode cX3_met 2 = .ok (.putfield 262, 3) := dk_181 1 6 (dk_at dksX3_met_0 2 rfl rfl)
theorem dX3_met_5 : decode cX3_met 5 = .ok (.bipush (-10), 2) := dk_16 246 (dk_at dksX3_met_0 5 rfl rfl)
theorem dX3_met_7 : decode cX3_met 7 = .ok (.iload_n 1, 1) := dk_27 (dk_at dksX3_met_0 7 rfl rfl)
theorem dX3_met_8 : decode cX3_met 8 = .ok (.isub, 1) := dk_100 (dk_at dksX3_met_0 8 rfl rfl)
theorem dX3_met_9 : decode cX3_met 9 = .ok (.ireturn, 1) := dk_172 (dk_at dksX3_met_0 9 rfl rfl)
abbrev cX3_played : ByteArray := prog_12_method_53_code
def yX3_played : MethodName := ⟨RX3, "played", "(I)I"⟩
def dkwX3_played_2 : List UInt8 := [180, 0, 88, 27, 16, 10, 100, 46, 167, 0, 5, 16, 254, 172]
abbrev dktX3_played_2 : List UInt8 := dkwX3_played_2 ++ []
def dkwX3_played_1 : List UInt8 := [20, 1, 4, 184, 0, 107, 153, 0, 28, 42, 180, 0, 85, 27, 16, 10, 100, 46, 2, 159, 0, 15, 42]
abbrev dktX3_played_1 : List UInt8 := dkwX3_played_1 ++ dktX3_played_2
def dkwX3_played_0 : List UInt8 := [27, 133, 9, 20, 0, 105, 184, 0, 107, 153, 0, 10, 42, 180, 0, 82, 27, 46, 172, 27, 133, 20, 0, 219]
abbrev dktX3_played_0 : List UInt8 := dkwX3_played_0 ++ dktX3_played_1
theorem dksX3_played_0 : cX3_played.data.toList.drop 0 = dktX3_played_0 := by decide +kernel
theorem dksX3_played_1 : cX3_played.data.toList.drop 24 = dktX3_played_1 := dk_seg dksX3_played_0 24 rfl rfl
theorem dksX3_played_2 : cX3_played.data.toList.drop 47 = dktX3_played_2 := dk_seg dksX3_played_1 23 rfl rfl
theorem dX3_played_0 : decode cX3_played 0 = .ok (.iload_n 1, 1) := dk_27 (dk_at dksX3_played_0 0 rfl rfl)
theorem dX3_played_1 : decode cX3_played 1 = .ok (.i2l, 1) := dk_133 (dk_at dksX3_played_0 1 rfl rfl)
theorem dX3_played_2 : decode cX3_played 2 = .ok (.lconst 0, 1) := dk_9 (dk_at dksX3_played_0 2 rfl rfl)
theorem dX3_played_3 : decode cX3_played 3 = .ok (.ldc2_w 105, 3) := dk_20 0 105 (dk_at dksX3_played_0 3 rfl rfl)
theorem dX3_played_6 : decode cX3_played 6 = .ok (.invokestatic 107, 3) := dk_184 0 107 (dk_at dksX3_played_0 6 rfl rfl)
theorem dX3_played_9 : decode cX3_played 9 = .ok (.ifCond .eq 10, 3) := dk_153 0 10 (dk_at dksX3_played_0 9 rfl rfl)
theorem dX3_played_12 : decode cX3_played 12 = .ok (.aload_n 0, 1) := dk_42 (dk_at dksX3_played_0 12 rfl rfl)
theorem dX3_played_13 : decode cX3_played 13 = .ok (.getfield 82, 3) := dk_180 0 82 (dk_at dksX3_played_0 13 rfl rfl)
theorem dX3_played_16 : decode cX3_played 16 = .ok (.iload_n 1, 1) := dk_27 (dk_at dksX3_played_0 16 rfl rfl)
theorem dX3_played_17 : decode cX3_played 17 = .ok (.iaload, 1) := dk_46 (dk_at dksX3_played_0 17 rfl rfl)
theorem dX3_played_18 : decode cX3_played 18 = .ok (.ireturn, 1) := dk_172 (dk_at dksX3_played_0 18 rfl rfl)
theorem dX3_played_19 : decode cX3_played 19 = .ok (.iload_n 1, 1) := dk_27 (dk_at dksX3_played_0 19 rfl rfl)
theorem dX3_played_20 : decode cX3_played 20 = .ok (.i2l, 1) := dk_133 (dk_at dksX3_played_0 20 rfl rfl)
theorem dX3_played_21 : decode cX3_played 21 = .ok (.ldc2_w 219, 3) := dk_20 0 219 (dk_at dksX3_played_0 21 rfl rfl)
theorem dX3_played_24 : decode cX3_played 24 = .ok (.ldc2_w 260, 3) := dk_20 1 4 (dk_at dksX3_played_1 0 rfl rfl)
theorem dX3_played_27 : decode cX3_played 27 = .ok (.invokestatic 107, 3) := dk_184 0 107 (dk_at dksX3_played_1 3 rfl rfl)
theorem dX3_played_30 : decode cX3_played 30 = .ok (.ifCond .eq 28, 3) := dk_153 0 28 (dk_at dksX3_played_1 6 rfl rfl)
theorem dX3_played_33 : decode cX3_played 33 = .ok (.aload_n 0, 1) := dk_42 (dk_at dksX3_played_1 9 rfl rfl)
theorem dX3_played_34 : decode cX3_played 34 = .ok (.getfield 85, 3) := dk_180 0 85 (dk_at dksX3_played_1 10 rfl rfl)
theorem dX3_played_37 : decode cX3_played 37 = .ok (.iload_n 1, 1) := dk_27 (dk_at dksX3_played_1 13 rfl rfl)
theorem dX3_played_38 : decode cX3_played 38 = .ok (.bipush 10, 2) := dk_16 10 (dk_at dksX3_played_1 14 rfl rfl)
theorem dX3_played_40 : decode cX3_played 40 = .ok (.isub, 1) := dk_100 (dk_at dksX3_played_1 16 rfl rfl)
theorem dX3_played_41 : decode cX3_played 41 = .ok (.iaload, 1) := dk_46 (dk_at dksX3_played_1 17 rfl rfl)
theorem dX3_played_42 : decode cX3_played 42 = .ok (.iconst (-1), 1) := dk_2 (dk_at dksX3_played_1 18 rfl rfl)
theorem dX3_played_43 : decode cX3_played 43 = .ok (.if_icmp .eq 15, 3) := dk_159 0 15 (dk_at dksX3_played_1 19 rfl rfl)
theorem dX3_played_46 : decode cX3_played 46 = .ok (.aload_n 0, 1) := dk_42 (dk_at dksX3_played_1 22 rfl rfl)
theorem dX3_played_47 : decode cX3_played 47 = .ok (.getfield 88, 3) := dk_180 0 88 (dk_at dksX3_played_2 0 rfl rfl)
theorem dX3_played_50 : decode cX3_played 50 = .ok (.iload_n 1, 1) := dk_27 (dk_at dksX3_played_2 3 rfl rfl)
theorem dX3_played_51 : decode cX3_played 51 = .ok (.bipush 10, 2) := dk_16 10 (dk_at dksX3_played_2 4 rfl rfl)
theorem dX3_played_53 : decode cX3_played 53 = .ok (.isub, 1) := dk_100 (dk_at dksX3_played_2 6 rfl rfl)
theorem dX3_played_54 : decode cX3_played 54 = .ok (.iaload, 1) := dk_46 (dk_at dksX3_played_2 7 rfl rfl)
theorem dX3_played_55 : decode cX3_played 55 = .ok (.goto 5, 3) := dk_167 0 5 (dk_at dksX3_played_2 8 rfl rfl)
theorem dX3_played_58 : decode cX3_played 58 = .ok (.bipush (-2), 2) := dk_16 254 (dk_at dksX3_played_2 11 rfl rfl)
theorem dX3_played_60 : decode cX3_played 60 = .ok (.ireturn, 1) := dk_172 (dk_at dksX3_played_2 13 rfl rfl)
abbrev cX3_sheet : ByteArray := prog_12_method_56_code
def yX3_sheet : MethodName := ⟨RX3, "sheet", "(III)I"⟩
def dkwX3_sheet_3 : List UInt8 := [21, 4, 96, 3, 79, 132, 4, 1, 167, 255, 234, 29, 172]
abbrev dktX3_sheet_3 : List UInt8 := dkwX3_sheet_3 ++ []
def dkwX3_sheet_2 : List UInt8 := [180, 0, 94, 27, 29, 79, 3, 54, 4, 21, 4, 29, 162, 0, 22, 42, 180, 0, 97, 16, 60, 27, 104]
abbrev dktX3_sheet_2 : List UInt8 := dkwX3_sheet_2 ++ dktX3_sheet_3
def dkwX3_sheet_1 : List UInt8 := [164, 0, 6, 16, 254, 172, 29, 156, 0, 9, 42, 8, 182, 1, 0, 172, 42, 180, 0, 91, 27, 28, 79, 42]
abbrev dktX3_sheet_1 : List UInt8 := dkwX3_sheet_1 ++ dktX3_sheet_2
def dkwX3_sheet_0 : List UInt8 := [27, 184, 0, 253, 153, 0, 21, 28, 133, 9, 20, 0, 105, 184, 0, 107, 153, 0, 9, 29, 16, 60]
abbrev dktX3_sheet_0 : List UInt8 := dkwX3_sheet_0 ++ dktX3_sheet_1
theorem dksX3_sheet_0 : cX3_sheet.data.toList.drop 0 = dktX3_sheet_0 := by decide +kernel
theorem dksX3_sheet_1 : cX3_sheet.data.toList.drop 22 = dktX3_sheet_1 := dk_seg dksX3_sheet_0 22 rfl rfl
theorem dksX3_sheet_2 : cX3_sheet.data.toList.drop 46 = dktX3_sheet_2 := dk_seg dksX3_sheet_1 24 rfl rfl
theorem dksX3_sheet_3 : cX3_sheet.data.toList.drop 69 = dktX3_sheet_3 := dk_seg dksX3_sheet_2 23 rfl rfl
theorem dX3_sheet_0 : decode cX3_sheet 0 = .ok (.iload_n 1, 1) := dk_27 (dk_at dksX3_sheet_0 0 rfl rfl)
theorem dX3_sheet_1 : decode cX3_sheet 1 = .ok (.invokestatic 253, 3) := dk_184 0 253 (dk_at dksX3_sheet_0 1 rfl rfl)
theorem dX3_sheet_4 : decode cX3_sheet 4 = .ok (.ifCond .eq 21, 3) := dk_153 0 21 (dk_at dksX3_sheet_0 4 rfl rfl)
theorem dX3_sheet_7 : decode cX3_sheet 7 = .ok (.iload_n 2, 1) := dk_28 (dk_at dksX3_sheet_0 7 rfl rfl)
theorem dX3_sheet_8 : decode cX3_sheet 8 = .ok (.i2l, 1) := dk_133 (dk_at dksX3_sheet_0 8 rfl rfl)
theorem dX3_sheet_9 : decode cX3_sheet 9 = .ok (.lconst 0, 1) := dk_9 (dk_at dksX3_sheet_0 9 rfl rfl)
theorem dX3_sheet_10 : decode cX3_sheet 10 = .ok (.ldc2_w 105, 3) := dk_20 0 105 (dk_at dksX3_sheet_0 10 rfl rfl)
theorem dX3_sheet_13 : decode cX3_sheet 13 = .ok (.invokestatic 107, 3) := dk_184 0 107 (dk_at dksX3_sheet_0 13 rfl rfl)
theorem dX3_sheet_16 : decode cX3_sheet 16 = .ok (.ifCond .eq 9, 3) := dk_153 0 9 (dk_at dksX3_sheet_0 16 rfl rfl)
theorem dX3_sheet_19 : decode cX3_sheet 19 = .ok (.iload_n 3, 1) := dk_29 (dk_at dksX3_sheet_0 19 rfl rfl)
theorem dX3_sheet_20 : decode cX3_sheet 20 = .ok (.bipush 60, 2) := dk_16 60 (dk_at dksX3_sheet_0 20 rfl rfl)
theorem dX3_sheet_22 : decode cX3_sheet 22 = .ok (.if_icmp .le 6, 3) := dk_164 0 6 (dk_at dksX3_sheet_1 0 rfl rfl)
theorem dX3_sheet_25 : decode cX3_sheet 25 = .ok (.bipush (-2), 2) := dk_16 254 (dk_at dksX3_sheet_1 3 rfl rfl)
theorem dX3_sheet_27 : decode cX3_sheet 27 = .ok (.ireturn, 1) := dk_172 (dk_at dksX3_sheet_1 5 rfl rfl)
theorem dX3_sheet_28 : decode cX3_sheet 28 = .ok (.iload_n 3, 1) := dk_29 (dk_at dksX3_sheet_1 6 rfl rfl)
theorem dX3_sheet_29 : decode cX3_sheet 29 = .ok (.ifCond .ge 9, 3) := dk_156 0 9 (dk_at dksX3_sheet_1 7 rfl rfl)
theorem dX3_sheet_32 : decode cX3_sheet 32 = .ok (.aload_n 0, 1) := dk_42 (dk_at dksX3_sheet_1 10 rfl rfl)
theorem dX3_sheet_33 : decode cX3_sheet 33 = .ok (.iconst 5, 1) := dk_8 (dk_at dksX3_sheet_1 11 rfl rfl)
theorem dX3_sheet_34 : decode cX3_sheet 34 = .ok (.invokevirtual 256, 3) := dk_182 1 0 (dk_at dksX3_sheet_1 12 rfl rfl)
theorem dX3_sheet_37 : decode cX3_sheet 37 = .ok (.ireturn, 1) := dk_172 (dk_at dksX3_sheet_1 15 rfl rfl)
theorem dX3_sheet_38 : decode cX3_sheet 38 = .ok (.aload_n 0, 1) := dk_42 (dk_at dksX3_sheet_1 16 rfl rfl)
theorem dX3_sheet_39 : decode cX3_sheet 39 = .ok (.getfield 91, 3) := dk_180 0 91 (dk_at dksX3_sheet_1 17 rfl rfl)
theorem dX3_sheet_42 : decode cX3_sheet 42 = .ok (.iload_n 1, 1) := dk_27 (dk_at dksX3_sheet_1 20 rfl rfl)
theorem dX3_sheet_43 : decode cX3_sheet 43 = .ok (.iload_n 2, 1) := dk_28 (dk_at dksX3_sheet_1 21 rfl rfl)
theorem dX3_sheet_44 : decode cX3_sheet 44 = .ok (.iastore, 1) := dk_79 (dk_at dksX3_sheet_1 22 rfl rfl)
theorem dX3_sheet_45 : decode cX3_sheet 45 = .ok (.aload_n 0, 1) := dk_42 (dk_at dksX3_sheet_1 23 rfl rfl)
theorem dX3_sheet_46 : decode cX3_sheet 46 = .ok (.getfield 94, 3) := dk_180 0 94 (dk_at dksX3_sheet_2 0 rfl rfl)
theorem dX3_sheet_49 : decode cX3_sheet 49 = .ok (.iload_n 1, 1) := dk_27 (dk_at dksX3_sheet_2 3 rfl rfl)
theorem dX3_sheet_50 : decode cX3_sheet 50 = .ok (.iload_n 3, 1) := dk_29 (dk_at dksX3_sheet_2 4 rfl rfl)
theorem dX3_sheet_51 : decode cX3_sheet 51 = .ok (.iastore, 1) := dk_79 (dk_at dksX3_sheet_2 5 rfl rfl)
theorem dX3_sheet_52 : decode cX3_sheet 52 = .ok (.iconst 0, 1) := dk_3 (dk_at dksX3_sheet_2 6 rfl rfl)
theorem dX3_sheet_53 : decode cX3_sheet 53 = .ok (.istore 4, 2) := dk_54 4 (dk_at dksX3_sheet_2 7 rfl rfl)
theorem dX3_sheet_55 : decode cX3_sheet 55 = .ok (.iload 4, 2) := dk_21 4 (dk_at dksX3_sheet_2 9 rfl rfl)
theorem dX3_sheet_57 : decode cX3_sheet 57 = .ok (.iload_n 3, 1) := dk_29 (dk_at dksX3_sheet_2 11 rfl rfl)
theorem dX3_sheet_58 : decode cX3_sheet 58 = .ok (.if_icmp .ge 22, 3) := dk_162 0 22 (dk_at dksX3_sheet_2 12 rfl rfl)
theorem dX3_sheet_61 : decode cX3_sheet 61 = .ok (.aload_n 0, 1) := dk_42 (dk_at dksX3_sheet_2 15 rfl rfl)
theorem dX3_sheet_62 : decode cX3_sheet 62 = .ok (.getfield 97, 3) := dk_180 0 97 (dk_at dksX3_sheet_2 16 rfl rfl)
theorem dX3_sheet_65 : decode cX3_sheet 65 = .ok (.bipush 60, 2) := dk_16 60 (dk_at dksX3_sheet_2 19 rfl rfl)
theorem dX3_sheet_67 : decode cX3_sheet 67 = .ok (.iload_n 1, 1) := dk_27 (dk_at dksX3_sheet_2 21 rfl rfl)
theorem dX3_sheet_68 : decode cX3_sheet 68 = .ok (.imul, 1) := dk_104 (dk_at dksX3_sheet_2 22 rfl rfl)
theorem dX3_sheet_69 : decode cX3_sheet 69 = .ok (.iload 4, 2) := dk_21 4 (dk_at dksX3_sheet_3 0 rfl rfl)
theorem dX3_sheet_71 : decode cX3_sheet 71 = .ok (.iadd, 1) := dk_96 (dk_at dksX3_sheet_3 2 rfl rfl)
theorem dX3_sheet_72 : decode cX3_sheet 72 = .ok (.iconst 0, 1) := dk_3 (dk_at dksX3_sheet_3 3 rfl rfl)
theorem dX3_sheet_73 : decode cX3_sheet 73 = .ok (.iastore, 1) := dk_79 (dk_at dksX3_sheet_3 4 rfl rfl)
theorem dX3_sheet_74 : decode cX3_sheet 74 = .ok (.iinc 4 1, 3) := dk_132 4 1 (dk_at dksX3_sheet_3 5 rfl rfl)
theorem dX3_sheet_77 : decode cX3_sheet 77 = .ok (.goto (-22), 3) := dk_167 255 234 (dk_at dksX3_sheet_3 8 rfl rfl)
theorem dX3_sheet_80 : decode cX3_sheet 80 = .ok (.iload_n 3, 1) := dk_29 (dk_at dksX3_sheet_3 11 rfl rfl)
theorem dX3_sheet_81 : decode cX3_sheet 81 = .ok (.ireturn, 1) := dk_172 (dk_at dksX3_sheet_3 12 rfl rfl)
abbrev cX3_lose : ByteArray := prog_12_method_57_code
def yX3_lose : MethodName := ⟨RX3, "lose", "(I)I"⟩
def dkwX3_lose_1 : List UInt8 := [172, 42, 180, 0, 91, 27, 2, 79, 42, 180, 0, 94, 27, 46, 172]
abbrev dktX3_lose_1 : List UInt8 := dkwX3_lose_1 ++ []
def dkwX3_lose_0 : List UInt8 := [27, 184, 0, 253, 154, 0, 6, 16, 254, 172, 42, 180, 0, 91, 27, 46, 156, 0, 9, 42, 4, 182, 1, 0]
abbrev dktX3_lose_0 : List UInt8 := dkwX3_lose_0 ++ dktX3_lose_1
theorem dksX3_lose_0 : cX3_lose.data.toList.drop 0 = dktX3_lose_0 := by decide +kernel
theorem dksX3_lose_1 : cX3_lose.data.toList.drop 24 = dktX3_lose_1 := dk_seg dksX3_lose_0 24 rfl rfl
theorem dX3_lose_0 : decode cX3_lose 0 = .ok (.iload_n 1, 1) := dk_27 (dk_at dksX3_lose_0 0 rfl rfl)
theorem dX3_lose_1 : decode cX3_lose 1 = .ok (.invokestatic 253, 3) := dk_184 0 253 (dk_at dksX3_lose_0 1 rfl rfl)
theorem dX3_lose_4 : decode cX3_lose 4 = .ok (.ifCond .ne 6, 3) := dk_154 0 6 (dk_at dksX3_lose_0 4 rfl rfl)
theorem dX3_lose_7 : decode cX3_lose 7 = .ok (.bipush (-2), 2) := dk_16 254 (dk_at dksX3_lose_0 7 rfl rfl)
theorem dX3_lose_9 : decode cX3_lose 9 = .ok (.ireturn, 1) := dk_172 (dk_at dksX3_lose_0 9 rfl rfl)
theorem dX3_lose_10 : decode cX3_lose 10 = .ok (.aload_n 0, 1) := dk_42 (dk_at dksX3_lose_0 10 rfl rfl)
theorem dX3_lose_11 : decode cX3_lose 11 = .ok (.getfield 91, 3) := dk_180 0 91 (dk_at dksX3_lose_0 11 rfl rfl)
theorem dX3_lose_14 : decode cX3_lose 14 = .ok (.iload_n 1, 1) := dk_27 (dk_at dksX3_lose_0 14 rfl rfl)
theorem dX3_lose_15 : decode cX3_lose 15 = .ok (.iaload, 1) := dk_46 (dk_at dksX3_lose_0 15 rfl rfl)
theorem dX3_lose_16 : decode cX3_lose 16 = .ok (.ifCond .ge 9, 3) := dk_156 0 9 (dk_at dksX3_lose_0 16 rfl rfl)
theorem dX3_lose_19 : decode cX3_lose 19 = .ok (.aload_n 0, 1) := dk_42 (dk_at dksX3_lose_0 19 rfl rfl)
theorem dX3_lose_20 : decode cX3_lose 20 = .ok (.iconst 1, 1) := dk_4 (dk_at dksX3_lose_0 20 rfl rfl)
theorem dX3_lose_21 : decode cX3_lose 21 = .ok (.invokevirtual 256, 3) := dk_182 1 0 (dk_at dksX3_lose_0 21 rfl rfl)
theorem dX3_lose_24 : decode cX3_lose 24 = .ok (.ireturn, 1) := dk_172 (dk_at dksX3_lose_1 0 rfl rfl)
theorem dX3_lose_25 : decode cX3_lose 25 = .ok (.aload_n 0, 1) := dk_42 (dk_at dksX3_lose_1 1 rfl rfl)
theorem dX3_lose_26 : decode cX3_lose 26 = .ok (.getfield 91, 3) := dk_180 0 91 (dk_at dksX3_lose_1 2 rfl rfl)
theorem dX3_lose_29 : decode cX3_lose 29 = .ok (.iload_n 1, 1) := dk_27 (dk_at dksX3_lose_1 5 rfl rfl)
theorem dX3_lose_30 : decode cX3_lose 30 = .ok (.iconst (-1), 1) := dk_2 (dk_at dksX3_lose_1 6 rfl rfl)
theorem dX3_lose_31 : decode cX3_lose 31 = .ok (.iastore, 1) := dk_79 (dk_at dksX3_lose_1 7 rfl rfl)
theorem dX3_lose_32 : decode cX3_lose 32 = .ok (.aload_n 0, 1) := dk_42 (dk_at dksX3_lose_1 8 rfl rfl)
theorem dX3_lose_33 : decode cX3_lose 33 = .ok (.getfield 94, 3) := dk_180 0 94 (dk_at dksX3_lose_1 9 rfl rfl)
theorem dX3_lose_36 : decode cX3_lose 36 = .ok (.iload_n 1, 1) := dk_27 (dk_at dksX3_lose_1 12 rfl rfl)
theorem dX3_lose_37 : decode cX3_lose 37 = .ok (.iaload, 1) := dk_46 (dk_at dksX3_lose_1 13 rfl rfl)
theorem dX3_lose_38 : decode cX3_lose 38 = .ok (.ireturn, 1) := dk_172 (dk_at dksX3_lose_1 14 rfl rfl)
abbrev cX3_put : ByteArray := prog_12_method_59_code
def yX3_put : MethodName := ⟨RX3, "put", "(IIII)I"⟩
def dkwX3_put_3 : List UInt8 := [79, 4, 172]
abbrev dktX3_put_3 : List UInt8 := dkwX3_put_3 ++ []
def dkwX3_put_2 : List UInt8 := [96, 28, 154, 0, 9, 21, 4, 145, 167, 0, 16, 28, 4, 160, 0, 9, 21, 4, 147, 167, 0, 5, 21, 4]
abbrev dktX3_put_2 : List UInt8 := dkwX3_put_2 ++ dktX3_put_3
def dkwX3_put_1 : List UInt8 := [28, 29, 182, 1, 11, 54, 5, 21, 5, 153, 0, 6, 21, 5, 172, 42, 180, 0, 97, 16, 60, 27, 104, 29]
abbrev dktX3_put_1 : List UInt8 := dkwX3_put_1 ++ dktX3_put_2
def dkwX3_put_0 : List UInt8 := [27, 184, 0, 253, 153, 0, 15, 28, 133, 9, 20, 0, 105, 184, 0, 107, 154, 0, 6, 16, 254, 172, 42, 27]
abbrev dktX3_put_0 : List UInt8 := dkwX3_put_0 ++ dktX3_put_1
theorem dksX3_put_0 : cX3_put.data.toList.drop 0 = dktX3_put_0 := by decide +kernel
theorem dksX3_put_1 : cX3_put.data.toList.drop 24 = dktX3_put_1 := dk_seg dksX3_put_0 24 rfl rfl
theorem dksX3_put_2 : cX3_put.data.toList.drop 48 = dktX3_put_2 := dk_seg dksX3_put_1 24 rfl rfl
theorem dksX3_put_3 : cX3_put.data.toList.drop 72 = dktX3_put_3 := dk_seg dksX3_put_2 24 rfl rfl
theorem dX3_put_0 : decode cX3_put 0 = .ok (.iload_n 1, 1) := dk_27 (dk_at dksX3_put_0 0 rfl rfl)
theorem dX3_put_1 : decode cX3_put 1 = .ok (.invokestatic 253, 3) := dk_184 0 253 (dk_at dksX3_put_0 1 rfl rfl)
theorem dX3_put_4 : decode cX3_put 4 = .ok (.ifCond .eq 15, 3) := dk_153 0 15 (dk_at dksX3_put_0 4 rfl rfl)
theorem dX3_put_7 : decode cX3_put 7 = .ok (.iload_n 2, 1) := dk_28 (dk_at dksX3_put_0 7 rfl rfl)
theorem dX3_put_8 : decode cX3_put 8 = .ok (.i2l, 1) := dk_133 (dk_at dksX3_put_0 8 rfl rfl)
theorem dX3_put_9 : decode cX3_put 9 = .ok (.lconst 0, 1) := dk_9 (dk_at dksX3_put_0 9 rfl rfl)
theorem dX3_put_10 : decode cX3_put 10 = .ok (.ldc2_w 105, 3) := dk_20 0 105 (dk_at dksX3_put_0 10 rfl rfl)
theorem dX3_put_13 : decode cX3_put 13 = .ok (.invokestatic 107, 3) := dk_184 0 107 (dk_at dksX3_put_0 13 rfl rfl)
theorem dX3_put_16 : decode cX3_put 16 = .ok (.ifCond .ne 6, 3) := dk_154 0 6 (dk_at dksX3_put_0 16 rfl rfl)
theorem dX3_put_19 : decode cX3_put 19 = .ok (.bipush (-2), 2) := dk_16 254 (dk_at dksX3_put_0 19 rfl rfl)
theorem dX3_put_21 : decode cX3_put 21 = .ok (.ireturn, 1) := dk_172 (dk_at dksX3_put_0 21 rfl rfl)
theorem dX3_put_22 : decode cX3_put 22 = .ok (.aload_n 0, 1) := dk_42 (dk_at dksX3_put_0 22 rfl rfl)
theorem dX3_put_23 : decode cX3_put 23 = .ok (.iload_n 1, 1) := dk_27 (dk_at dksX3_put_0 23 rfl rfl)
theorem dX3_put_24 : decode cX3_put 24 = .ok (.iload_n 2, 1) := dk_28 (dk_at dksX3_put_1 0 rfl rfl)
theorem dX3_put_25 : decode cX3_put 25 = .ok (.iload_n 3, 1) := dk_29 (dk_at dksX3_put_1 1 rfl rfl)
theorem dX3_put_26 : decode cX3_put 26 = .ok (.invokevirtual 267, 3) := dk_182 1 11 (dk_at dksX3_put_1 2 rfl rfl)
theorem dX3_put_29 : decode cX3_put 29 = .ok (.istore 5, 2) := dk_54 5 (dk_at dksX3_put_1 5 rfl rfl)
theorem dX3_put_31 : decode cX3_put 31 = .ok (.iload 5, 2) := dk_21 5 (dk_at dksX3_put_1 7 rfl rfl)
theorem dX3_put_33 : decode cX3_put 33 = .ok (.ifCond .eq 6, 3) := dk_153 0 6 (dk_at dksX3_put_1 9 rfl rfl)
theorem dX3_put_36 : decode cX3_put 36 = .ok (.iload 5, 2) := dk_21 5 (dk_at dksX3_put_1 12 rfl rfl)
theorem dX3_put_38 : decode cX3_put 38 = .ok (.ireturn, 1) := dk_172 (dk_at dksX3_put_1 14 rfl rfl)
theorem dX3_put_39 : decode cX3_put 39 = .ok (.aload_n 0, 1) := dk_42 (dk_at dksX3_put_1 15 rfl rfl)
theorem dX3_put_40 : decode cX3_put 40 = .ok (.getfield 97, 3) := dk_180 0 97 (dk_at dksX3_put_1 16 rfl rfl)
theorem dX3_put_43 : decode cX3_put 43 = .ok (.bipush 60, 2) := dk_16 60 (dk_at dksX3_put_1 19 rfl rfl)
theorem dX3_put_45 : decode cX3_put 45 = .ok (.iload_n 1, 1) := dk_27 (dk_at dksX3_put_1 21 rfl rfl)
theorem dX3_put_46 : decode cX3_put 46 = .ok (.imul, 1) := dk_104 (dk_at dksX3_put_1 22 rfl rfl)
theorem dX3_put_47 : decode cX3_put 47 = .ok (.iload_n 3, 1) := dk_29 (dk_at dksX3_put_1 23 rfl rfl)
theorem dX3_put_48 : decode cX3_put 48 = .ok (.iadd, 1) := dk_96 (dk_at dksX3_put_2 0 rfl rfl)
theorem dX3_put_49 : decode cX3_put 49 = .ok (.iload_n 2, 1) := dk_28 (dk_at dksX3_put_2 1 rfl rfl)
theorem dX3_put_50 : decode cX3_put 50 = .ok (.ifCond .ne 9, 3) := dk_154 0 9 (dk_at dksX3_put_2 2 rfl rfl)
theorem dX3_put_53 : decode cX3_put 53 = .ok (.iload 4, 2) := dk_21 4 (dk_at dksX3_put_2 5 rfl rfl)
theorem dX3_put_55 : decode cX3_put 55 = .ok (.i2b, 1) := dk_145 (dk_at dksX3_put_2 7 rfl rfl)
theorem dX3_put_56 : decode cX3_put 56 = .ok (.goto 16, 3) := dk_167 0 16 (dk_at dksX3_put_2 8 rfl rfl)
theorem dX3_put_59 : decode cX3_put 59 = .ok (.iload_n 2, 1) := dk_28 (dk_at dksX3_put_2 11 rfl rfl)
theorem dX3_put_60 : decode cX3_put 60 = .ok (.iconst 1, 1) := dk_4 (dk_at dksX3_put_2 12 rfl rfl)
theorem dX3_put_61 : decode cX3_put 61 = .ok (.if_icmp .ne 9, 3) := dk_160 0 9 (dk_at dksX3_put_2 13 rfl rfl)
theorem dX3_put_64 : decode cX3_put 64 = .ok (.iload 4, 2) := dk_21 4 (dk_at dksX3_put_2 16 rfl rfl)
theorem dX3_put_66 : decode cX3_put 66 = .ok (.i2s, 1) := dk_147 (dk_at dksX3_put_2 18 rfl rfl)
theorem dX3_put_67 : decode cX3_put 67 = .ok (.goto 5, 3) := dk_167 0 5 (dk_at dksX3_put_2 19 rfl rfl)
theorem dX3_put_70 : decode cX3_put 70 = .ok (.iload 4, 2) := dk_21 4 (dk_at dksX3_put_2 22 rfl rfl)
theorem dX3_put_72 : decode cX3_put 72 = .ok (.iastore, 1) := dk_79 (dk_at dksX3_put_3 0 rfl rfl)
theorem dX3_put_73 : decode cX3_put 73 = .ok (.iconst 1, 1) := dk_4 (dk_at dksX3_put_3 1 rfl rfl)
theorem dX3_put_74 : decode cX3_put 74 = .ok (.ireturn, 1) := dk_172 (dk_at dksX3_put_3 2 rfl rfl)
abbrev cX3_lacks : ByteArray := prog_12_method_58_code
def yX3_lacks : MethodName := ⟨RX3, "lacks", "(III)I"⟩
def dkwX3_lacks_2 : List UInt8 := [153, 0, 7, 3, 167, 0, 8, 42, 5, 182, 1, 0, 172]
abbrev dktX3_lacks_2 : List UInt8 := dkwX3_lacks_2 ++ []
def dkwX3_lacks_1 : List UInt8 := [159, 0, 9, 42, 6, 182, 1, 0, 172, 29, 133, 9, 42, 180, 0, 94, 27, 46, 4, 100, 133, 184, 0, 107]
abbrev dktX3_lacks_1 : List UInt8 := dkwX3_lacks_1 ++ dktX3_lacks_2
def dkwX3_lacks_0 : List UInt8 := [42, 180, 0, 91, 27, 46, 156, 0, 9, 42, 4, 182, 1, 0, 172, 42, 180, 0, 91, 27, 46, 28]
abbrev dktX3_lacks_0 : List UInt8 := dkwX3_lacks_0 ++ dktX3_lacks_1
theorem dksX3_lacks_0 : cX3_lacks.data.toList.drop 0 = dktX3_lacks_0 := by decide +kernel
theorem dksX3_lacks_1 : cX3_lacks.data.toList.drop 22 = dktX3_lacks_1 := dk_seg dksX3_lacks_0 22 rfl rfl
theorem dksX3_lacks_2 : cX3_lacks.data.toList.drop 46 = dktX3_lacks_2 := dk_seg dksX3_lacks_1 24 rfl rfl
theorem dX3_lacks_0 : decode cX3_lacks 0 = .ok (.aload_n 0, 1) := dk_42 (dk_at dksX3_lacks_0 0 rfl rfl)
theorem dX3_lacks_1 : decode cX3_lacks 1 = .ok (.getfield 91, 3) := dk_180 0 91 (dk_at dksX3_lacks_0 1 rfl rfl)
theorem dX3_lacks_4 : decode cX3_lacks 4 = .ok (.iload_n 1, 1) := dk_27 (dk_at dksX3_lacks_0 4 rfl rfl)
theorem dX3_lacks_5 : decode cX3_lacks 5 = .ok (.iaload, 1) := dk_46 (dk_at dksX3_lacks_0 5 rfl rfl)
theorem dX3_lacks_6 : decode cX3_lacks 6 = .ok (.ifCond .ge 9, 3) := dk_156 0 9 (dk_at dksX3_lacks_0 6 rfl rfl)
theorem dX3_lacks_9 : decode cX3_lacks 9 = .ok (.aload_n 0, 1) := dk_42 (dk_at dksX3_lacks_0 9 rfl rfl)
theorem dX3_lacks_10 : decode cX3_lacks 10 = .ok (.iconst 1, 1) := dk_4 (dk_at dksX3_lacks_0 10 rfl rfl)
theorem dX3_lacks_11 : decode cX3_lacks 11 = .ok (.invokevirtual 256, 3) := dk_182 1 0 (dk_at dksX3_lacks_0 11 rfl rfl)
theorem dX3_lacks_14 : decode cX3_lacks 14 = .ok (.ireturn, 1) := dk_172 (dk_at dksX3_lacks_0 14 rfl rfl)
theorem dX3_lacks_15 : decode cX3_lacks 15 = .ok (.aload_n 0, 1) := dk_42 (dk_at dksX3_lacks_0 15 rfl rfl)
theorem dX3_lacks_16 : decode cX3_lacks 16 = .ok (.getfield 91, 3) := dk_180 0 91 (dk_at dksX3_lacks_0 16 rfl rfl)
theorem dX3_lacks_19 : decode cX3_lacks 19 = .ok (.iload_n 1, 1) := dk_27 (dk_at dksX3_lacks_0 19 rfl rfl)
theorem dX3_lacks_20 : decode cX3_lacks 20 = .ok (.iaload, 1) := dk_46 (dk_at dksX3_lacks_0 20 rfl rfl)
theorem dX3_lacks_21 : decode cX3_lacks 21 = .ok (.iload_n 2, 1) := dk_28 (dk_at dksX3_lacks_0 21 rfl rfl)
theorem dX3_lacks_22 : decode cX3_lacks 22 = .ok (.if_icmp .eq 9, 3) := dk_159 0 9 (dk_at dksX3_lacks_1 0 rfl rfl)
theorem dX3_lacks_25 : decode cX3_lacks 25 = .ok (.aload_n 0, 1) := dk_42 (dk_at dksX3_lacks_1 3 rfl rfl)
theorem dX3_lacks_26 : decode cX3_lacks 26 = .ok (.iconst 3, 1) := dk_6 (dk_at dksX3_lacks_1 4 rfl rfl)
theorem dX3_lacks_27 : decode cX3_lacks 27 = .ok (.invokevirtual 256, 3) := dk_182 1 0 (dk_at dksX3_lacks_1 5 rfl rfl)
theorem dX3_lacks_30 : decode cX3_lacks 30 = .ok (.ireturn, 1) := dk_172 (dk_at dksX3_lacks_1 8 rfl rfl)
theorem dX3_lacks_31 : decode cX3_lacks 31 = .ok (.iload_n 3, 1) := dk_29 (dk_at dksX3_lacks_1 9 rfl rfl)
theorem dX3_lacks_32 : decode cX3_lacks 32 = .ok (.i2l, 1) := dk_133 (dk_at dksX3_lacks_1 10 rfl rfl)
theorem dX3_lacks_33 : decode cX3_lacks 33 = .ok (.lconst 0, 1) := dk_9 (dk_at dksX3_lacks_1 11 rfl rfl)
theorem dX3_lacks_34 : decode cX3_lacks 34 = .ok (.aload_n 0, 1) := dk_42 (dk_at dksX3_lacks_1 12 rfl rfl)
theorem dX3_lacks_35 : decode cX3_lacks 35 = .ok (.getfield 94, 3) := dk_180 0 94 (dk_at dksX3_lacks_1 13 rfl rfl)
theorem dX3_lacks_38 : decode cX3_lacks 38 = .ok (.iload_n 1, 1) := dk_27 (dk_at dksX3_lacks_1 16 rfl rfl)
theorem dX3_lacks_39 : decode cX3_lacks 39 = .ok (.iaload, 1) := dk_46 (dk_at dksX3_lacks_1 17 rfl rfl)
theorem dX3_lacks_40 : decode cX3_lacks 40 = .ok (.iconst 1, 1) := dk_4 (dk_at dksX3_lacks_1 18 rfl rfl)
theorem dX3_lacks_41 : decode cX3_lacks 41 = .ok (.isub, 1) := dk_100 (dk_at dksX3_lacks_1 19 rfl rfl)
theorem dX3_lacks_42 : decode cX3_lacks 42 = .ok (.i2l, 1) := dk_133 (dk_at dksX3_lacks_1 20 rfl rfl)
theorem dX3_lacks_43 : decode cX3_lacks 43 = .ok (.invokestatic 107, 3) := dk_184 0 107 (dk_at dksX3_lacks_1 21 rfl rfl)
theorem dX3_lacks_46 : decode cX3_lacks 46 = .ok (.ifCond .eq 7, 3) := dk_153 0 7 (dk_at dksX3_lacks_2 0 rfl rfl)
theorem dX3_lacks_49 : decode cX3_lacks 49 = .ok (.iconst 0, 1) := dk_3 (dk_at dksX3_lacks_2 3 rfl rfl)
theorem dX3_lacks_50 : decode cX3_lacks 50 = .ok (.goto 8, 3) := dk_167 0 8 (dk_at dksX3_lacks_2 4 rfl rfl)
theorem dX3_lacks_53 : decode cX3_lacks 53 = .ok (.aload_n 0, 1) := dk_42 (dk_at dksX3_lacks_2 7 rfl rfl)
theorem dX3_lacks_54 : decode cX3_lacks 54 = .ok (.iconst 2, 1) := dk_5 (dk_at dksX3_lacks_2 8 rfl rfl)
theorem dX3_lacks_55 : decode cX3_lacks 55 = .ok (.invokevirtual 256, 3) := dk_182 1 0 (dk_at dksX3_lacks_2 9 rfl rfl)
theorem dX3_lacks_58 : decode cX3_lacks 58 = .ok (.ireturn, 1) := dk_172 (dk_at dksX3_lacks_2 12 rfl rfl)
abbrev cX3_get : ByteArray := prog_12_method_60_code
def yX3_get : MethodName := ⟨RX3, "get", "(III)I"⟩
def dkwX3_get_1 : List UInt8 := [182, 1, 11, 153, 0, 6, 18, 231, 172, 42, 180, 0, 97, 16, 60, 27, 104, 29, 96, 46, 172]
abbrev dktX3_get_1 : List UInt8 := dkwX3_get_1 ++ []
def dkwX3_get_0 : List UInt8 := [27, 184, 0, 253, 153, 0, 25, 28, 133, 9, 20, 0, 105, 184, 0, 107, 153, 0, 13, 42, 27, 28, 29]
abbrev dktX3_get_0 : List UInt8 := dkwX3_get_0 ++ dktX3_get_1
theorem dksX3_get_0 : cX3_get.data.toList.drop 0 = dktX3_get_0 := by decide +kernel
theorem dksX3_get_1 : cX3_get.data.toList.drop 23 = dktX3_get_1 := dk_seg dksX3_get_0 23 rfl rfl
theorem dX3_get_0 : decode cX3_get 0 = .ok (.iload_n 1, 1) := dk_27 (dk_at dksX3_get_0 0 rfl rfl)
theorem dX3_get_1 : decode cX3_get 1 = .ok (.invokestatic 253, 3) := dk_184 0 253 (dk_at dksX3_get_0 1 rfl rfl)
theorem dX3_get_4 : decode cX3_get 4 = .ok (.ifCond .eq 25, 3) := dk_153 0 25 (dk_at dksX3_get_0 4 rfl rfl)
theorem dX3_get_7 : decode cX3_get 7 = .ok (.iload_n 2, 1) := dk_28 (dk_at dksX3_get_0 7 rfl rfl)
theorem dX3_get_8 : decode cX3_get 8 = .ok (.i2l, 1) := dk_133 (dk_at dksX3_get_0 8 rfl rfl)
theorem dX3_get_9 : decode cX3_get 9 = .ok (.lconst 0, 1) := dk_9 (dk_at dksX3_get_0 9 rfl rfl)
theorem dX3_get_10 : decode cX3_get 10 = .ok (.ldc2_w 105, 3) := dk_20 0 105 (dk_at dksX3_get_0 10 rfl rfl)
theorem dX3_get_13 : decode cX3_get 13 = .ok (.invokestatic 107, 3) := dk_184 0 107 (dk_at dksX3_get_0 13 rfl rfl)
theorem dX3_get_16 : decode cX3_get 16 = .ok (.ifCond .eq 13, 3) := dk_153 0 13 (dk_at dksX3_get_0 16 rfl rfl)
theorem dX3_get_19 : decode cX3_get 19 = .ok (.aload_n 0, 1) := dk_42 (dk_at dksX3_get_0 19 rfl rfl)
theorem dX3_get_20 : decode cX3_get 20 = .ok (.iload_n 1, 1) := dk_27 (dk_at dksX3_get_0 20 rfl rfl)
theorem dX3_get_21 : decode cX3_get 21 = .ok (.iload_n 2, 1) := dk_28 (dk_at dksX3_get_0 21 rfl rfl)
theorem dX3_get_22 : decode cX3_get 22 = .ok (.iload_n 3, 1) := dk_29 (dk_at dksX3_get_0 22 rfl rfl)
theorem dX3_get_23 : decode cX3_get 23 = .ok (.invokevirtual 267, 3) := dk_182 1 11 (dk_at dksX3_get_1 0 rfl rfl)
theorem dX3_get_26 : decode cX3_get 26 = .ok (.ifCond .eq 6, 3) := dk_153 0 6 (dk_at dksX3_get_1 3 rfl rfl)
theorem dX3_get_29 : decode cX3_get 29 = .ok (.ldc 231, 2) := dk_18 231 (dk_at dksX3_get_1 6 rfl rfl)
theorem dX3_get_31 : decode cX3_get 31 = .ok (.ireturn, 1) := dk_172 (dk_at dksX3_get_1 8 rfl rfl)
theorem dX3_get_32 : decode cX3_get 32 = .ok (.aload_n 0, 1) := dk_42 (dk_at dksX3_get_1 9 rfl rfl)
theorem dX3_get_33 : decode cX3_get 33 = .ok (.getfield 97, 3) := dk_180 0 97 (dk_at dksX3_get_1 10 rfl rfl)
theorem dX3_get_36 : decode cX3_get 36 = .ok (.bipush 60, 2) := dk_16 60 (dk_at dksX3_get_1 13 rfl rfl)
theorem dX3_get_38 : decode cX3_get 38 = .ok (.iload_n 1, 1) := dk_27 (dk_at dksX3_get_1 15 rfl rfl)
theorem dX3_get_39 : decode cX3_get 39 = .ok (.imul, 1) := dk_104 (dk_at dksX3_get_1 16 rfl rfl)
theorem dX3_get_40 : decode cX3_get 40 = .ok (.iload_n 3, 1) := dk_29 (dk_at dksX3_get_1 17 rfl rfl)
theorem dX3_get_41 : decode cX3_get 41 = .ok (.iadd, 1) := dk_96 (dk_at dksX3_get_1 18 rfl rfl)
theorem dX3_get_42 : decode cX3_get 42 = .ok (.iaload, 1) := dk_46 (dk_at dksX3_get_1 19 rfl rfl)
theorem dX3_get_43 : decode cX3_get 43 = .ok (.ireturn, 1) := dk_172 (dk_at dksX3_get_1 20 rfl rfl)
abbrev cX3_copy : ByteArray := prog_12_method_61_code
def yX3_copy : MethodName := ⟨RX3, "copy", "(IIIII)I"⟩
def dkwX3_copy_8 : List UInt8 := [167, 255, 224, 4, 172]
abbrev dktX3_copy_8 : List UInt8 := dkwX3_copy_8 ++ []
def dkwX3_copy_7 : List UInt8 := [180, 0, 97, 16, 60, 29, 104, 21, 4, 96, 21, 6, 96, 42, 180, 0, 100, 21, 6, 46, 79, 132, 6, 1]
abbrev dktX3_copy_7 : List UInt8 := dkwX3_copy_7 ++ dktX3_copy_8
def dkwX3_copy_6 : List UInt8 := [96, 21, 6, 96, 46, 79, 132, 6, 1, 167, 255, 225, 3, 54, 6, 21, 6, 21, 5, 162, 0, 31, 42]
abbrev dktX3_copy_6 : List UInt8 := dkwX3_copy_6 ++ dktX3_copy_7
def dkwX3_copy_5 : List UInt8 := [54, 6, 21, 6, 21, 5, 162, 0, 30, 42, 180, 0, 100, 21, 6, 42, 180, 0, 97, 16, 60, 27, 104, 28]
abbrev dktX3_copy_5 : List UInt8 := dkwX3_copy_5 ++ dktX3_copy_6
def dkwX3_copy_4 : List UInt8 := [133, 21, 5, 133, 97, 42, 180, 0, 94, 29, 46, 133, 148, 158, 0, 9, 42, 5, 182, 1, 0, 172, 3]
abbrev dktX3_copy_4 : List UInt8 := dkwX3_copy_4 ++ dktX3_copy_5
def dkwX3_copy_3 : List UInt8 := [21, 5, 155, 0, 38, 28, 133, 21, 5, 133, 97, 42, 180, 0, 94, 27, 46, 133, 148, 157, 0, 21, 21, 4]
abbrev dktX3_copy_3 : List UInt8 := dkwX3_copy_3 ++ dktX3_copy_4
def dkwX3_copy_2 : List UInt8 := [42, 180, 0, 91, 29, 46, 159, 0, 9, 42, 7, 182, 1, 0, 172, 28, 155, 0, 48, 21, 4, 155, 0, 43]
abbrev dktX3_copy_2 : List UInt8 := dkwX3_copy_2 ++ dktX3_copy_3
def dkwX3_copy_1 : List UInt8 := [155, 0, 12, 42, 180, 0, 91, 29, 46, 156, 0, 9, 42, 4, 182, 1, 0, 172, 42, 180, 0, 91, 27, 46]
abbrev dktX3_copy_1 : List UInt8 := dkwX3_copy_1 ++ dktX3_copy_2
def dkwX3_copy_0 : List UInt8 := [27, 184, 0, 253, 153, 0, 10, 29, 184, 0, 253, 154, 0, 6, 16, 254, 172, 42, 180, 0, 91, 27, 46]
abbrev dktX3_copy_0 : List UInt8 := dkwX3_copy_0 ++ dktX3_copy_1
theorem dksX3_copy_0 : cX3_copy.data.toList.drop 0 = dktX3_copy_0 := by decide +kernel
theorem dksX3_copy_1 : cX3_copy.data.toList.drop 23 = dktX3_copy_1 := dk_seg dksX3_copy_0 23 rfl rfl
theorem dksX3_copy_2 : cX3_copy.data.toList.drop 47 = dktX3_copy_2 := dk_seg dksX3_copy_1 24 rfl rfl
theorem dksX3_copy_3 : cX3_copy.data.toList.drop 71 = dktX3_copy_3 := dk_seg dksX3_copy_2 24 rfl rfl
theorem dksX3_copy_4 : cX3_copy.data.toList.drop 95 = dktX3_copy_4 := dk_seg dksX3_copy_3 24 rfl rfl
theorem dksX3_copy_5 : cX3_copy.data.toList.drop 118 = dktX3_copy_5 := dk_seg dksX3_copy_4 23 rfl rfl
theorem dksX3_copy_6 : cX3_copy.data.toList.drop 142 = dktX3_copy_6 := dk_seg dksX3_copy_5 24 rfl rfl
theorem dksX3_copy_7 : cX3_copy.data.toList.drop 165 = dktX3_copy_7 := dk_seg dksX3_copy_6 23 rfl rfl
theorem dksX3_copy_8 : cX3_copy.data.toList.drop 189 = dktX3_copy_8 := dk_seg dksX3_copy_7 24 rfl rfl
theorem dX3_copy_0 : decode cX3_copy 0 = .ok (.iload_n 1, 1) := dk_27 (dk_at dksX3_copy_0 0 rfl rfl)
theorem dX3_copy_1 : decode cX3_copy 1 = .ok (.invokestatic 253, 3) := dk_184 0 253 (dk_at dksX3_copy_0 1 rfl rfl)
theorem dX3_copy_4 : decode cX3_copy 4 = .ok (.ifCond .eq 10, 3) := dk_153 0 10 (dk_at dksX3_copy_0 4 rfl rfl)
theorem dX3_copy_7 : decode cX3_copy 7 = .ok (.iload_n 3, 1) := dk_29 (dk_at dksX3_copy_0 7 rfl rfl)
theorem dX3_copy_8 : decode cX3_copy 8 = .ok (.invokestatic 253, 3) := dk_184 0 253 (dk_at dksX3_copy_0 8 rfl rfl)
theorem dX3_copy_11 : decode cX3_copy 11 = .ok (.ifCond .ne 6, 3) := dk_154 0 6 (dk_at dksX3_copy_0 11 rfl rfl)
theorem dX3_copy_14 : decode cX3_copy 14 = .ok (.bipush (-2), 2) := dk_16 254 (dk_at dksX3_copy_0 14 rfl rfl)
theorem dX3_copy_16 : decode cX3_copy 16 = .ok (.ireturn, 1) := dk_172 (dk_at dksX3_copy_0 16 rfl rfl)
theorem dX3_copy_17 : decode cX3_copy 17 = .ok (.aload_n 0, 1) := dk_42 (dk_at dksX3_copy_0 17 rfl rfl)
theorem dX3_copy_18 : decode cX3_copy 18 = .ok (.getfield 91, 3) := dk_180 0 91 (dk_at dksX3_copy_0 18 rfl rfl)
theorem dX3_copy_21 : decode cX3_copy 21 = .ok (.iload_n 1, 1) := dk_27 (dk_at dksX3_copy_0 21 rfl rfl)
theorem dX3_copy_22 : decode cX3_copy 22 = .ok (.iaload, 1) := dk_46 (dk_at dksX3_copy_0 22 rfl rfl)
theorem dX3_copy_23 : decode cX3_copy 23 = .ok (.ifCond .lt 12, 3) := dk_155 0 12 (dk_at dksX3_copy_1 0 rfl rfl)
theorem dX3_copy_26 : decode cX3_copy 26 = .ok (.aload_n 0, 1) := dk_42 (dk_at dksX3_copy_1 3 rfl rfl)
theorem dX3_copy_27 : decode cX3_copy 27 = .ok (.getfield 91, 3) := dk_180 0 91 (dk_at dksX3_copy_1 4 rfl rfl)
theorem dX3_copy_30 : decode cX3_copy 30 = .ok (.iload_n 3, 1) := dk_29 (dk_at dksX3_copy_1 7 rfl rfl)
theorem dX3_copy_31 : decode cX3_copy 31 = .ok (.iaload, 1) := dk_46 (dk_at dksX3_copy_1 8 rfl rfl)
theorem dX3_copy_32 : decode cX3_copy 32 = .ok (.ifCond .ge 9, 3) := dk_156 0 9 (dk_at dksX3_copy_1 9 rfl rfl)
theorem dX3_copy_35 : decode cX3_copy 35 = .ok (.aload_n 0, 1) := dk_42 (dk_at dksX3_copy_1 12 rfl rfl)
theorem dX3_copy_36 : decode cX3_copy 36 = .ok (.iconst 1, 1) := dk_4 (dk_at dksX3_copy_1 13 rfl rfl)
theorem dX3_copy_37 : decode cX3_copy 37 = .ok (.invokevirtual 256, 3) := dk_182 1 0 (dk_at dksX3_copy_1 14 rfl rfl)
theorem dX3_copy_40 : decode cX3_copy 40 = .ok (.ireturn, 1) := dk_172 (dk_at dksX3_copy_1 17 rfl rfl)
theorem dX3_copy_41 : decode cX3_copy 41 = .ok (.aload_n 0, 1) := dk_42 (dk_at dksX3_copy_1 18 rfl rfl)
theorem dX3_copy_42 : decode cX3_copy 42 = .ok (.getfield 91, 3) := dk_180 0 91 (dk_at dksX3_copy_1 19 rfl rfl)
theorem dX3_copy_45 : decode cX3_copy 45 = .ok (.iload_n 1, 1) := dk_27 (dk_at dksX3_copy_1 22 rfl rfl)
theorem dX3_copy_46 : decode cX3_copy 46 = .ok (.iaload, 1) := dk_46 (dk_at dksX3_copy_1 23 rfl rfl)
theorem dX3_copy_47 : decode cX3_copy 47 = .ok (.aload_n 0, 1) := dk_42 (dk_at dksX3_copy_2 0 rfl rfl)
theorem dX3_copy_48 : decode cX3_copy 48 = .ok (.getfield 91, 3) := dk_180 0 91 (dk_at dksX3_copy_2 1 rfl rfl)
theorem dX3_copy_51 : decode cX3_copy 51 = .ok (.iload_n 3, 1) := dk_29 (dk_at dksX3_copy_2 4 rfl rfl)
theorem dX3_copy_52 : decode cX3_copy 52 = .ok (.iaload, 1) := dk_46 (dk_at dksX3_copy_2 5 rfl rfl)
theorem dX3_copy_53 : decode cX3_copy 53 = .ok (.if_icmp .eq 9, 3) := dk_159 0 9 (dk_at dksX3_copy_2 6 rfl rfl)
theorem dX3_copy_56 : decode cX3_copy 56 = .ok (.aload_n 0, 1) := dk_42 (dk_at dksX3_copy_2 9 rfl rfl)
theorem dX3_copy_57 : decode cX3_copy 57 = .ok (.iconst 4, 1) := dk_7 (dk_at dksX3_copy_2 10 rfl rfl)
theorem dX3_copy_58 : decode cX3_copy 58 = .ok (.invokevirtual 256, 3) := dk_182 1 0 (dk_at dksX3_copy_2 11 rfl rfl)
theorem dX3_copy_61 : decode cX3_copy 61 = .ok (.ireturn, 1) := dk_172 (dk_at dksX3_copy_2 14 rfl rfl)
theorem dX3_copy_62 : decode cX3_copy 62 = .ok (.iload_n 2, 1) := dk_28 (dk_at dksX3_copy_2 15 rfl rfl)
theorem dX3_copy_63 : decode cX3_copy 63 = .ok (.ifCond .lt 48, 3) := dk_155 0 48 (dk_at dksX3_copy_2 16 rfl rfl)
theorem dX3_copy_66 : decode cX3_copy 66 = .ok (.iload 4, 2) := dk_21 4 (dk_at dksX3_copy_2 19 rfl rfl)
theorem dX3_copy_68 : decode cX3_copy 68 = .ok (.ifCond .lt 43, 3) := dk_155 0 43 (dk_at dksX3_copy_2 21 rfl rfl)
theorem dX3_copy_71 : decode cX3_copy 71 = .ok (.iload 5, 2) := dk_21 5 (dk_at dksX3_copy_3 0 rfl rfl)
theorem dX3_copy_73 : decode cX3_copy 73 = .ok (.ifCond .lt 38, 3) := dk_155 0 38 (dk_at dksX3_copy_3 2 rfl rfl)
theorem dX3_copy_76 : decode cX3_copy 76 = .ok (.iload_n 2, 1) := dk_28 (dk_at dksX3_copy_3 5 rfl rfl)
theorem dX3_copy_77 : decode cX3_copy 77 = .ok (.i2l, 1) := dk_133 (dk_at dksX3_copy_3 6 rfl rfl)
theorem dX3_copy_78 : decode cX3_copy 78 = .ok (.iload 5, 2) := dk_21 5 (dk_at dksX3_copy_3 7 rfl rfl)
theorem dX3_copy_80 : decode cX3_copy 80 = .ok (.i2l, 1) := dk_133 (dk_at dksX3_copy_3 9 rfl rfl)
theorem dX3_copy_81 : decode cX3_copy 81 = .ok (.ladd, 1) := dk_97 (dk_at dksX3_copy_3 10 rfl rfl)
theorem dX3_copy_82 : decode cX3_copy 82 = .ok (.aload_n 0, 1) := dk_42 (dk_at dksX3_copy_3 11 rfl rfl)
theorem dX3_copy_83 : decode cX3_copy 83 = .ok (.getfield 94, 3) := dk_180 0 94 (dk_at dksX3_copy_3 12 rfl rfl)
theorem dX3_copy_86 : decode cX3_copy 86 = .ok (.iload_n 1, 1) := dk_27 (dk_at dksX3_copy_3 15 rfl rfl)
theorem dX3_copy_87 : decode cX3_copy 87 = .ok (.iaload, 1) := dk_46 (dk_at dksX3_copy_3 16 rfl rfl)
theorem dX3_copy_88 : decode cX3_copy 88 = .ok (.i2l, 1) := dk_133 (dk_at dksX3_copy_3 17 rfl rfl)
theorem dX3_copy_89 : decode cX3_copy 89 = .ok (.lcmp, 1) := dk_148 (dk_at dksX3_copy_3 18 rfl rfl)
theorem dX3_copy_90 : decode cX3_copy 90 = .ok (.ifCond .gt 21, 3) := dk_157 0 21 (dk_at dksX3_copy_3 19 rfl rfl)
theorem dX3_copy_93 : decode cX3_copy 93 = .ok (.iload 4, 2) := dk_21 4 (dk_at dksX3_copy_3 22 rfl rfl)
theorem dX3_copy_95 : decode cX3_copy 95 = .ok (.i2l, 1) := dk_133 (dk_at dksX3_copy_4 0 rfl rfl)
theorem dX3_copy_96 : decode cX3_copy 96 = .ok (.iload 5, 2) := dk_21 5 (dk_at dksX3_copy_4 1 rfl rfl)
theorem dX3_copy_98 : decode cX3_copy 98 = .ok (.i2l, 1) := dk_133 (dk_at dksX3_copy_4 3 rfl rfl)
theorem dX3_copy_99 : decode cX3_copy 99 = .ok (.ladd, 1) := dk_97 (dk_at dksX3_copy_4 4 rfl rfl)
theorem dX3_copy_100 : decode cX3_copy 100 = .ok (.aload_n 0, 1) := dk_42 (dk_at dksX3_copy_4 5 rfl rfl)
theorem dX3_copy_101 : decode cX3_copy 101 = .ok (.getfield 94, 3) := dk_180 0 94 (dk_at dksX3_copy_4 6 rfl rfl)
theorem dX3_copy_104 : decode cX3_copy 104 = .ok (.iload_n 3, 1) := dk_29 (dk_at dksX3_copy_4 9 rfl rfl)
theorem dX3_copy_105 : decode cX3_copy 105 = .ok (.iaload, 1) := dk_46 (dk_at dksX3_copy_4 10 rfl rfl)
theorem dX3_copy_106 : decode cX3_copy 106 = .ok (.i2l, 1) := dk_133 (dk_at dksX3_copy_4 11 rfl rfl)
theorem dX3_copy_107 : decode cX3_copy 107 = .ok (.lcmp, 1) := dk_148 (dk_at dksX3_copy_4 12 rfl rfl)
theorem dX3_copy_108 : decode cX3_copy 108 = .ok (.ifCond .le 9, 3) := dk_158 0 9 (dk_at dksX3_copy_4 13 rfl rfl)
theorem dX3_copy_111 : decode cX3_copy 111 = .ok (.aload_n 0, 1) := dk_42 (dk_at dksX3_copy_4 16 rfl rfl)
theorem dX3_copy_112 : decode cX3_copy 112 = .ok (.iconst 2, 1) := dk_5 (dk_at dksX3_copy_4 17 rfl rfl)
theorem dX3_copy_113 : decode cX3_copy 113 = .ok (.invokevirtual 256, 3) := dk_182 1 0 (dk_at dksX3_copy_4 18 rfl rfl)
theorem dX3_copy_116 : decode cX3_copy 116 = .ok (.ireturn, 1) := dk_172 (dk_at dksX3_copy_4 21 rfl rfl)
theorem dX3_copy_117 : decode cX3_copy 117 = .ok (.iconst 0, 1) := dk_3 (dk_at dksX3_copy_4 22 rfl rfl)
theorem dX3_copy_118 : decode cX3_copy 118 = .ok (.istore 6, 2) := dk_54 6 (dk_at dksX3_copy_5 0 rfl rfl)
theorem dX3_copy_120 : decode cX3_copy 120 = .ok (.iload 6, 2) := dk_21 6 (dk_at dksX3_copy_5 2 rfl rfl)
theorem dX3_copy_122 : decode cX3_copy 122 = .ok (.iload 5, 2) := dk_21 5 (dk_at dksX3_copy_5 4 rfl rfl)
theorem dX3_copy_124 : decode cX3_copy 124 = .ok (.if_icmp .ge 30, 3) := dk_162 0 30 (dk_at dksX3_copy_5 6 rfl rfl)
theorem dX3_copy_127 : decode cX3_copy 127 = .ok (.aload_n 0, 1) := dk_42 (dk_at dksX3_copy_5 9 rfl rfl)
theorem dX3_copy_128 : decode cX3_copy 128 = .ok (.getfield 100, 3) := dk_180 0 100 (dk_at dksX3_copy_5 10 rfl rfl)
theorem dX3_copy_131 : decode cX3_copy 131 = .ok (.iload 6, 2) := dk_21 6 (dk_at dksX3_copy_5 13 rfl rfl)
theorem dX3_copy_133 : decode cX3_copy 133 = .ok (.aload_n 0, 1) := dk_42 (dk_at dksX3_copy_5 15 rfl rfl)
theorem dX3_copy_134 : decode cX3_copy 134 = .ok (.getfield 97, 3) := dk_180 0 97 (dk_at dksX3_copy_5 16 rfl rfl)
theorem dX3_copy_137 : decode cX3_copy 137 = .ok (.bipush 60, 2) := dk_16 60 (dk_at dksX3_copy_5 19 rfl rfl)
theorem dX3_copy_139 : decode cX3_copy 139 = .ok (.iload_n 1, 1) := dk_27 (dk_at dksX3_copy_5 21 rfl rfl)
theorem dX3_copy_140 : decode cX3_copy 140 = .ok (.imul, 1) := dk_104 (dk_at dksX3_copy_5 22 rfl rfl)
theorem dX3_copy_141 : decode cX3_copy 141 = .ok (.iload_n 2, 1) := dk_28 (dk_at dksX3_copy_5 23 rfl rfl)
theorem dX3_copy_142 : decode cX3_copy 142 = .ok (.iadd, 1) := dk_96 (dk_at dksX3_copy_6 0 rfl rfl)
theorem dX3_copy_143 : decode cX3_copy 143 = .ok (.iload 6, 2) := dk_21 6 (dk_at dksX3_copy_6 1 rfl rfl)
theorem dX3_copy_145 : decode cX3_copy 145 = .ok (.iadd, 1) := dk_96 (dk_at dksX3_copy_6 3 rfl rfl)
theorem dX3_copy_146 : decode cX3_copy 146 = .ok (.iaload, 1) := dk_46 (dk_at dksX3_copy_6 4 rfl rfl)
theorem dX3_copy_147 : decode cX3_copy 147 = .ok (.iastore, 1) := dk_79 (dk_at dksX3_copy_6 5 rfl rfl)
theorem dX3_copy_148 : decode cX3_copy 148 = .ok (.iinc 6 1, 3) := dk_132 6 1 (dk_at dksX3_copy_6 6 rfl rfl)
theorem dX3_copy_151 : decode cX3_copy 151 = .ok (.goto (-31), 3) := dk_167 255 225 (dk_at dksX3_copy_6 9 rfl rfl)
theorem dX3_copy_154 : decode cX3_copy 154 = .ok (.iconst 0, 1) := dk_3 (dk_at dksX3_copy_6 12 rfl rfl)
theorem dX3_copy_155 : decode cX3_copy 155 = .ok (.istore 6, 2) := dk_54 6 (dk_at dksX3_copy_6 13 rfl rfl)
theorem dX3_copy_157 : decode cX3_copy 157 = .ok (.iload 6, 2) := dk_21 6 (dk_at dksX3_copy_6 15 rfl rfl)
theorem dX3_copy_159 : decode cX3_copy 159 = .ok (.iload 5, 2) := dk_21 5 (dk_at dksX3_copy_6 17 rfl rfl)
theorem dX3_copy_161 : decode cX3_copy 161 = .ok (.if_icmp .ge 31, 3) := dk_162 0 31 (dk_at dksX3_copy_6 19 rfl rfl)
theorem dX3_copy_164 : decode cX3_copy 164 = .ok (.aload_n 0, 1) := dk_42 (dk_at dksX3_copy_6 22 rfl rfl)
theorem dX3_copy_165 : decode cX3_copy 165 = .ok (.getfield 97, 3) := dk_180 0 97 (dk_at dksX3_copy_7 0 rfl rfl)
theorem dX3_copy_168 : decode cX3_copy 168 = .ok (.bipush 60, 2) := dk_16 60 (dk_at dksX3_copy_7 3 rfl rfl)
theorem dX3_copy_170 : decode cX3_copy 170 = .ok (.iload_n 3, 1) := dk_29 (dk_at dksX3_copy_7 5 rfl rfl)
theorem dX3_copy_171 : decode cX3_copy 171 = .ok (.imul, 1) := dk_104 (dk_at dksX3_copy_7 6 rfl rfl)
theorem dX3_copy_172 : decode cX3_copy 172 = .ok (.iload 4, 2) := dk_21 4 (dk_at dksX3_copy_7 7 rfl rfl)
theorem dX3_copy_174 : decode cX3_copy 174 = .ok (.iadd, 1) := dk_96 (dk_at dksX3_copy_7 9 rfl rfl)
theorem dX3_copy_175 : decode cX3_copy 175 = .ok (.iload 6, 2) := dk_21 6 (dk_at dksX3_copy_7 10 rfl rfl)
theorem dX3_copy_177 : decode cX3_copy 177 = .ok (.iadd, 1) := dk_96 (dk_at dksX3_copy_7 12 rfl rfl)
theorem dX3_copy_178 : decode cX3_copy 178 = .ok (.aload_n 0, 1) := dk_42 (dk_at dksX3_copy_7 13 rfl rfl)
theorem dX3_copy_179 : decode cX3_copy 179 = .ok (.getfield 100, 3) := dk_180 0 100 (dk_at dksX3_copy_7 14 rfl rfl)
theorem dX3_copy_182 : decode cX3_copy 182 = .ok (.iload 6, 2) := dk_21 6 (dk_at dksX3_copy_7 17 rfl rfl)
theorem dX3_copy_184 : decode cX3_copy 184 = .ok (.iaload, 1) := dk_46 (dk_at dksX3_copy_7 19 rfl rfl)
theorem dX3_copy_185 : decode cX3_copy 185 = .ok (.iastore, 1) := dk_79 (dk_at dksX3_copy_7 20 rfl rfl)
theorem dX3_copy_186 : decode cX3_copy 186 = .ok (.iinc 6 1, 3) := dk_132 6 1 (dk_at dksX3_copy_7 21 rfl rfl)
theorem dX3_copy_189 : decode cX3_copy 189 = .ok (.goto (-32), 3) := dk_167 255 224 (dk_at dksX3_copy_8 0 rfl rfl)
theorem dX3_copy_192 : decode cX3_copy 192 = .ok (.iconst 1, 1) := dk_4 (dk_at dksX3_copy_8 3 rfl rfl)
theorem dX3_copy_193 : decode cX3_copy 193 = .ok (.ireturn, 1) := dk_172 (dk_at dksX3_copy_8 4 rfl rfl)
abbrev cX3_shake : ByteArray := prog_12_method_62_code
def yX3_shake : MethodName := ⟨RX3, "shake", "(II)I"⟩
def dkwX3_shake_3 : List UInt8 := [96, 79, 132, 4, 1, 167, 255, 211, 42, 180, 0, 94, 27, 46, 172]
abbrev dktX3_shake_3 : List UInt8 := dkwX3_shake_3 ++ []
def dkwX3_shake_2 : List UInt8 := [17, 48, 57, 96, 62, 42, 180, 0, 97, 16, 60, 27, 104, 21, 4, 96, 4, 29, 16, 16, 124, 16, 6, 112]
abbrev dktX3_shake_2 : List UInt8 := dkwX3_shake_2 ++ dktX3_shake_3
def dkwX3_shake_1 : List UInt8 := [172, 28, 62, 3, 54, 4, 21, 4, 42, 180, 0, 94, 27, 46, 162, 0, 40, 19, 1, 14, 29, 104]
abbrev dktX3_shake_1 : List UInt8 := dkwX3_shake_1 ++ dktX3_shake_2
def dkwX3_shake_0 : List UInt8 := [27, 184, 0, 253, 154, 0, 6, 16, 254, 172, 42, 180, 0, 91, 27, 46, 156, 0, 9, 42, 4, 182, 1, 0]
abbrev dktX3_shake_0 : List UInt8 := dkwX3_shake_0 ++ dktX3_shake_1
theorem dksX3_shake_0 : cX3_shake.data.toList.drop 0 = dktX3_shake_0 := by decide +kernel
theorem dksX3_shake_1 : cX3_shake.data.toList.drop 24 = dktX3_shake_1 := dk_seg dksX3_shake_0 24 rfl rfl
theorem dksX3_shake_2 : cX3_shake.data.toList.drop 46 = dktX3_shake_2 := dk_seg dksX3_shake_1 22 rfl rfl
theorem dksX3_shake_3 : cX3_shake.data.toList.drop 70 = dktX3_shake_3 := dk_seg dksX3_shake_2 24 rfl rfl
theorem dX3_shake_0 : decode cX3_shake 0 = .ok (.iload_n 1, 1) := dk_27 (dk_at dksX3_shake_0 0 rfl rfl)
theorem dX3_shake_1 : decode cX3_shake 1 = .ok (.invokestatic 253, 3) := dk_184 0 253 (dk_at dksX3_shake_0 1 rfl rfl)
theorem dX3_shake_4 : decode cX3_shake 4 = .ok (.ifCond .ne 6, 3) := dk_154 0 6 (dk_at dksX3_shake_0 4 rfl rfl)
theorem dX3_shake_7 : decode cX3_shake 7 = .ok (.bipush (-2), 2) := dk_16 254 (dk_at dksX3_shake_0 7 rfl rfl)
theorem dX3_shake_9 : decode cX3_shake 9 = .ok (.ireturn, 1) := dk_172 (dk_at dksX3_shake_0 9 rfl rfl)
theorem dX3_shake_10 : decode cX3_shake 10 = .ok (.aload_n 0, 1) := dk_42 (dk_at dksX3_shake_0 10 rfl rfl)
theorem dX3_shake_11 : decode cX3_shake 11 = .ok (.getfield 91, 3) := dk_180 0 91 (dk_at dksX3_shake_0 11 rfl rfl)
theorem dX3_shake_14 : decode cX3_shake 14 = .ok (.iload_n 1, 1) := dk_27 (dk_at dksX3_shake_0 14 rfl rfl)
theorem dX3_shake_15 : decode cX3_shake 15 = .ok (.iaload, 1) := dk_46 (dk_at dksX3_shake_0 15 rfl rfl)
theorem dX3_shake_16 : decode cX3_shake 16 = .ok (.ifCond .ge 9, 3) := dk_156 0 9 (dk_at dksX3_shake_0 16 rfl rfl)
theorem dX3_shake_19 : decode cX3_shake 19 = .ok (.aload_n 0, 1) := dk_42 (dk_at dksX3_shake_0 19 rfl rfl)
theorem dX3_shake_20 : decode cX3_shake 20 = .ok (.iconst 1, 1) := dk_4 (dk_at dksX3_shake_0 20 rfl rfl)
theorem dX3_shake_21 : decode cX3_shake 21 = .ok (.invokevirtual 256, 3) := dk_182 1 0 (dk_at dksX3_shake_0 21 rfl rfl)
theorem dX3_shake_24 : decode cX3_shake 24 = .ok (.ireturn, 1) := dk_172 (dk_at dksX3_shake_1 0 rfl rfl)
theorem dX3_shake_25 : decode cX3_shake 25 = .ok (.iload_n 2, 1) := dk_28 (dk_at dksX3_shake_1 1 rfl rfl)
theorem dX3_shake_26 : decode cX3_shake 26 = .ok (.istore_n 3, 1) := dk_62 (dk_at dksX3_shake_1 2 rfl rfl)
theorem dX3_shake_27 : decode cX3_shake 27 = .ok (.iconst 0, 1) := dk_3 (dk_at dksX3_shake_1 3 rfl rfl)
theorem dX3_shake_28 : decode cX3_shake 28 = .ok (.istore 4, 2) := dk_54 4 (dk_at dksX3_shake_1 4 rfl rfl)
theorem dX3_shake_30 : decode cX3_shake 30 = .ok (.iload 4, 2) := dk_21 4 (dk_at dksX3_shake_1 6 rfl rfl)
theorem dX3_shake_32 : decode cX3_shake 32 = .ok (.aload_n 0, 1) := dk_42 (dk_at dksX3_shake_1 8 rfl rfl)
theorem dX3_shake_33 : decode cX3_shake 33 = .ok (.getfield 94, 3) := dk_180 0 94 (dk_at dksX3_shake_1 9 rfl rfl)
theorem dX3_shake_36 : decode cX3_shake 36 = .ok (.iload_n 1, 1) := dk_27 (dk_at dksX3_shake_1 12 rfl rfl)
theorem dX3_shake_37 : decode cX3_shake 37 = .ok (.iaload, 1) := dk_46 (dk_at dksX3_shake_1 13 rfl rfl)
theorem dX3_shake_38 : decode cX3_shake 38 = .ok (.if_icmp .ge 40, 3) := dk_162 0 40 (dk_at dksX3_shake_1 14 rfl rfl)
theorem dX3_shake_41 : decode cX3_shake 41 = .ok (.ldc_w 270, 3) := dk_19 1 14 (dk_at dksX3_shake_1 17 rfl rfl)
theorem dX3_shake_44 : decode cX3_shake 44 = .ok (.iload_n 3, 1) := dk_29 (dk_at dksX3_shake_1 20 rfl rfl)
theorem dX3_shake_45 : decode cX3_shake 45 = .ok (.imul, 1) := dk_104 (dk_at dksX3_shake_1 21 rfl rfl)
theorem dX3_shake_46 : decode cX3_shake 46 = .ok (.sipush 12345, 3) := dk_17 48 57 (dk_at dksX3_shake_2 0 rfl rfl)
theorem dX3_shake_49 : decode cX3_shake 49 = .ok (.iadd, 1) := dk_96 (dk_at dksX3_shake_2 3 rfl rfl)
theorem dX3_shake_50 : decode cX3_shake 50 = .ok (.istore_n 3, 1) := dk_62 (dk_at dksX3_shake_2 4 rfl rfl)
theorem dX3_shake_51 : decode cX3_shake 51 = .ok (.aload_n 0, 1) := dk_42 (dk_at dksX3_shake_2 5 rfl rfl)
theorem dX3_shake_52 : decode cX3_shake 52 = .ok (.getfield 97, 3) := dk_180 0 97 (dk_at dksX3_shake_2 6 rfl rfl)
theorem dX3_shake_55 : decode cX3_shake 55 = .ok (.bipush 60, 2) := dk_16 60 (dk_at dksX3_shake_2 9 rfl rfl)
theorem dX3_shake_57 : decode cX3_shake 57 = .ok (.iload_n 1, 1) := dk_27 (dk_at dksX3_shake_2 11 rfl rfl)
theorem dX3_shake_58 : decode cX3_shake 58 = .ok (.imul, 1) := dk_104 (dk_at dksX3_shake_2 12 rfl rfl)
theorem dX3_shake_59 : decode cX3_shake 59 = .ok (.iload 4, 2) := dk_21 4 (dk_at dksX3_shake_2 13 rfl rfl)
theorem dX3_shake_61 : decode cX3_shake 61 = .ok (.iadd, 1) := dk_96 (dk_at dksX3_shake_2 15 rfl rfl)
theorem dX3_shake_62 : decode cX3_shake 62 = .ok (.iconst 1, 1) := dk_4 (dk_at dksX3_shake_2 16 rfl rfl)
theorem dX3_shake_63 : decode cX3_shake 63 = .ok (.iload_n 3, 1) := dk_29 (dk_at dksX3_shake_2 17 rfl rfl)
theorem dX3_shake_64 : decode cX3_shake 64 = .ok (.bipush 16, 2) := dk_16 16 (dk_at dksX3_shake_2 18 rfl rfl)
theorem dX3_shake_66 : decode cX3_shake 66 = .ok (.iushr, 1) := dk_124 (dk_at dksX3_shake_2 20 rfl rfl)
theorem dX3_shake_67 : decode cX3_shake 67 = .ok (.bipush 6, 2) := dk_16 6 (dk_at dksX3_shake_2 21 rfl rfl)
theorem dX3_shake_69 : decode cX3_shake 69 = .ok (.irem, 1) := dk_112 (dk_at dksX3_shake_2 23 rfl rfl)
theorem dX3_shake_70 : decode cX3_shake 70 = .ok (.iadd, 1) := dk_96 (dk_at dksX3_shake_3 0 rfl rfl)
theorem dX3_shake_71 : decode cX3_shake 71 = .ok (.iastore, 1) := dk_79 (dk_at dksX3_shake_3 1 rfl rfl)
theorem dX3_shake_72 : decode cX3_shake 72 = .ok (.iinc 4 1, 3) := dk_132 4 1 (dk_at dksX3_shake_3 2 rfl rfl)
theorem dX3_shake_75 : decode cX3_shake 75 = .ok (.goto (-45), 3) := dk_167 255 211 (dk_at dksX3_shake_3 5 rfl rfl)
theorem dX3_shake_78 : decode cX3_shake 78 = .ok (.aload_n 0, 1) := dk_42 (dk_at dksX3_shake_3 8 rfl rfl)
theorem dX3_shake_79 : decode cX3_shake 79 = .ok (.getfield 94, 3) := dk_180 0 94 (dk_at dksX3_shake_3 9 rfl rfl)
theorem dX3_shake_82 : decode cX3_shake 82 = .ok (.iload_n 1, 1) := dk_27 (dk_at dksX3_shake_3 12 rfl rfl)
theorem dX3_shake_83 : decode cX3_shake 83 = .ok (.iaload, 1) := dk_46 (dk_at dksX3_shake_3 13 rfl rfl)
theorem dX3_shake_84 : decode cX3_shake 84 = .ok (.ireturn, 1) := dk_172 (dk_at dksX3_shake_3 14 rfl rfl)
abbrev cX3_count : ByteArray := prog_12_method_63_code
def yX3_count : MethodName := ⟨RX3, "count", "(I)I"⟩
def dkwX3_count_5 : List UInt8 := [42, 180, 0, 20, 172, 42, 180, 0, 70, 172, 42, 180, 0, 73, 172, 16, 254, 172]
abbrev dktX3_count_5 : List UInt8 := dkwX3_count_5 ++ []
def dkwX3_count_4 : List UInt8 := [184, 0, 138, 172, 42, 180, 0, 16, 172, 42, 180, 0, 142, 172, 42, 180, 0, 236, 172, 42, 180, 1, 6, 172]
abbrev dktX3_count_4 : List UInt8 := dkwX3_count_4 ++ dktX3_count_5
def dkwX3_count_3 : List UInt8 := [184, 0, 138, 172, 42, 180, 0, 13, 6, 46, 42, 180, 0, 13, 7, 46, 42, 180, 0, 13, 8, 46]
abbrev dktX3_count_3 : List UInt8 := dkwX3_count_3 ++ dktX3_count_4
def dkwX3_count_2 : List UInt8 := [42, 180, 0, 119, 172, 42, 180, 0, 13, 3, 46, 42, 180, 0, 13, 4, 46, 42, 180, 0, 13, 5, 46]
abbrev dktX3_count_2 : List UInt8 := dkwX3_count_2 ++ dktX3_count_3
def dkwX3_count_1 : List UInt8 := [170, 0, 0, 0, 0, 0, 139, 0, 0, 0, 0, 0, 0, 0, 9, 0, 0, 0, 55, 0, 0, 0, 60, 0, 0, 0, 82, 0, 0, 0, 104, 0, 0, 0, 109, 0, 0, 0, 114, 0, 0, 0, 119, 0, 0, 0, 124, 0, 0, 0, 129, 0, 0, 0, 134]
abbrev dktX3_count_1 : List UInt8 := dkwX3_count_1 ++ dktX3_count_2
def dkwX3_count_0 : List UInt8 := [27]
abbrev dktX3_count_0 : List UInt8 := dkwX3_count_0 ++ dktX3_count_1
theorem dksX3_count_0 : cX3_count.data.toList.drop 0 = dktX3_count_0 := by decide +kernel
theorem dksX3_count_1 : cX3_count.data.toList.drop 1 = dktX3_count_1 := dk_seg dksX3_count_0 1 rfl rfl
theorem dksX3_count_2 : cX3_count.data.toList.drop 56 = dktX3_count_2 := dk_seg dksX3_count_1 55 rfl rfl
theorem dksX3_count_3 : cX3_count.data.toList.drop 79 = dktX3_count_3 := dk_seg dksX3_count_2 23 rfl rfl
theorem dksX3_count_4 : cX3_count.data.toList.drop 101 = dktX3_count_4 := dk_seg dksX3_count_3 22 rfl rfl
theorem dksX3_count_5 : cX3_count.data.toList.drop 125 = dktX3_count_5 := dk_seg dksX3_count_4 24 rfl rfl
theorem dX3_count_0 : decode cX3_count 0 = .ok (.iload_n 1, 1) := dk_27 (dk_at dksX3_count_0 0 rfl rfl)
theorem dX3_count_1 : decode cX3_count 1 = .ok (.tableswitch 139 0 9 #[55, 60, 82, 104, 109, 114, 119, 124, 129, 134], 55) := by decide +kernel
theorem dX3_count_56 : decode cX3_count 56 = .ok (.aload_n 0, 1) := dk_42 (dk_at dksX3_count_2 0 rfl rfl)
theorem dX3_count_57 : decode cX3_count 57 = .ok (.getfield 119, 3) := dk_180 0 119 (dk_at dksX3_count_2 1 rfl rfl)
theorem dX3_count_60 : decode cX3_count 60 = .ok (.ireturn, 1) := dk_172 (dk_at dksX3_count_2 4 rfl rfl)
theorem dX3_count_61 : decode cX3_count 61 = .ok (.aload_n 0, 1) := dk_42 (dk_at dksX3_count_2 5 rfl rfl)
theorem dX3_count_62 : decode cX3_count 62 = .ok (.getfield 13, 3) := dk_180 0 13 (dk_at dksX3_count_2 6 rfl rfl)
theorem dX3_count_65 : decode cX3_count 65 = .ok (.iconst 0, 1) := dk_3 (dk_at dksX3_count_2 9 rfl rfl)
theorem dX3_count_66 : decode cX3_count 66 = .ok (.iaload, 1) := dk_46 (dk_at dksX3_count_2 10 rfl rfl)
theorem dX3_count_67 : decode cX3_count 67 = .ok (.aload_n 0, 1) := dk_42 (dk_at dksX3_count_2 11 rfl rfl)
theorem dX3_count_68 : decode cX3_count 68 = .ok (.getfield 13, 3) := dk_180 0 13 (dk_at dksX3_count_2 12 rfl rfl)
theorem dX3_count_71 : decode cX3_count 71 = .ok (.iconst 1, 1) := dk_4 (dk_at dksX3_count_2 15 rfl rfl)
theorem dX3_count_72 : decode cX3_count 72 = .ok (.iaload, 1) := dk_46 (dk_at dksX3_count_2 16 rfl rfl)
theorem dX3_count_73 : decode cX3_count 73 = .ok (.aload_n 0, 1) := dk_42 (dk_at dksX3_count_2 17 rfl rfl)
theorem dX3_count_74 : decode cX3_count 74 = .ok (.getfield 13, 3) := dk_180 0 13 (dk_at dksX3_count_2 18 rfl rfl)
theorem dX3_count_77 : decode cX3_count 77 = .ok (.iconst 2, 1) := dk_5 (dk_at dksX3_count_2 21 rfl rfl)
theorem dX3_count_78 : decode cX3_count 78 = .ok (.iaload, 1) := dk_46 (dk_at dksX3_count_2 22 rfl rfl)
theorem dX3_count_79 : decode cX3_count 79 = .ok (.invokestatic 138, 3) := dk_184 0 138 (dk_at dksX3_count_3 0 rfl rfl)
theorem dX3_count_82 : decode cX3_count 82 = .ok (.ireturn, 1) := dk_172 (dk_at dksX3_count_3 3 rfl rfl)
theorem dX3_count_83 : decode cX3_count 83 = .ok (.aload_n 0, 1) := dk_42 (dk_at dksX3_count_3 4 rfl rfl)
theorem dX3_count_84 : decode cX3_count 84 = .ok (.getfield 13, 3) := dk_180 0 13 (dk_at dksX3_count_3 5 rfl rfl)
theorem dX3_count_87 : decode cX3_count 87 = .ok (.iconst 3, 1) := dk_6 (dk_at dksX3_count_3 8 rfl rfl)
theorem dX3_count_88 : decode cX3_count 88 = .ok (.iaload, 1) := dk_46 (dk_at dksX3_count_3 9 rfl rfl)
theorem dX3_count_89 : decode cX3_count 89 = .ok (.aload_n 0, 1) := dk_42 (dk_at dksX3_count_3 10 rfl rfl)
theorem dX3_count_90 : decode cX3_count 90 = .ok (.getfield 13, 3) := dk_180 0 13 (dk_at dksX3_count_3 11 rfl rfl)
theorem dX3_count_93 : decode cX3_count 93 = .ok (.iconst 4, 1) := dk_7 (dk_at dksX3_count_3 14 rfl rfl)
theorem dX3_count_94 : decode cX3_count 94 = .ok (.iaload, 1) := dk_46 (dk_at dksX3_count_3 15 rfl rfl)
theorem dX3_count_95 : decode cX3_count 95 = .ok (.aload_n 0, 1) := dk_42 (dk_at dksX3_count_3 16 rfl rfl)
theorem dX3_count_96 : decode cX3_count 96 = .ok (.getfield 13, 3) := dk_180 0 13 (dk_at dksX3_count_3 17 rfl rfl)
theorem dX3_count_99 : decode cX3_count 99 = .ok (.iconst 5, 1) := dk_8 (dk_at dksX3_count_3 20 rfl rfl)
theorem dX3_count_100 : decode cX3_count 100 = .ok (.iaload, 1) := dk_46 (dk_at dksX3_count_3 21 rfl rfl)
theorem dX3_count_101 : decode cX3_count 101 = .ok (.invokestatic 138, 3) := dk_184 0 138 (dk_at dksX3_count_4 0 rfl rfl)
theorem dX3_count_104 : decode cX3_count 104 = .ok (.ireturn, 1) := dk_172 (dk_at dksX3_count_4 3 rfl rfl)
theorem dX3_count_105 : decode cX3_count 105 = .ok (.aload_n 0, 1) := dk_42 (dk_at dksX3_count_4 4 rfl rfl)
theorem dX3_count_106 : decode cX3_count 106 = .ok (.getfield 16, 3) := dk_180 0 16 (dk_at dksX3_count_4 5 rfl rfl)
theorem dX3_count_109 : decode cX3_count 109 = .ok (.ireturn, 1) := dk_172 (dk_at dksX3_count_4 8 rfl rfl)
theorem dX3_count_110 : decode cX3_count 110 = .ok (.aload_n 0, 1) := dk_42 (dk_at dksX3_count_4 9 rfl rfl)
theorem dX3_count_111 : decode cX3_count 111 = .ok (.getfield 142, 3) := dk_180 0 142 (dk_at dksX3_count_4 10 rfl rfl)
theorem dX3_count_114 : decode cX3_count 114 = .ok (.ireturn, 1) := dk_172 (dk_at dksX3_count_4 13 rfl rfl)
theorem dX3_count_115 : decode cX3_count 115 = .ok (.aload_n 0, 1) := dk_42 (dk_at dksX3_count_4 14 rfl rfl)
theorem dX3_count_116 : decode cX3_count 116 = .ok (.getfield 236, 3) := dk_180 0 236 (dk_at dksX3_count_4 15 rfl rfl)
theorem dX3_count_119 : decode cX3_count 119 = .ok (.ireturn, 1) := dk_172 (dk_at dksX3_count_4 18 rfl rfl)
theorem dX3_count_120 : decode cX3_count 120 = .ok (.aload_n 0, 1) := dk_42 (dk_at dksX3_count_4 19 rfl rfl)
theorem dX3_count_121 : decode cX3_count 121 = .ok (.getfield 262, 3) := dk_180 1 6 (dk_at dksX3_count_4 20 rfl rfl)
theorem dX3_count_124 : decode cX3_count 124 = .ok (.ireturn, 1) := dk_172 (dk_at dksX3_count_4 23 rfl rfl)
theorem dX3_count_125 : decode cX3_count 125 = .ok (.aload_n 0, 1) := dk_42 (dk_at dksX3_count_5 0 rfl rfl)
theorem dX3_count_126 : decode cX3_count 126 = .ok (.getfield 20, 3) := dk_180 0 20 (dk_at dksX3_count_5 1 rfl rfl)
theorem dX3_count_129 : decode cX3_count 129 = .ok (.ireturn, 1) := dk_172 (dk_at dksX3_count_5 4 rfl rfl)
theorem dX3_count_130 : decode cX3_count 130 = .ok (.aload_n 0, 1) := dk_42 (dk_at dksX3_count_5 5 rfl rfl)
theorem dX3_count_131 : decode cX3_count 131 = .ok (.getfield 70, 3) := dk_180 0 70 (dk_at dksX3_count_5 6 rfl rfl)
theorem dX3_count_134 : decode cX3_count 134 = .ok (.ireturn, 1) := dk_172 (dk_at dksX3_count_5 9 rfl rfl)
theorem dX3_count_135 : decode cX3_count 135 = .ok (.aload_n 0, 1) := dk_42 (dk_at dksX3_count_5 10 rfl rfl)
theorem dX3_count_136 : decode cX3_count 136 = .ok (.getfield 73, 3) := dk_180 0 73 (dk_at dksX3_count_5 11 rfl rfl)
theorem dX3_count_139 : decode cX3_count 139 = .ok (.ireturn, 1) := dk_172 (dk_at dksX3_count_5 14 rfl rfl)
theorem dX3_count_140 : decode cX3_count 140 = .ok (.bipush (-2), 2) := dk_16 254 (dk_at dksX3_count_5 15 rfl rfl)
theorem dX3_count_142 : decode cX3_count 142 = .ok (.ireturn, 1) := dk_172 (dk_at dksX3_count_5 17 rfl rfl)
abbrev cX3_digest : ByteArray := prog_12_method_64_code
def yX3_digest : MethodName := ⟨RX3, "digest", "()J"⟩
def dkwX3_digest_5 : List UInt8 := [180, 0, 82, 29, 46, 133, 97, 64, 132, 3, 1, 167, 255, 234, 31, 173]
abbrev dktX3_digest_5 : List UInt8 := dkwX3_digest_5 ++ []
def dkwX3_digest_4 : List UInt8 := [46, 133, 97, 64, 132, 3, 1, 167, 255, 233, 3, 62, 29, 6, 162, 0, 23, 20, 0, 159, 31, 105, 42]
abbrev dktX3_digest_4 : List UInt8 := dkwX3_digest_4 ++ dktX3_digest_5
def dkwX3_digest_3 : List UInt8 := [132, 3, 1, 167, 255, 228, 3, 62, 29, 16, 6, 162, 0, 23, 20, 0, 159, 31, 105, 42, 180, 0, 13, 29]
abbrev dktX3_digest_3 : List UInt8 := dkwX3_digest_3 ++ dktX3_digest_4
def dkwX3_digest_2 : List UInt8 := [42, 180, 0, 119, 104, 162, 0, 23, 20, 0, 159, 31, 105, 42, 180, 0, 7, 29, 46, 133, 97, 64]
abbrev dktX3_digest_2 : List UInt8 := dkwX3_digest_2 ++ dktX3_digest_3
def dkwX3_digest_1 : List UInt8 := [20, 0, 159, 31, 105, 42, 29, 182, 1, 17, 133, 97, 64, 132, 3, 1, 167, 255, 224, 3, 62, 29, 16, 6]
abbrev dktX3_digest_1 : List UInt8 := dkwX3_digest_1 ++ dktX3_digest_2
def dkwX3_digest_0 : List UInt8 := [20, 1, 15, 64, 3, 62, 29, 16, 10, 162, 0, 32, 29, 16, 6, 160, 0, 7, 31, 167, 0, 15]
abbrev dktX3_digest_0 : List UInt8 := dkwX3_digest_0 ++ dktX3_digest_1
theorem dksX3_digest_0 : cX3_digest.data.toList.drop 0 = dktX3_digest_0 := by decide +kernel
theorem dksX3_digest_1 : cX3_digest.data.toList.drop 22 = dktX3_digest_1 := dk_seg dksX3_digest_0 22 rfl rfl
theorem dksX3_digest_2 : cX3_digest.data.toList.drop 46 = dktX3_digest_2 := dk_seg dksX3_digest_1 24 rfl rfl
theorem dksX3_digest_3 : cX3_digest.data.toList.drop 68 = dktX3_digest_3 := dk_seg dksX3_digest_2 22 rfl rfl
theorem dksX3_digest_4 : cX3_digest.data.toList.drop 92 = dktX3_digest_4 := dk_seg dksX3_digest_3 24 rfl rfl
theorem dksX3_digest_5 : cX3_digest.data.toList.drop 115 = dktX3_digest_5 := dk_seg dksX3_digest_4 23 rfl rfl
theorem dX3_digest_0 : decode cX3_digest 0 = .ok (.ldc2_w 271, 3) := dk_20 1 15 (dk_at dksX3_digest_0 0 rfl rfl)
theorem dX3_digest_3 : decode cX3_digest 3 = .ok (.lstore_n 1, 1) := dk_64 (dk_at dksX3_digest_0 3 rfl rfl)
theorem dX3_digest_4 : decode cX3_digest 4 = .ok (.iconst 0, 1) := dk_3 (dk_at dksX3_digest_0 4 rfl rfl)
theorem dX3_digest_5 : decode cX3_digest 5 = .ok (.istore_n 3, 1) := dk_62 (dk_at dksX3_digest_0 5 rfl rfl)
theorem dX3_digest_6 : decode cX3_digest 6 = .ok (.iload_n 3, 1) := dk_29 (dk_at dksX3_digest_0 6 rfl rfl)
theorem dX3_digest_7 : decode cX3_digest 7 = .ok (.bipush 10, 2) := dk_16 10 (dk_at dksX3_digest_0 7 rfl rfl)
theorem dX3_digest_9 : decode cX3_digest 9 = .ok (.if_icmp .ge 32, 3) := dk_162 0 32 (dk_at dksX3_digest_0 9 rfl rfl)
theorem dX3_digest_12 : decode cX3_digest 12 = .ok (.iload_n 3, 1) := dk_29 (dk_at dksX3_digest_0 12 rfl rfl)
theorem dX3_digest_13 : decode cX3_digest 13 = .ok (.bipush 6, 2) := dk_16 6 (dk_at dksX3_digest_0 13 rfl rfl)
theorem dX3_digest_15 : decode cX3_digest 15 = .ok (.if_icmp .ne 7, 3) := dk_160 0 7 (dk_at dksX3_digest_0 15 rfl rfl)
theorem dX3_digest_18 : decode cX3_digest 18 = .ok (.lload_n 1, 1) := dk_31 (dk_at dksX3_digest_0 18 rfl rfl)
theorem dX3_digest_19 : decode cX3_digest 19 = .ok (.goto 15, 3) := dk_167 0 15 (dk_at dksX3_digest_0 19 rfl rfl)
theorem dX3_digest_22 : decode cX3_digest 22 = .ok (.ldc2_w 159, 3) := dk_20 0 159 (dk_at dksX3_digest_1 0 rfl rfl)
theorem dX3_digest_25 : decode cX3_digest 25 = .ok (.lload_n 1, 1) := dk_31 (dk_at dksX3_digest_1 3 rfl rfl)
theorem dX3_digest_26 : decode cX3_digest 26 = .ok (.lmul, 1) := dk_105 (dk_at dksX3_digest_1 4 rfl rfl)
theorem dX3_digest_27 : decode cX3_digest 27 = .ok (.aload_n 0, 1) := dk_42 (dk_at dksX3_digest_1 5 rfl rfl)
theorem dX3_digest_28 : decode cX3_digest 28 = .ok (.iload_n 3, 1) := dk_29 (dk_at dksX3_digest_1 6 rfl rfl)
theorem dX3_digest_29 : decode cX3_digest 29 = .ok (.invokevirtual 273, 3) := dk_182 1 17 (dk_at dksX3_digest_1 7 rfl rfl)
theorem dX3_digest_32 : decode cX3_digest 32 = .ok (.i2l, 1) := dk_133 (dk_at dksX3_digest_1 10 rfl rfl)
theorem dX3_digest_33 : decode cX3_digest 33 = .ok (.ladd, 1) := dk_97 (dk_at dksX3_digest_1 11 rfl rfl)
theorem dX3_digest_34 : decode cX3_digest 34 = .ok (.lstore_n 1, 1) := dk_64 (dk_at dksX3_digest_1 12 rfl rfl)
theorem dX3_digest_35 : decode cX3_digest 35 = .ok (.iinc 3 1, 3) := dk_132 3 1 (dk_at dksX3_digest_1 13 rfl rfl)
theorem dX3_digest_38 : decode cX3_digest 38 = .ok (.goto (-32), 3) := dk_167 255 224 (dk_at dksX3_digest_1 16 rfl rfl)
theorem dX3_digest_41 : decode cX3_digest 41 = .ok (.iconst 0, 1) := dk_3 (dk_at dksX3_digest_1 19 rfl rfl)
theorem dX3_digest_42 : decode cX3_digest 42 = .ok (.istore_n 3, 1) := dk_62 (dk_at dksX3_digest_1 20 rfl rfl)
theorem dX3_digest_43 : decode cX3_digest 43 = .ok (.iload_n 3, 1) := dk_29 (dk_at dksX3_digest_1 21 rfl rfl)
theorem dX3_digest_44 : decode cX3_digest 44 = .ok (.bipush 6, 2) := dk_16 6 (dk_at dksX3_digest_1 22 rfl rfl)
theorem dX3_digest_46 : decode cX3_digest 46 = .ok (.aload_n 0, 1) := dk_42 (dk_at dksX3_digest_2 0 rfl rfl)
theorem dX3_digest_47 : decode cX3_digest 47 = .ok (.getfield 119, 3) := dk_180 0 119 (dk_at dksX3_digest_2 1 rfl rfl)
theorem dX3_digest_50 : decode cX3_digest 50 = .ok (.imul, 1) := dk_104 (dk_at dksX3_digest_2 4 rfl rfl)
theorem dX3_digest_51 : decode cX3_digest 51 = .ok (.if_icmp .ge 23, 3) := dk_162 0 23 (dk_at dksX3_digest_2 5 rfl rfl)
theorem dX3_digest_54 : decode cX3_digest 54 = .ok (.ldc2_w 159, 3) := dk_20 0 159 (dk_at dksX3_digest_2 8 rfl rfl)
theorem dX3_digest_57 : decode cX3_digest 57 = .ok (.lload_n 1, 1) := dk_31 (dk_at dksX3_digest_2 11 rfl rfl)
theorem dX3_digest_58 : decode cX3_digest 58 = .ok (.lmul, 1) := dk_105 (dk_at dksX3_digest_2 12 rfl rfl)
theorem dX3_digest_59 : decode cX3_digest 59 = .ok (.aload_n 0, 1) := dk_42 (dk_at dksX3_digest_2 13 rfl rfl)
theorem dX3_digest_60 : decode cX3_digest 60 = .ok (.getfield 7, 3) := dk_180 0 7 (dk_at dksX3_digest_2 14 rfl rfl)
theorem dX3_digest_63 : decode cX3_digest 63 = .ok (.iload_n 3, 1) := dk_29 (dk_at dksX3_digest_2 17 rfl rfl)
theorem dX3_digest_64 : decode cX3_digest 64 = .ok (.iaload, 1) := dk_46 (dk_at dksX3_digest_2 18 rfl rfl)
theorem dX3_digest_65 : decode cX3_digest 65 = .ok (.i2l, 1) := dk_133 (dk_at dksX3_digest_2 19 rfl rfl)
theorem dX3_digest_66 : decode cX3_digest 66 = .ok (.ladd, 1) := dk_97 (dk_at dksX3_digest_2 20 rfl rfl)
theorem dX3_digest_67 : decode cX3_digest 67 = .ok (.lstore_n 1, 1) := dk_64 (dk_at dksX3_digest_2 21 rfl rfl)
theorem dX3_digest_68 : decode cX3_digest 68 = .ok (.iinc 3 1, 3) := dk_132 3 1 (dk_at dksX3_digest_3 0 rfl rfl)
theorem dX3_digest_71 : decode cX3_digest 71 = .ok (.goto (-28), 3) := dk_167 255 228 (dk_at dksX3_digest_3 3 rfl rfl)
theorem dX3_digest_74 : decode cX3_digest 74 = .ok (.iconst 0, 1) := dk_3 (dk_at dksX3_digest_3 6 rfl rfl)
theorem dX3_digest_75 : decode cX3_digest 75 = .ok (.istore_n 3, 1) := dk_62 (dk_at dksX3_digest_3 7 rfl rfl)
theorem dX3_digest_76 : decode cX3_digest 76 = .ok (.iload_n 3, 1) := dk_29 (dk_at dksX3_digest_3 8 rfl rfl)
theorem dX3_digest_77 : decode cX3_digest 77 = .ok (.bipush 6, 2) := dk_16 6 (dk_at dksX3_digest_3 9 rfl rfl)
theorem dX3_digest_79 : decode cX3_digest 79 = .ok (.if_icmp .ge 23, 3) := dk_162 0 23 (dk_at dksX3_digest_3 11 rfl rfl)
theorem dX3_digest_82 : decode cX3_digest 82 = .ok (.ldc2_w 159, 3) := dk_20 0 159 (dk_at dksX3_digest_3 14 rfl rfl)
theorem dX3_digest_85 : decode cX3_digest 85 = .ok (.lload_n 1, 1) := dk_31 (dk_at dksX3_digest_3 17 rfl rfl)
theorem dX3_digest_86 : decode cX3_digest 86 = .ok (.lmul, 1) := dk_105 (dk_at dksX3_digest_3 18 rfl rfl)
theorem dX3_digest_87 : decode cX3_digest 87 = .ok (.aload_n 0, 1) := dk_42 (dk_at dksX3_digest_3 19 rfl rfl)
theorem dX3_digest_88 : decode cX3_digest 88 = .ok (.getfield 13, 3) := dk_180 0 13 (dk_at dksX3_digest_3 20 rfl rfl)
theorem dX3_digest_91 : decode cX3_digest 91 = .ok (.iload_n 3, 1) := dk_29 (dk_at dksX3_digest_3 23 rfl rfl)
theorem dX3_digest_92 : decode cX3_digest 92 = .ok (.iaload, 1) := dk_46 (dk_at dksX3_digest_4 0 rfl rfl)
theorem dX3_digest_93 : decode cX3_digest 93 = .ok (.i2l, 1) := dk_133 (dk_at dksX3_digest_4 1 rfl rfl)
theorem dX3_digest_94 : decode cX3_digest 94 = .ok (.ladd, 1) := dk_97 (dk_at dksX3_digest_4 2 rfl rfl)
theorem dX3_digest_95 : decode cX3_digest 95 = .ok (.lstore_n 1, 1) := dk_64 (dk_at dksX3_digest_4 3 rfl rfl)
theorem dX3_digest_96 : decode cX3_digest 96 = .ok (.iinc 3 1, 3) := dk_132 3 1 (dk_at dksX3_digest_4 4 rfl rfl)
theorem dX3_digest_99 : decode cX3_digest 99 = .ok (.goto (-23), 3) := dk_167 255 233 (dk_at dksX3_digest_4 7 rfl rfl)
theorem dX3_digest_102 : decode cX3_digest 102 = .ok (.iconst 0, 1) := dk_3 (dk_at dksX3_digest_4 10 rfl rfl)
theorem dX3_digest_103 : decode cX3_digest 103 = .ok (.istore_n 3, 1) := dk_62 (dk_at dksX3_digest_4 11 rfl rfl)
theorem dX3_digest_104 : decode cX3_digest 104 = .ok (.iload_n 3, 1) := dk_29 (dk_at dksX3_digest_4 12 rfl rfl)
theorem dX3_digest_105 : decode cX3_digest 105 = .ok (.iconst 3, 1) := dk_6 (dk_at dksX3_digest_4 13 rfl rfl)
theorem dX3_digest_106 : decode cX3_digest 106 = .ok (.if_icmp .ge 23, 3) := dk_162 0 23 (dk_at dksX3_digest_4 14 rfl rfl)
theorem dX3_digest_109 : decode cX3_digest 109 = .ok (.ldc2_w 159, 3) := dk_20 0 159 (dk_at dksX3_digest_4 17 rfl rfl)
theorem dX3_digest_112 : decode cX3_digest 112 = .ok (.lload_n 1, 1) := dk_31 (dk_at dksX3_digest_4 20 rfl rfl)
theorem dX3_digest_113 : decode cX3_digest 113 = .ok (.lmul, 1) := dk_105 (dk_at dksX3_digest_4 21 rfl rfl)
theorem dX3_digest_114 : decode cX3_digest 114 = .ok (.aload_n 0, 1) := dk_42 (dk_at dksX3_digest_4 22 rfl rfl)
theorem dX3_digest_115 : decode cX3_digest 115 = .ok (.getfield 82, 3) := dk_180 0 82 (dk_at dksX3_digest_5 0 rfl rfl)
theorem dX3_digest_118 : decode cX3_digest 118 = .ok (.iload_n 3, 1) := dk_29 (dk_at dksX3_digest_5 3 rfl rfl)
theorem dX3_digest_119 : decode cX3_digest 119 = .ok (.iaload, 1) := dk_46 (dk_at dksX3_digest_5 4 rfl rfl)
theorem dX3_digest_120 : decode cX3_digest 120 = .ok (.i2l, 1) := dk_133 (dk_at dksX3_digest_5 5 rfl rfl)
theorem dX3_digest_121 : decode cX3_digest 121 = .ok (.ladd, 1) := dk_97 (dk_at dksX3_digest_5 6 rfl rfl)
theorem dX3_digest_122 : decode cX3_digest 122 = .ok (.lstore_n 1, 1) := dk_64 (dk_at dksX3_digest_5 7 rfl rfl)
theorem dX3_digest_123 : decode cX3_digest 123 = .ok (.iinc 3 1, 3) := dk_132 3 1 (dk_at dksX3_digest_5 8 rfl rfl)
theorem dX3_digest_126 : decode cX3_digest 126 = .ok (.goto (-22), 3) := dk_167 255 234 (dk_at dksX3_digest_5 11 rfl rfl)
theorem dX3_digest_129 : decode cX3_digest 129 = .ok (.lload_n 1, 1) := dk_31 (dk_at dksX3_digest_5 14 rfl rfl)
theorem dX3_digest_130 : decode cX3_digest 130 = .ok (.lreturn, 1) := dk_173 (dk_at dksX3_digest_5 15 rfl rfl)
theorem q46 : (Jvm.Cond.initialized "FairFightModel") ∈ lw_all := lw_g (lw_at lw_m1 7 rfl) rfl
theorem q563 : (Jvm.Cond.selects "FairFightModel" ({ cls := "java/lang/Object", name := "getClass", desc := "()Ljava/lang/Class;" } : Jvm.MethodName) ({ cls := "java/lang/Object", name := "getClass", desc := "()Ljava/lang/Class;" } : Jvm.MethodName)) ∈ lw_all := lw_g (lw_at lw_m3 44 rfl) rfl
theorem q883 : (Jvm.Cond.instantiable "FairFightModel" (41 : Nat)) ∈ lw_all := lw_g (lw_at lw_m4 124 rfl) rfl
theorem q885 : (Jvm.Cond.instanceMethod ({ cls := "FairFightModel", name := "<init>", desc := "()V" } : Jvm.MethodName)) ∈ lw_all := lw_g (lw_at lw_m4 126 rfl) rfl
theorem q886 : (Jvm.Cond.code ({ cls := "FairFightModel", name := "<init>", desc := "()V" } : Jvm.MethodName) prog_12_method_1_code (2 : Nat) (Option.none : Option Jvm.ClassFile.FieldType)) ∈ lw_all := lw_g (lw_at lw_m4 127 rfl) rfl
theorem q887 : (Jvm.Cond.methodLink "FairFightModel" (1 : Nat) ({ cls := "java/lang/Object", name := "<init>", desc := "()V" } : Jvm.MethodName)) ∈ lw_all := lw_g (lw_at lw_m4 128 rfl) rfl
theorem q888 : (Jvm.Cond.fieldLink "FairFightModel" (119 : Nat) "FairFightModel" "fighters" "I") ∈ lw_all := lw_g (lw_at lw_m4 129 rfl) rfl
theorem q889 : (Jvm.Cond.fieldLink "FairFightModel" (7 : Nat) "FairFightModel" "number" "[I") ∈ lw_all := lw_g (lw_at lw_m4 130 rfl) rfl
theorem q890 : (Jvm.Cond.fieldLink "FairFightModel" (13 : Nat) "FairFightModel" "side" "[I") ∈ lw_all := lw_g (lw_at lw_m4 131 rfl) rfl
theorem q891 : (Jvm.Cond.fieldLink "FairFightModel" (16 : Nat) "FairFightModel" "rounds" "I") ∈ lw_all := lw_g (lw_at lw_m4 132 rfl) rfl
theorem q892 : (Jvm.Cond.fieldLink "FairFightModel" (142 : Nat) "FairFightModel" "aim" "I") ∈ lw_all := lw_g (lw_at lw_m4 133 rfl) rfl
theorem q893 : (Jvm.Cond.fieldLink "FairFightModel" (20 : Nat) "FairFightModel" "surprise" "I") ∈ lw_all := lw_g (lw_at lw_m4 134 rfl) rfl
theorem q894 : (Jvm.Cond.fieldLink "FairFightModel" (23 : Nat) "FairFightModel" "who" "[I") ∈ lw_all := lw_g (lw_at lw_m4 135 rfl) rfl
theorem q895 : (Jvm.Cond.fieldLink "FairFightModel" (26 : Nat) "FairFightModel" "force" "[I") ∈ lw_all := lw_g (lw_at lw_m4 136 rfl) rfl
theorem q896 : (Jvm.Cond.fieldLink "FairFightModel" (145 : Nat) "FairFightModel" "startled" "I") ∈ lw_all := lw_g (lw_at lw_m4 137 rfl) rfl
theorem q897 : (Jvm.Cond.fieldLink "FairFightModel" (148 : Nat) "FairFightModel" "many" "I") ∈ lw_all := lw_g (lw_at lw_m4 138 rfl) rfl
theorem q898 : (Jvm.Cond.fieldLink "FairFightModel" (29 : Nat) "FairFightModel" "order" "[I") ∈ lw_all := lw_g (lw_at lw_m4 139 rfl) rfl
theorem q899 : (Jvm.Cond.fieldLink "FairFightModel" (32 : Nat) "FairFightModel" "life" "[I") ∈ lw_all := lw_g (lw_at lw_m4 140 rfl) rfl
theorem q900 : (Jvm.Cond.fieldLink "FairFightModel" (35 : Nat) "FairFightModel" "up" "[Z") ∈ lw_all := lw_g (lw_at lw_m4 141 rfl) rfl
theorem q901 : (Jvm.Cond.fieldLink "FairFightModel" (193 : Nat) "FairFightModel" "ahead" "I") ∈ lw_all := lw_g (lw_at lw_m4 142 rfl) rfl
theorem q902 : (Jvm.Cond.fieldLink "FairFightModel" (39 : Nat) "FairFightModel" "states" "[J") ∈ lw_all := lw_g (lw_at lw_m4 143 rfl) rfl
theorem q903 : (Jvm.Cond.fieldLink "FairFightModel" (43 : Nat) "FairFightModel" "ways" "[J") ∈ lw_all := lw_g (lw_at lw_m4 144 rfl) rfl
theorem q904 : (Jvm.Cond.fieldLink "FairFightModel" (169 : Nat) "FairFightModel" "behind" "I") ∈ lw_all := lw_g (lw_at lw_m4 145 rfl) rfl
theorem q905 : (Jvm.Cond.fieldLink "FairFightModel" (46 : Nat) "FairFightModel" "nextStates" "[J") ∈ lw_all := lw_g (lw_at lw_m4 146 rfl) rfl
theorem q906 : (Jvm.Cond.fieldLink "FairFightModel" (49 : Nat) "FairFightModel" "nextWays" "[J") ∈ lw_all := lw_g (lw_at lw_m4 147 rfl) rfl
theorem q907 : (Jvm.Cond.fieldLink "FairFightModel" (52 : Nat) "FairFightModel" "table" "[I") ∈ lw_all := lw_g (lw_at lw_m4 148 rfl) rfl
theorem q908 : (Jvm.Cond.fieldLink "FairFightModel" (55 : Nat) "FairFightModel" "ended" "[J") ∈ lw_all := lw_g (lw_at lw_m4 149 rfl) rfl
theorem q909 : (Jvm.Cond.fieldLink "FairFightModel" (58 : Nat) "FairFightModel" "endedIn" "[J") ∈ lw_all := lw_g (lw_at lw_m4 150 rfl) rfl
theorem q910 : (Jvm.Cond.fieldLink "FairFightModel" (61 : Nat) "FairFightModel" "lefts" "[J") ∈ lw_all := lw_g (lw_at lw_m4 151 rfl) rfl
theorem q911 : (Jvm.Cond.fieldLink "FairFightModel" (187 : Nat) "FairFightModel" "widest" "I") ∈ lw_all := lw_g (lw_at lw_m4 152 rfl) rfl
theorem q912 : (Jvm.Cond.fieldLink "FairFightModel" (64 : Nat) "FairFightModel" "powers" "[J") ∈ lw_all := lw_g (lw_at lw_m4 153 rfl) rfl
theorem q913 : (Jvm.Cond.fieldLink "FairFightModel" (236 : Nat) "FairFightModel" "fights" "I") ∈ lw_all := lw_g (lw_at lw_m4 154 rfl) rfl
theorem q914 : (Jvm.Cond.fieldLink "FairFightModel" (67 : Nat) "FairFightModel" "foes" "[I") ∈ lw_all := lw_g (lw_at lw_m4 155 rfl) rfl
theorem q915 : (Jvm.Cond.fieldLink "FairFightModel" (70 : Nat) "FairFightModel" "purse" "I") ∈ lw_all := lw_g (lw_at lw_m4 156 rfl) rfl
theorem q916 : (Jvm.Cond.fieldLink "FairFightModel" (73 : Nat) "FairFightModel" "bonus" "I") ∈ lw_all := lw_g (lw_at lw_m4 157 rfl) rfl
theorem q917 : (Jvm.Cond.fieldLink "FairFightModel" (76 : Nat) "FairFightModel" "chances" "[I") ∈ lw_all := lw_g (lw_at lw_m4 158 rfl) rfl
theorem q918 : (Jvm.Cond.fieldLink "FairFightModel" (242 : Nat) "FairFightModel" "bestUse" "I") ∈ lw_all := lw_g (lw_at lw_m4 159 rfl) rfl
theorem q919 : (Jvm.Cond.fieldLink "FairFightModel" (250 : Nat) "FairFightModel" "bands" "I") ∈ lw_all := lw_g (lw_at lw_m4 160 rfl) rfl
theorem q920 : (Jvm.Cond.fieldLink "FairFightModel" (79 : Nat) "FairFightModel" "band" "[I") ∈ lw_all := lw_g (lw_at lw_m4 161 rfl) rfl
theorem q921 : (Jvm.Cond.fieldLink "FairFightModel" (82 : Nat) "FairFightModel" "played" "[I") ∈ lw_all := lw_g (lw_at lw_m4 162 rfl) rfl
theorem q922 : (Jvm.Cond.fieldLink "FairFightModel" (85 : Nat) "FairFightModel" "playedWho" "[I") ∈ lw_all := lw_g (lw_at lw_m4 163 rfl) rfl
theorem q923 : (Jvm.Cond.fieldLink "FairFightModel" (88 : Nat) "FairFightModel" "playedLife" "[I") ∈ lw_all := lw_g (lw_at lw_m4 164 rfl) rfl
theorem q924 : (Jvm.Cond.fieldLink "FairFightModel" (91 : Nat) "FairFightModel" "forms" "[I") ∈ lw_all := lw_g (lw_at lw_m4 165 rfl) rfl
theorem q925 : (Jvm.Cond.fieldLink "FairFightModel" (94 : Nat) "FairFightModel" "sizes" "[I") ∈ lw_all := lw_g (lw_at lw_m4 166 rfl) rfl
theorem q926 : (Jvm.Cond.fieldLink "FairFightModel" (97 : Nat) "FairFightModel" "items" "[I") ∈ lw_all := lw_g (lw_at lw_m4 167 rfl) rfl
theorem q927 : (Jvm.Cond.fieldLink "FairFightModel" (100 : Nat) "FairFightModel" "moved" "[I") ∈ lw_all := lw_g (lw_at lw_m4 168 rfl) rfl
theorem q928 : (Jvm.Cond.fieldLink "FairFightModel" (262 : Nat) "FairFightModel" "latest" "I") ∈ lw_all := lw_g (lw_at lw_m4 169 rfl) rfl
theorem q929 : (Jvm.Cond.lays "FairFightModel" "FairFightModel" "fighters" "I") ∈ lw_all := lw_g (lw_at lw_m4 170 rfl) rfl
theorem q930 : (Jvm.Cond.soleField "FairFightModel" "fighters") ∈ lw_all := lw_g (lw_at lw_m4 171 rfl) rfl
theorem q931 : (Jvm.Cond.laysFinal "FairFightModel" "FairFightModel" "number" "[I") ∈ lw_all := lw_g (lw_at lw_m4 172 rfl) rfl
theorem q932 : (Jvm.Cond.soleField "FairFightModel" "number") ∈ lw_all := lw_g (lw_at lw_m4 173 rfl) rfl
theorem q933 : (Jvm.Cond.laysFinal "FairFightModel" "FairFightModel" "side" "[I") ∈ lw_all := lw_g (lw_at lw_m4 174 rfl) rfl
theorem q934 : (Jvm.Cond.soleField "FairFightModel" "side") ∈ lw_all := lw_g (lw_at lw_m4 175 rfl) rfl
theorem q935 : (Jvm.Cond.lays "FairFightModel" "FairFightModel" "rounds" "I") ∈ lw_all := lw_g (lw_at lw_m4 176 rfl) rfl
theorem q936 : (Jvm.Cond.soleField "FairFightModel" "rounds") ∈ lw_all := lw_g (lw_at lw_m4 177 rfl) rfl
theorem q937 : (Jvm.Cond.lays "FairFightModel" "FairFightModel" "aim" "I") ∈ lw_all := lw_g (lw_at lw_m4 178 rfl) rfl
theorem q938 : (Jvm.Cond.soleField "FairFightModel" "aim") ∈ lw_all := lw_g (lw_at lw_m4 179 rfl) rfl
theorem q939 : (Jvm.Cond.lays "FairFightModel" "FairFightModel" "surprise" "I") ∈ lw_all := lw_g (lw_at lw_m4 180 rfl) rfl
theorem q940 : (Jvm.Cond.soleField "FairFightModel" "surprise") ∈ lw_all := lw_g (lw_at lw_m4 181 rfl) rfl
theorem q941 : (Jvm.Cond.laysFinal "FairFightModel" "FairFightModel" "who" "[I") ∈ lw_all := lw_g (lw_at lw_m4 182 rfl) rfl
theorem q942 : (Jvm.Cond.soleField "FairFightModel" "who") ∈ lw_all := lw_g (lw_at lw_m4 183 rfl) rfl
theorem q943 : (Jvm.Cond.laysFinal "FairFightModel" "FairFightModel" "force" "[I") ∈ lw_all := lw_g (lw_at lw_m4 184 rfl) rfl
theorem q944 : (Jvm.Cond.soleField "FairFightModel" "force") ∈ lw_all := lw_g (lw_at lw_m4 185 rfl) rfl
theorem q945 : (Jvm.Cond.lays "FairFightModel" "FairFightModel" "startled" "I") ∈ lw_all := lw_g (lw_at lw_m4 186 rfl) rfl
theorem q946 : (Jvm.Cond.soleField "FairFightModel" "startled") ∈ lw_all := lw_g (lw_at lw_m4 187 rfl) rfl
theorem q947 : (Jvm.Cond.lays "FairFightModel" "FairFightModel" "many" "I") ∈ lw_all := lw_g (lw_at lw_m4 188 rfl) rfl
theorem q948 : (Jvm.Cond.soleField "FairFightModel" "many") ∈ lw_all := lw_g (lw_at lw_m4 189 rfl) rfl
theorem q949 : (Jvm.Cond.laysFinal "FairFightModel" "FairFightModel" "order" "[I") ∈ lw_all := lw_g (lw_at lw_m4 190 rfl) rfl
theorem q950 : (Jvm.Cond.soleField "FairFightModel" "order") ∈ lw_all := lw_g (lw_at lw_m4 191 rfl) rfl
theorem q951 : (Jvm.Cond.laysFinal "FairFightModel" "FairFightModel" "life" "[I") ∈ lw_all := lw_g (lw_at lw_m4 192 rfl) rfl
theorem q952 : (Jvm.Cond.soleField "FairFightModel" "life") ∈ lw_all := lw_g (lw_at lw_m4 193 rfl) rfl
theorem q953 : (Jvm.Cond.laysFinal "FairFightModel" "FairFightModel" "up" "[Z") ∈ lw_all := lw_g (lw_at lw_m4 194 rfl) rfl
theorem q954 : (Jvm.Cond.soleField "FairFightModel" "up") ∈ lw_all := lw_g (lw_at lw_m4 195 rfl) rfl
theorem q955 : (Jvm.Cond.lays "FairFightModel" "FairFightModel" "ahead" "I") ∈ lw_all := lw_g (lw_at lw_m4 196 rfl) rfl
theorem q956 : (Jvm.Cond.soleField "FairFightModel" "ahead") ∈ lw_all := lw_g (lw_at lw_m4 197 rfl) rfl
theorem q957 : (Jvm.Cond.laysFinal "FairFightModel" "FairFightModel" "states" "[J") ∈ lw_all := lw_g (lw_at lw_m4 198 rfl) rfl
theorem q958 : (Jvm.Cond.soleField "FairFightModel" "states") ∈ lw_all := lw_g (lw_at lw_m4 199 rfl) rfl
theorem q959 : (Jvm.Cond.laysFinal "FairFightModel" "FairFightModel" "ways" "[J") ∈ lw_all := lw_g (lw_at lw_m4 200 rfl) rfl
theorem q960 : (Jvm.Cond.soleField "FairFightModel" "ways") ∈ lw_all := lw_g (lw_at lw_m4 201 rfl) rfl
theorem q961 : (Jvm.Cond.lays "FairFightModel" "FairFightModel" "behind" "I") ∈ lw_all := lw_g (lw_at lw_m4 202 rfl) rfl
theorem q962 : (Jvm.Cond.soleField "FairFightModel" "behind") ∈ lw_all := lw_g (lw_at lw_m4 203 rfl) rfl
theorem q963 : (Jvm.Cond.laysFinal "FairFightModel" "FairFightModel" "nextStates" "[J") ∈ lw_all := lw_g (lw_at lw_m4 204 rfl) rfl
theorem q964 : (Jvm.Cond.soleField "FairFightModel" "nextStates") ∈ lw_all := lw_g (lw_at lw_m4 205 rfl) rfl
theorem q965 : (Jvm.Cond.laysFinal "FairFightModel" "FairFightModel" "nextWays" "[J") ∈ lw_all := lw_g (lw_at lw_m4 206 rfl) rfl
theorem q966 : (Jvm.Cond.soleField "FairFightModel" "nextWays") ∈ lw_all := lw_g (lw_at lw_m4 207 rfl) rfl
theorem q967 : (Jvm.Cond.laysFinal "FairFightModel" "FairFightModel" "table" "[I") ∈ lw_all := lw_g (lw_at lw_m4 208 rfl) rfl
theorem q968 : (Jvm.Cond.soleField "FairFightModel" "table") ∈ lw_all := lw_g (lw_at lw_m4 209 rfl) rfl
theorem q969 : (Jvm.Cond.laysFinal "FairFightModel" "FairFightModel" "ended" "[J") ∈ lw_all := lw_g (lw_at lw_m4 210 rfl) rfl
theorem q970 : (Jvm.Cond.soleField "FairFightModel" "ended") ∈ lw_all := lw_g (lw_at lw_m4 211 rfl) rfl
theorem q971 : (Jvm.Cond.laysFinal "FairFightModel" "FairFightModel" "endedIn" "[J") ∈ lw_all := lw_g (lw_at lw_m4 212 rfl) rfl
theorem q972 : (Jvm.Cond.soleField "FairFightModel" "endedIn") ∈ lw_all := lw_g (lw_at lw_m4 213 rfl) rfl
theorem q973 : (Jvm.Cond.laysFinal "FairFightModel" "FairFightModel" "lefts" "[J") ∈ lw_all := lw_g (lw_at lw_m4 214 rfl) rfl
theorem q974 : (Jvm.Cond.soleField "FairFightModel" "lefts") ∈ lw_all := lw_g (lw_at lw_m4 215 rfl) rfl
theorem q975 : (Jvm.Cond.lays "FairFightModel" "FairFightModel" "widest" "I") ∈ lw_all := lw_g (lw_at lw_m4 216 rfl) rfl
theorem q976 : (Jvm.Cond.soleField "FairFightModel" "widest") ∈ lw_all := lw_g (lw_at lw_m4 217 rfl) rfl
theorem q977 : (Jvm.Cond.laysFinal "FairFightModel" "FairFightModel" "powers" "[J") ∈ lw_all := lw_g (lw_at lw_m4 218 rfl) rfl
theorem q978 : (Jvm.Cond.soleField "FairFightModel" "powers") ∈ lw_all := lw_g (lw_at lw_m4 219 rfl) rfl
theorem q979 : (Jvm.Cond.lays "FairFightModel" "FairFightModel" "fights" "I") ∈ lw_all := lw_g (lw_at lw_m4 220 rfl) rfl
theorem q980 : (Jvm.Cond.soleField "FairFightModel" "fights") ∈ lw_all := lw_g (lw_at lw_m4 221 rfl) rfl
theorem q981 : (Jvm.Cond.laysFinal "FairFightModel" "FairFightModel" "foes" "[I") ∈ lw_all := lw_g (lw_at lw_m4 222 rfl) rfl
theorem q982 : (Jvm.Cond.soleField "FairFightModel" "foes") ∈ lw_all := lw_g (lw_at lw_m4 223 rfl) rfl
theorem q983 : (Jvm.Cond.lays "FairFightModel" "FairFightModel" "purse" "I") ∈ lw_all := lw_g (lw_at lw_m4 224 rfl) rfl
theorem q984 : (Jvm.Cond.soleField "FairFightModel" "purse") ∈ lw_all := lw_g (lw_at lw_m4 225 rfl) rfl
theorem q985 : (Jvm.Cond.lays "FairFightModel" "FairFightModel" "bonus" "I") ∈ lw_all := lw_g (lw_at lw_m4 226 rfl) rfl
theorem q986 : (Jvm.Cond.soleField "FairFightModel" "bonus") ∈ lw_all := lw_g (lw_at lw_m4 227 rfl) rfl
theorem q987 : (Jvm.Cond.laysFinal "FairFightModel" "FairFightModel" "chances" "[I") ∈ lw_all := lw_g (lw_at lw_m4 228 rfl) rfl
theorem q988 : (Jvm.Cond.soleField "FairFightModel" "chances") ∈ lw_all := lw_g (lw_at lw_m4 229 rfl) rfl
theorem q989 : (Jvm.Cond.lays "FairFightModel" "FairFightModel" "bestUse" "I") ∈ lw_all := lw_g (lw_at lw_m4 230 rfl) rfl
theorem q990 : (Jvm.Cond.soleField "FairFightModel" "bestUse") ∈ lw_all := lw_g (lw_at lw_m4 231 rfl) rfl
theorem q991 : (Jvm.Cond.lays "FairFightModel" "FairFightModel" "bands" "I") ∈ lw_all := lw_g (lw_at lw_m4 232 rfl) rfl
theorem q992 : (Jvm.Cond.soleField "FairFightModel" "bands") ∈ lw_all := lw_g (lw_at lw_m4 233 rfl) rfl
theorem q993 : (Jvm.Cond.laysFinal "FairFightModel" "FairFightModel" "band" "[I") ∈ lw_all := lw_g (lw_at lw_m4 234 rfl) rfl
theorem q994 : (Jvm.Cond.soleField "FairFightModel" "band") ∈ lw_all := lw_g (lw_at lw_m4 235 rfl) rfl
theorem q995 : (Jvm.Cond.laysFinal "FairFightModel" "FairFightModel" "played" "[I") ∈ lw_all := lw_g (lw_at lw_m4 236 rfl) rfl
theorem q996 : (Jvm.Cond.soleField "FairFightModel" "played") ∈ lw_all := lw_g (lw_at lw_m4 237 rfl) rfl
theorem q997 : (Jvm.Cond.laysFinal "FairFightModel" "FairFightModel" "playedWho" "[I") ∈ lw_all := lw_g (lw_at lw_m4 238 rfl) rfl
theorem q998 : (Jvm.Cond.soleField "FairFightModel" "playedWho") ∈ lw_all := lw_g (lw_at lw_m4 239 rfl) rfl
theorem q999 : (Jvm.Cond.laysFinal "FairFightModel" "FairFightModel" "playedLife" "[I") ∈ lw_all := lw_g (lw_at lw_m5 0 rfl) rfl
theorem q1000 : (Jvm.Cond.soleField "FairFightModel" "playedLife") ∈ lw_all := lw_g (lw_at lw_m5 1 rfl) rfl
theorem q1001 : (Jvm.Cond.laysFinal "FairFightModel" "FairFightModel" "forms" "[I") ∈ lw_all := lw_g (lw_at lw_m5 2 rfl) rfl
theorem q1002 : (Jvm.Cond.soleField "FairFightModel" "forms") ∈ lw_all := lw_g (lw_at lw_m5 3 rfl) rfl
theorem q1003 : (Jvm.Cond.laysFinal "FairFightModel" "FairFightModel" "sizes" "[I") ∈ lw_all := lw_g (lw_at lw_m5 4 rfl) rfl
theorem q1004 : (Jvm.Cond.soleField "FairFightModel" "sizes") ∈ lw_all := lw_g (lw_at lw_m5 5 rfl) rfl
theorem q1005 : (Jvm.Cond.laysFinal "FairFightModel" "FairFightModel" "items" "[I") ∈ lw_all := lw_g (lw_at lw_m5 6 rfl) rfl
theorem q1006 : (Jvm.Cond.soleField "FairFightModel" "items") ∈ lw_all := lw_g (lw_at lw_m5 7 rfl) rfl
theorem q1007 : (Jvm.Cond.laysFinal "FairFightModel" "FairFightModel" "moved" "[I") ∈ lw_all := lw_g (lw_at lw_m5 8 rfl) rfl
theorem q1008 : (Jvm.Cond.soleField "FairFightModel" "moved") ∈ lw_all := lw_g (lw_at lw_m5 9 rfl) rfl
theorem q1009 : (Jvm.Cond.lays "FairFightModel" "FairFightModel" "latest" "I") ∈ lw_all := lw_g (lw_at lw_m5 10 rfl) rfl
theorem q1010 : (Jvm.Cond.soleField "FairFightModel" "latest") ∈ lw_all := lw_g (lw_at lw_m5 11 rfl) rfl
theorem q1011 : (Jvm.Cond.superclass "FairFightModel" "java/lang/Object") ∈ lw_all := lw_g (lw_at lw_m5 12 rfl) rfl
theorem q1013 : (Jvm.Cond.instanceMethod ({ cls := "FairFightModel", name := "fighter", desc := "(IIIIII)I" } : Jvm.MethodName)) ∈ lw_all := lw_g (lw_at lw_m5 14 rfl) rfl
theorem q1014 : (Jvm.Cond.selects "FairFightModel" ({ cls := "FairFightModel", name := "fighter", desc := "(IIIIII)I" } : Jvm.MethodName) ({ cls := "FairFightModel", name := "fighter", desc := "(IIIIII)I" } : Jvm.MethodName)) ∈ lw_all := lw_g (lw_at lw_m5 15 rfl) rfl
theorem q1015 : (Jvm.Cond.code ({ cls := "FairFightModel", name := "fighter", desc := "(IIIIII)I" } : Jvm.MethodName) prog_12_method_7_code (8 : Nat) (Option.some Jvm.ClassFile.FieldType.int)) ∈ lw_all := lw_g (lw_at lw_m5 16 rfl) rfl
theorem q1016 : (Jvm.Cond.methodLink "FairFightModel" (122 : Nat) ({ cls := "FairFightModel", name := "isNumber", desc := "(II)Z" } : Jvm.MethodName)) ∈ lw_all := lw_g (lw_at lw_m5 17 rfl) rfl
theorem q1017 : (Jvm.Cond.static ({ cls := "FairFightModel", name := "isNumber", desc := "(II)Z" } : Jvm.MethodName)) ∈ lw_all := lw_g (lw_at lw_m5 18 rfl) rfl
theorem q1018 : (Jvm.Cond.code ({ cls := "FairFightModel", name := "isNumber", desc := "(II)Z" } : Jvm.MethodName) prog_12_method_5_code (2 : Nat) (Option.some Jvm.ClassFile.FieldType.boolean)) ∈ lw_all := lw_g (lw_at lw_m5 19 rfl) rfl
theorem q1019 : (Jvm.Cond.constantLong "FairFightModel" (105 : Nat) (2 : Int64)) ∈ lw_all := lw_g (lw_at lw_m5 20 rfl) rfl
theorem q1020 : (Jvm.Cond.methodLink "FairFightModel" (107 : Nat) ({ cls := "FairFightModel", name := "in", desc := "(JJJ)Z" } : Jvm.MethodName)) ∈ lw_all := lw_g (lw_at lw_m5 21 rfl) rfl
theorem q1021 : (Jvm.Cond.static ({ cls := "FairFightModel", name := "in", desc := "(JJJ)Z" } : Jvm.MethodName)) ∈ lw_all := lw_g (lw_at lw_m5 22 rfl) rfl
theorem q1022 : (Jvm.Cond.code ({ cls := "FairFightModel", name := "in", desc := "(JJJ)Z" } : Jvm.MethodName) prog_12_method_3_code (6 : Nat) (Option.some Jvm.ClassFile.FieldType.boolean)) ∈ lw_all := lw_g (lw_at lw_m5 23 rfl) rfl
theorem q1023 : (Jvm.Cond.constantLong "FairFightModel" (111 : Nat) (20 : Int64)) ∈ lw_all := lw_g (lw_at lw_m5 24 rfl) rfl
theorem q1024 : (Jvm.Cond.constantLong "FairFightModel" (113 : Nat) (6 : Int64)) ∈ lw_all := lw_g (lw_at lw_m5 25 rfl) rfl
theorem q1025 : (Jvm.Cond.constantLong "FairFightModel" (115 : Nat) (9 : Int64)) ∈ lw_all := lw_g (lw_at lw_m5 26 rfl) rfl
theorem q1026 : (Jvm.Cond.constantLong "FairFightModel" (117 : Nat) (19 : Int64)) ∈ lw_all := lw_g (lw_at lw_m5 27 rfl) rfl
theorem q1028 : (Jvm.Cond.instanceMethod ({ cls := "FairFightModel", name := "about", desc := "(II)I" } : Jvm.MethodName)) ∈ lw_all := lw_g (lw_at lw_m5 29 rfl) rfl
theorem q1029 : (Jvm.Cond.selects "FairFightModel" ({ cls := "FairFightModel", name := "about", desc := "(II)I" } : Jvm.MethodName) ({ cls := "FairFightModel", name := "about", desc := "(II)I" } : Jvm.MethodName)) ∈ lw_all := lw_g (lw_at lw_m5 30 rfl) rfl
theorem q1030 : (Jvm.Cond.code ({ cls := "FairFightModel", name := "about", desc := "(II)I" } : Jvm.MethodName) prog_12_method_8_code (3 : Nat) (Option.some Jvm.ClassFile.FieldType.int)) ∈ lw_all := lw_g (lw_at lw_m5 31 rfl) rfl
theorem q1031 : (Jvm.Cond.methodLink "FairFightModel" (126 : Nat) ({ cls := "FairFightModel", name := "isFighter", desc := "(I)Z" } : Jvm.MethodName)) ∈ lw_all := lw_g (lw_at lw_m5 32 rfl) rfl
theorem q1032 : (Jvm.Cond.privateMethod ({ cls := "FairFightModel", name := "isFighter", desc := "(I)Z" } : Jvm.MethodName)) ∈ lw_tbl := lw_at lw_m5 33 rfl
theorem q1033 : (Jvm.Cond.instanceMethod ({ cls := "FairFightModel", name := "isFighter", desc := "(I)Z" } : Jvm.MethodName)) ∈ lw_all := lw_g (lw_at lw_m5 34 rfl) rfl
theorem q1034 : (Jvm.Cond.code ({ cls := "FairFightModel", name := "isFighter", desc := "(I)Z" } : Jvm.MethodName) prog_12_method_6_code (2 : Nat) (Option.some Jvm.ClassFile.FieldType.boolean)) ∈ lw_all := lw_g (lw_at lw_m5 35 rfl) rfl
theorem q1035 : (Jvm.Cond.constantLong "FairFightModel" (130 : Nat) (5 : Int64)) ∈ lw_all := lw_g (lw_at lw_m5 36 rfl) rfl
theorem q1037 : (Jvm.Cond.instanceMethod ({ cls := "FairFightModel", name := "tune", desc := "(III)I" } : Jvm.MethodName)) ∈ lw_all := lw_g (lw_at lw_m5 38 rfl) rfl
theorem q1038 : (Jvm.Cond.selects "FairFightModel" ({ cls := "FairFightModel", name := "tune", desc := "(III)I" } : Jvm.MethodName) ({ cls := "FairFightModel", name := "tune", desc := "(III)I" } : Jvm.MethodName)) ∈ lw_all := lw_g (lw_at lw_m5 39 rfl) rfl
theorem q1039 : (Jvm.Cond.code ({ cls := "FairFightModel", name := "tune", desc := "(III)I" } : Jvm.MethodName) prog_12_method_9_code (5 : Nat) (Option.some Jvm.ClassFile.FieldType.int)) ∈ lw_all := lw_g (lw_at lw_m5 40 rfl) rfl
theorem q1041 : (Jvm.Cond.instanceMethod ({ cls := "FairFightModel", name := "side", desc := "(IIII)I" } : Jvm.MethodName)) ∈ lw_all := lw_g (lw_at lw_m5 42 rfl) rfl
theorem q1042 : (Jvm.Cond.selects "FairFightModel" ({ cls := "FairFightModel", name := "side", desc := "(IIII)I" } : Jvm.MethodName) ({ cls := "FairFightModel", name := "side", desc := "(IIII)I" } : Jvm.MethodName)) ∈ lw_all := lw_g (lw_at lw_m5 43 rfl) rfl
theorem q1043 : (Jvm.Cond.code ({ cls := "FairFightModel", name := "side", desc := "(IIII)I" } : Jvm.MethodName) prog_12_method_12_code (5 : Nat) (Option.some Jvm.ClassFile.FieldType.int)) ∈ lw_all := lw_g (lw_at lw_m5 44 rfl) rfl
theorem q1044 : (Jvm.Cond.methodLink "FairFightModel" (134 : Nat) ({ cls := "FairFightModel", name := "isRow", desc := "(III)Z" } : Jvm.MethodName)) ∈ lw_all := lw_g (lw_at lw_m5 45 rfl) rfl
theorem q1045 : (Jvm.Cond.privateMethod ({ cls := "FairFightModel", name := "isRow", desc := "(III)Z" } : Jvm.MethodName)) ∈ lw_tbl := lw_at lw_m5 46 rfl
theorem q1046 : (Jvm.Cond.instanceMethod ({ cls := "FairFightModel", name := "isRow", desc := "(III)Z" } : Jvm.MethodName)) ∈ lw_all := lw_g (lw_at lw_m5 47 rfl) rfl
theorem q1047 : (Jvm.Cond.code ({ cls := "FairFightModel", name := "isRow", desc := "(III)Z" } : Jvm.MethodName) prog_12_method_10_code (5 : Nat) (Option.some Jvm.ClassFile.FieldType.boolean)) ∈ lw_all := lw_g (lw_at lw_m5 48 rfl) rfl
theorem q1048 : (Jvm.Cond.constantLong "FairFightModel" (132 : Nat) (-1 : Int64)) ∈ lw_all := lw_g (lw_at lw_m5 49 rfl) rfl
theorem q1049 : (Jvm.Cond.methodLink "FairFightModel" (138 : Nat) ({ cls := "FairFightModel", name := "manyOf", desc := "(III)I" } : Jvm.MethodName)) ∈ lw_all := lw_g (lw_at lw_m5 50 rfl) rfl
theorem q1050 : (Jvm.Cond.static ({ cls := "FairFightModel", name := "manyOf", desc := "(III)I" } : Jvm.MethodName)) ∈ lw_all := lw_g (lw_at lw_m5 51 rfl) rfl
theorem q1051 : (Jvm.Cond.code ({ cls := "FairFightModel", name := "manyOf", desc := "(III)I" } : Jvm.MethodName) prog_12_method_11_code (3 : Nat) (Option.some Jvm.ClassFile.FieldType.int)) ∈ lw_all := lw_g (lw_at lw_m5 52 rfl) rfl
theorem q1053 : (Jvm.Cond.instanceMethod ({ cls := "FairFightModel", name := "at", desc := "(II)I" } : Jvm.MethodName)) ∈ lw_all := lw_g (lw_at lw_m5 54 rfl) rfl
theorem q1054 : (Jvm.Cond.selects "FairFightModel" ({ cls := "FairFightModel", name := "at", desc := "(II)I" } : Jvm.MethodName) ({ cls := "FairFightModel", name := "at", desc := "(II)I" } : Jvm.MethodName)) ∈ lw_all := lw_g (lw_at lw_m5 55 rfl) rfl
theorem q1055 : (Jvm.Cond.code ({ cls := "FairFightModel", name := "at", desc := "(II)I" } : Jvm.MethodName) prog_12_method_13_code (3 : Nat) (Option.some Jvm.ClassFile.FieldType.int)) ∈ lw_all := lw_g (lw_at lw_m5 56 rfl) rfl
theorem q1057 : (Jvm.Cond.instanceMethod ({ cls := "FairFightModel", name := "laws", desc := "(III)I" } : Jvm.MethodName)) ∈ lw_all := lw_g (lw_at lw_m5 58 rfl) rfl
theorem q1058 : (Jvm.Cond.selects "FairFightModel" ({ cls := "FairFightModel", name := "laws", desc := "(III)I" } : Jvm.MethodName) ({ cls := "FairFightModel", name := "laws", desc := "(III)I" } : Jvm.MethodName)) ∈ lw_all := lw_g (lw_at lw_m5 59 rfl) rfl
theorem q1059 : (Jvm.Cond.code ({ cls := "FairFightModel", name := "laws", desc := "(III)I" } : Jvm.MethodName) prog_12_method_14_code (4 : Nat) (Option.some Jvm.ClassFile.FieldType.int)) ∈ lw_all := lw_g (lw_at lw_m5 60 rfl) rfl
theorem q1061 : (Jvm.Cond.instanceMethod ({ cls := "FairFightModel", name := "slots", desc := "()I" } : Jvm.MethodName)) ∈ lw_all := lw_g (lw_at lw_m5 62 rfl) rfl
theorem q1062 : (Jvm.Cond.selects "FairFightModel" ({ cls := "FairFightModel", name := "slots", desc := "()I" } : Jvm.MethodName) ({ cls := "FairFightModel", name := "slots", desc := "()I" } : Jvm.MethodName)) ∈ lw_all := lw_g (lw_at lw_m5 63 rfl) rfl
theorem q1063 : (Jvm.Cond.code ({ cls := "FairFightModel", name := "slots", desc := "()I" } : Jvm.MethodName) prog_12_method_32_code (1 : Nat) (Option.some Jvm.ClassFile.FieldType.int)) ∈ lw_all := lw_g (lw_at lw_m5 64 rfl) rfl
theorem q1064 : (Jvm.Cond.methodLink "FairFightModel" (213 : Nat) ({ cls := "FairFightModel", name := "sets", desc := "(I)V" } : Jvm.MethodName)) ∈ lw_all := lw_g (lw_at lw_m5 65 rfl) rfl
theorem q1065 : (Jvm.Cond.privateMethod ({ cls := "FairFightModel", name := "sets", desc := "(I)V" } : Jvm.MethodName)) ∈ lw_tbl := lw_at lw_m5 66 rfl
theorem q1066 : (Jvm.Cond.instanceMethod ({ cls := "FairFightModel", name := "sets", desc := "(I)V" } : Jvm.MethodName)) ∈ lw_all := lw_g (lw_at lw_m5 67 rfl) rfl
theorem q1067 : (Jvm.Cond.code ({ cls := "FairFightModel", name := "sets", desc := "(I)V" } : Jvm.MethodName) prog_12_method_15_code (3 : Nat) (Option.none : Option Jvm.ClassFile.FieldType)) ∈ lw_all := lw_g (lw_at lw_m5 68 rfl) rfl
theorem q1068 : (Jvm.Cond.methodLink "FairFightModel" (184 : Nat) ({ cls := "FairFightModel", name := "begins", desc := "()V" } : Jvm.MethodName)) ∈ lw_all := lw_g (lw_at lw_m5 69 rfl) rfl
theorem q1069 : (Jvm.Cond.privateMethod ({ cls := "FairFightModel", name := "begins", desc := "()V" } : Jvm.MethodName)) ∈ lw_tbl := lw_at lw_m5 70 rfl
theorem q1070 : (Jvm.Cond.instanceMethod ({ cls := "FairFightModel", name := "begins", desc := "()V" } : Jvm.MethodName)) ∈ lw_all := lw_g (lw_at lw_m5 71 rfl) rfl
theorem q1071 : (Jvm.Cond.code ({ cls := "FairFightModel", name := "begins", desc := "()V" } : Jvm.MethodName) prog_12_method_16_code (3 : Nat) (Option.none : Option Jvm.ClassFile.FieldType)) ∈ lw_all := lw_g (lw_at lw_m5 72 rfl) rfl
theorem q1072 : (Jvm.Cond.methodLink "FairFightModel" (190 : Nat) ({ cls := "FairFightModel", name := "slotsNow", desc := "()I" } : Jvm.MethodName)) ∈ lw_all := lw_g (lw_at lw_m5 73 rfl) rfl
theorem q1073 : (Jvm.Cond.privateMethod ({ cls := "FairFightModel", name := "slotsNow", desc := "()I" } : Jvm.MethodName)) ∈ lw_tbl := lw_at lw_m5 74 rfl
theorem q1074 : (Jvm.Cond.instanceMethod ({ cls := "FairFightModel", name := "slotsNow", desc := "()I" } : Jvm.MethodName)) ∈ lw_all := lw_g (lw_at lw_m5 75 rfl) rfl
theorem q1075 : (Jvm.Cond.code ({ cls := "FairFightModel", name := "slotsNow", desc := "()I" } : Jvm.MethodName) prog_12_method_28_code (1 : Nat) (Option.some Jvm.ClassFile.FieldType.int)) ∈ lw_all := lw_g (lw_at lw_m5 76 rfl) rfl
theorem q1077 : (Jvm.Cond.instanceMethod ({ cls := "FairFightModel", name := "all", desc := "()J" } : Jvm.MethodName)) ∈ lw_all := lw_g (lw_at lw_m5 78 rfl) rfl
theorem q1078 : (Jvm.Cond.selects "FairFightModel" ({ cls := "FairFightModel", name := "all", desc := "()J" } : Jvm.MethodName) ({ cls := "FairFightModel", name := "all", desc := "()J" } : Jvm.MethodName)) ∈ lw_all := lw_g (lw_at lw_m5 79 rfl) rfl
theorem q1079 : (Jvm.Cond.code ({ cls := "FairFightModel", name := "all", desc := "()J" } : Jvm.MethodName) prog_12_method_33_code (1 : Nat) (Option.some Jvm.ClassFile.FieldType.long)) ∈ lw_all := lw_g (lw_at lw_m5 80 rfl) rfl
theorem q1080 : (Jvm.Cond.methodLink "FairFightModel" (221 : Nat) ({ cls := "FairFightModel", name := "worksAsItIs", desc := "()I" } : Jvm.MethodName)) ∈ lw_all := lw_g (lw_at lw_m5 81 rfl) rfl
theorem q1081 : (Jvm.Cond.privateMethod ({ cls := "FairFightModel", name := "worksAsItIs", desc := "()I" } : Jvm.MethodName)) ∈ lw_tbl := lw_at lw_m5 82 rfl
theorem q1082 : (Jvm.Cond.instanceMethod ({ cls := "FairFightModel", name := "worksAsItIs", desc := "()I" } : Jvm.MethodName)) ∈ lw_all := lw_g (lw_at lw_m5 83 rfl) rfl
theorem q1083 : (Jvm.Cond.code ({ cls := "FairFightModel", name := "worksAsItIs", desc := "()I" } : Jvm.MethodName) prog_12_method_30_code (1 : Nat) (Option.some Jvm.ClassFile.FieldType.int)) ∈ lw_all := lw_g (lw_at lw_m5 84 rfl) rfl
theorem q1084 : (Jvm.Cond.methodLink "FairFightModel" (216 : Nat) ({ cls := "FairFightModel", name := "works", desc := "()I" } : Jvm.MethodName)) ∈ lw_all := lw_g (lw_at lw_m5 85 rfl) rfl
theorem q1085 : (Jvm.Cond.privateMethod ({ cls := "FairFightModel", name := "works", desc := "()I" } : Jvm.MethodName)) ∈ lw_tbl := lw_at lw_m5 86 rfl
theorem q1086 : (Jvm.Cond.instanceMethod ({ cls := "FairFightModel", name := "works", desc := "()I" } : Jvm.MethodName)) ∈ lw_all := lw_g (lw_at lw_m5 87 rfl) rfl
theorem q1087 : (Jvm.Cond.code ({ cls := "FairFightModel", name := "works", desc := "()I" } : Jvm.MethodName) prog_12_method_29_code (9 : Nat) (Option.some Jvm.ClassFile.FieldType.int)) ∈ lw_all := lw_g (lw_at lw_m5 88 rfl) rfl
theorem q1088 : (Jvm.Cond.methodLink "FairFightModel" (172 : Nat) ({ cls := "FairFightModel", name := "winner", desc := "()I" } : Jvm.MethodName)) ∈ lw_all := lw_g (lw_at lw_m5 89 rfl) rfl
theorem q1089 : (Jvm.Cond.privateMethod ({ cls := "FairFightModel", name := "winner", desc := "()I" } : Jvm.MethodName)) ∈ lw_tbl := lw_at lw_m5 90 rfl
theorem q1090 : (Jvm.Cond.instanceMethod ({ cls := "FairFightModel", name := "winner", desc := "()I" } : Jvm.MethodName)) ∈ lw_all := lw_g (lw_at lw_m5 91 rfl) rfl
theorem q1091 : (Jvm.Cond.code ({ cls := "FairFightModel", name := "winner", desc := "()I" } : Jvm.MethodName) prog_12_method_17_code (1 : Nat) (Option.some Jvm.ClassFile.FieldType.int)) ∈ lw_all := lw_g (lw_at lw_m5 92 rfl) rfl
theorem q1092 : (Jvm.Cond.methodLink "FairFightModel" (176 : Nat) ({ cls := "FairFightModel", name := "counts", desc := "(IIJ)V" } : Jvm.MethodName)) ∈ lw_all := lw_g (lw_at lw_m5 93 rfl) rfl
theorem q1093 : (Jvm.Cond.privateMethod ({ cls := "FairFightModel", name := "counts", desc := "(IIJ)V" } : Jvm.MethodName)) ∈ lw_tbl := lw_at lw_m5 94 rfl
theorem q1094 : (Jvm.Cond.instanceMethod ({ cls := "FairFightModel", name := "counts", desc := "(IIJ)V" } : Jvm.MethodName)) ∈ lw_all := lw_g (lw_at lw_m5 95 rfl) rfl
theorem q1095 : (Jvm.Cond.code ({ cls := "FairFightModel", name := "counts", desc := "(IIJ)V" } : Jvm.MethodName) prog_12_method_25_code (6 : Nat) (Option.none : Option Jvm.ClassFile.FieldType)) ∈ lw_all := lw_g (lw_at lw_m5 96 rfl) rfl
theorem q1096 : (Jvm.Cond.methodLink "FairFightModel" (161 : Nat) ({ cls := "FairFightModel", name := "pack", desc := "()J" } : Jvm.MethodName)) ∈ lw_all := lw_g (lw_at lw_m5 97 rfl) rfl
theorem q1097 : (Jvm.Cond.privateMethod ({ cls := "FairFightModel", name := "pack", desc := "()J" } : Jvm.MethodName)) ∈ lw_tbl := lw_at lw_m5 98 rfl
theorem q1098 : (Jvm.Cond.instanceMethod ({ cls := "FairFightModel", name := "pack", desc := "()J" } : Jvm.MethodName)) ∈ lw_all := lw_g (lw_at lw_m5 99 rfl) rfl
theorem q1099 : (Jvm.Cond.code ({ cls := "FairFightModel", name := "pack", desc := "()J" } : Jvm.MethodName) prog_12_method_23_code (4 : Nat) (Option.some Jvm.ClassFile.FieldType.long)) ∈ lw_all := lw_g (lw_at lw_m5 100 rfl) rfl
theorem q1100 : (Jvm.Cond.methodLink "FairFightModel" (196 : Nat) ({ cls := "FairFightModel", name := "unpack", desc := "(J)V" } : Jvm.MethodName)) ∈ lw_all := lw_g (lw_at lw_m5 101 rfl) rfl
theorem q1101 : (Jvm.Cond.privateMethod ({ cls := "FairFightModel", name := "unpack", desc := "(J)V" } : Jvm.MethodName)) ∈ lw_tbl := lw_at lw_m5 102 rfl
theorem q1102 : (Jvm.Cond.instanceMethod ({ cls := "FairFightModel", name := "unpack", desc := "(J)V" } : Jvm.MethodName)) ∈ lw_all := lw_g (lw_at lw_m5 103 rfl) rfl
theorem q1103 : (Jvm.Cond.code ({ cls := "FairFightModel", name := "unpack", desc := "(J)V" } : Jvm.MethodName) prog_12_method_24_code (6 : Nat) (Option.none : Option Jvm.ClassFile.FieldType)) ∈ lw_all := lw_g (lw_at lw_m5 104 rfl) rfl
theorem q1104 : (Jvm.Cond.constantLong "FairFightModel" (159 : Nat) (31 : Int64)) ∈ lw_all := lw_g (lw_at lw_m5 105 rfl) rfl
theorem q1105 : (Jvm.Cond.methodLink "FairFightModel" (199 : Nat) ({ cls := "FairFightModel", name := "hasTurn", desc := "(II)Z" } : Jvm.MethodName)) ∈ lw_all := lw_g (lw_at lw_m5 106 rfl) rfl
theorem q1106 : (Jvm.Cond.privateMethod ({ cls := "FairFightModel", name := "hasTurn", desc := "(II)Z" } : Jvm.MethodName)) ∈ lw_tbl := lw_at lw_m5 107 rfl
theorem q1107 : (Jvm.Cond.instanceMethod ({ cls := "FairFightModel", name := "hasTurn", desc := "(II)Z" } : Jvm.MethodName)) ∈ lw_all := lw_g (lw_at lw_m5 108 rfl) rfl
theorem q1108 : (Jvm.Cond.code ({ cls := "FairFightModel", name := "hasTurn", desc := "(II)Z" } : Jvm.MethodName) prog_12_method_20_code (3 : Nat) (Option.some Jvm.ClassFile.FieldType.boolean)) ∈ lw_all := lw_g (lw_at lw_m5 109 rfl) rfl
theorem q1109 : (Jvm.Cond.methodLink "FairFightModel" (180 : Nat) ({ cls := "FairFightModel", name := "comes", desc := "(J)V" } : Jvm.MethodName)) ∈ lw_all := lw_g (lw_at lw_m5 110 rfl) rfl
theorem q1110 : (Jvm.Cond.privateMethod ({ cls := "FairFightModel", name := "comes", desc := "(J)V" } : Jvm.MethodName)) ∈ lw_tbl := lw_at lw_m5 111 rfl
theorem q1111 : (Jvm.Cond.instanceMethod ({ cls := "FairFightModel", name := "comes", desc := "(J)V" } : Jvm.MethodName)) ∈ lw_all := lw_g (lw_at lw_m5 112 rfl) rfl
theorem q1112 : (Jvm.Cond.code ({ cls := "FairFightModel", name := "comes", desc := "(J)V" } : Jvm.MethodName) prog_12_method_26_code (6 : Nat) (Option.none : Option Jvm.ClassFile.FieldType)) ∈ lw_all := lw_g (lw_at lw_m5 113 rfl) rfl
theorem q1113 : (Jvm.Cond.constantLong "FairFightModel" (165 : Nat) (2654435761 : Int64)) ∈ lw_all := lw_g (lw_at lw_m5 114 rfl) rfl
theorem q1114 : (Jvm.Cond.constantLong "FairFightModel" (167 : Nat) (2047 : Int64)) ∈ lw_all := lw_g (lw_at lw_m5 115 rfl) rfl
theorem q1115 : (Jvm.Cond.methodLink "FairFightModel" (202 : Nat) ({ cls := "FairFightModel", name := "flees", desc := "(I)Z" } : Jvm.MethodName)) ∈ lw_all := lw_g (lw_at lw_m5 116 rfl) rfl
theorem q1116 : (Jvm.Cond.privateMethod ({ cls := "FairFightModel", name := "flees", desc := "(I)Z" } : Jvm.MethodName)) ∈ lw_tbl := lw_at lw_m5 117 rfl
theorem q1117 : (Jvm.Cond.instanceMethod ({ cls := "FairFightModel", name := "flees", desc := "(I)Z" } : Jvm.MethodName)) ∈ lw_all := lw_g (lw_at lw_m5 118 rfl) rfl
theorem q1118 : (Jvm.Cond.code ({ cls := "FairFightModel", name := "flees", desc := "(I)Z" } : Jvm.MethodName) prog_12_method_21_code (2 : Nat) (Option.some Jvm.ClassFile.FieldType.boolean)) ∈ lw_all := lw_g (lw_at lw_m5 119 rfl) rfl
theorem q1119 : (Jvm.Cond.methodLink "FairFightModel" (205 : Nat) ({ cls := "FairFightModel", name := "goesOn", desc := "(IJJ)V" } : Jvm.MethodName)) ∈ lw_all := lw_g (lw_at lw_m5 120 rfl) rfl
theorem q1120 : (Jvm.Cond.privateMethod ({ cls := "FairFightModel", name := "goesOn", desc := "(IJJ)V" } : Jvm.MethodName)) ∈ lw_tbl := lw_at lw_m5 121 rfl
theorem q1121 : (Jvm.Cond.instanceMethod ({ cls := "FairFightModel", name := "goesOn", desc := "(IJJ)V" } : Jvm.MethodName)) ∈ lw_all := lw_g (lw_at lw_m5 122 rfl) rfl
theorem q1122 : (Jvm.Cond.code ({ cls := "FairFightModel", name := "goesOn", desc := "(IJJ)V" } : Jvm.MethodName) prog_12_method_27_code (7 : Nat) (Option.none : Option Jvm.ClassFile.FieldType)) ∈ lw_all := lw_g (lw_at lw_m5 123 rfl) rfl
theorem q1123 : (Jvm.Cond.methodLink "FairFightModel" (209 : Nat) ({ cls := "FairFightModel", name := "hits", desc := "(I)V" } : Jvm.MethodName)) ∈ lw_all := lw_g (lw_at lw_m5 124 rfl) rfl
theorem q1124 : (Jvm.Cond.privateMethod ({ cls := "FairFightModel", name := "hits", desc := "(I)V" } : Jvm.MethodName)) ∈ lw_tbl := lw_at lw_m5 125 rfl
theorem q1125 : (Jvm.Cond.instanceMethod ({ cls := "FairFightModel", name := "hits", desc := "(I)V" } : Jvm.MethodName)) ∈ lw_all := lw_g (lw_at lw_m5 126 rfl) rfl
theorem q1126 : (Jvm.Cond.code ({ cls := "FairFightModel", name := "hits", desc := "(I)V" } : Jvm.MethodName) prog_12_method_22_code (7 : Nat) (Option.none : Option Jvm.ClassFile.FieldType)) ∈ lw_all := lw_g (lw_at lw_m5 127 rfl) rfl
theorem q1127 : (Jvm.Cond.methodLink "FairFightModel" (151 : Nat) ({ cls := "FairFightModel", name := "target", desc := "(IZ)I" } : Jvm.MethodName)) ∈ lw_all := lw_g (lw_at lw_m5 128 rfl) rfl
theorem q1128 : (Jvm.Cond.privateMethod ({ cls := "FairFightModel", name := "target", desc := "(IZ)I" } : Jvm.MethodName)) ∈ lw_tbl := lw_at lw_m5 129 rfl
theorem q1129 : (Jvm.Cond.instanceMethod ({ cls := "FairFightModel", name := "target", desc := "(IZ)I" } : Jvm.MethodName)) ∈ lw_all := lw_g (lw_at lw_m5 130 rfl) rfl
theorem q1130 : (Jvm.Cond.code ({ cls := "FairFightModel", name := "target", desc := "(IZ)I" } : Jvm.MethodName) prog_12_method_19_code (5 : Nat) (Option.some Jvm.ClassFile.FieldType.int)) ∈ lw_all := lw_g (lw_at lw_m5 131 rfl) rfl
theorem q1131 : (Jvm.Cond.methodLink "FairFightModel" (155 : Nat) ({ cls := "FairFightModel", name := "hurts", desc := "(II)V" } : Jvm.MethodName)) ∈ lw_all := lw_g (lw_at lw_m5 132 rfl) rfl
theorem q1132 : (Jvm.Cond.privateMethod ({ cls := "FairFightModel", name := "hurts", desc := "(II)V" } : Jvm.MethodName)) ∈ lw_tbl := lw_at lw_m5 133 rfl
theorem q1133 : (Jvm.Cond.instanceMethod ({ cls := "FairFightModel", name := "hurts", desc := "(II)V" } : Jvm.MethodName)) ∈ lw_all := lw_g (lw_at lw_m5 134 rfl) rfl
theorem q1134 : (Jvm.Cond.code ({ cls := "FairFightModel", name := "hurts", desc := "(II)V" } : Jvm.MethodName) prog_12_method_18_code (3 : Nat) (Option.none : Option Jvm.ClassFile.FieldType)) ∈ lw_all := lw_g (lw_at lw_m5 135 rfl) rfl
theorem q1135 : (Jvm.Cond.methodLink "FairFightModel" (224 : Nat) ({ cls := "FairFightModel", name := "no", desc := "(I)J" } : Jvm.MethodName)) ∈ lw_all := lw_g (lw_at lw_m5 136 rfl) rfl
theorem q1136 : (Jvm.Cond.static ({ cls := "FairFightModel", name := "no", desc := "(I)J" } : Jvm.MethodName)) ∈ lw_all := lw_g (lw_at lw_m5 137 rfl) rfl
theorem q1137 : (Jvm.Cond.code ({ cls := "FairFightModel", name := "no", desc := "(I)J" } : Jvm.MethodName) prog_12_method_4_code (1 : Nat) (Option.some Jvm.ClassFile.FieldType.long)) ∈ lw_all := lw_g (lw_at lw_m5 138 rfl) rfl
theorem q1138 : (Jvm.Cond.constantLong "FairFightModel" (103 : Nat) (-9223372036854775808 : Int64)) ∈ lw_all := lw_g (lw_at lw_m5 139 rfl) rfl
theorem q1140 : (Jvm.Cond.instanceMethod ({ cls := "FairFightModel", name := "ways", desc := "(I)J" } : Jvm.MethodName)) ∈ lw_all := lw_g (lw_at lw_m5 141 rfl) rfl
theorem q1141 : (Jvm.Cond.selects "FairFightModel" ({ cls := "FairFightModel", name := "ways", desc := "(I)J" } : Jvm.MethodName) ({ cls := "FairFightModel", name := "ways", desc := "(I)J" } : Jvm.MethodName)) ∈ lw_all := lw_g (lw_at lw_m5 142 rfl) rfl
theorem q1142 : (Jvm.Cond.code ({ cls := "FairFightModel", name := "ways", desc := "(I)J" } : Jvm.MethodName) prog_12_method_34_code (2 : Nat) (Option.some Jvm.ClassFile.FieldType.long)) ∈ lw_all := lw_g (lw_at lw_m5 143 rfl) rfl
theorem q1144 : (Jvm.Cond.instanceMethod ({ cls := "FairFightModel", name := "chance", desc := "()I" } : Jvm.MethodName)) ∈ lw_all := lw_g (lw_at lw_m5 145 rfl) rfl
theorem q1145 : (Jvm.Cond.selects "FairFightModel" ({ cls := "FairFightModel", name := "chance", desc := "()I" } : Jvm.MethodName) ({ cls := "FairFightModel", name := "chance", desc := "()I" } : Jvm.MethodName)) ∈ lw_all := lw_g (lw_at lw_m5 146 rfl) rfl
theorem q1146 : (Jvm.Cond.code ({ cls := "FairFightModel", name := "chance", desc := "()I" } : Jvm.MethodName) prog_12_method_35_code (1 : Nat) (Option.some Jvm.ClassFile.FieldType.int)) ∈ lw_all := lw_g (lw_at lw_m5 147 rfl) rfl
theorem q1147 : (Jvm.Cond.methodLink "FairFightModel" (228 : Nat) ({ cls := "FairFightModel", name := "chanceOf", desc := "()I" } : Jvm.MethodName)) ∈ lw_all := lw_g (lw_at lw_m5 148 rfl) rfl
theorem q1148 : (Jvm.Cond.privateMethod ({ cls := "FairFightModel", name := "chanceOf", desc := "()I" } : Jvm.MethodName)) ∈ lw_tbl := lw_at lw_m5 149 rfl
theorem q1149 : (Jvm.Cond.instanceMethod ({ cls := "FairFightModel", name := "chanceOf", desc := "()I" } : Jvm.MethodName)) ∈ lw_all := lw_g (lw_at lw_m5 150 rfl) rfl
theorem q1150 : (Jvm.Cond.code ({ cls := "FairFightModel", name := "chanceOf", desc := "()I" } : Jvm.MethodName) prog_12_method_31_code (8 : Nat) (Option.some Jvm.ClassFile.FieldType.int)) ∈ lw_all := lw_g (lw_at lw_m5 151 rfl) rfl
theorem q1151 : (Jvm.Cond.constantLong "FairFightModel" (219 : Nat) (10 : Int64)) ∈ lw_all := lw_g (lw_at lw_m5 152 rfl) rfl
theorem q1153 : (Jvm.Cond.instanceMethod ({ cls := "FairFightModel", name := "left", desc := "(IIII)J" } : Jvm.MethodName)) ∈ lw_all := lw_g (lw_at lw_m5 154 rfl) rfl
theorem q1154 : (Jvm.Cond.selects "FairFightModel" ({ cls := "FairFightModel", name := "left", desc := "(IIII)J" } : Jvm.MethodName) ({ cls := "FairFightModel", name := "left", desc := "(IIII)J" } : Jvm.MethodName)) ∈ lw_all := lw_g (lw_at lw_m5 155 rfl) rfl
theorem q1155 : (Jvm.Cond.code ({ cls := "FairFightModel", name := "left", desc := "(IIII)J" } : Jvm.MethodName) prog_12_method_36_code (5 : Nat) (Option.some Jvm.ClassFile.FieldType.long)) ∈ lw_all := lw_g (lw_at lw_m5 156 rfl) rfl
theorem q1157 : (Jvm.Cond.instanceMethod ({ cls := "FairFightModel", name := "states", desc := "()I" } : Jvm.MethodName)) ∈ lw_all := lw_g (lw_at lw_m5 158 rfl) rfl
theorem q1158 : (Jvm.Cond.selects "FairFightModel" ({ cls := "FairFightModel", name := "states", desc := "()I" } : Jvm.MethodName) ({ cls := "FairFightModel", name := "states", desc := "()I" } : Jvm.MethodName)) ∈ lw_all := lw_g (lw_at lw_m5 159 rfl) rfl
theorem q1159 : (Jvm.Cond.code ({ cls := "FairFightModel", name := "states", desc := "()I" } : Jvm.MethodName) prog_12_method_37_code (1 : Nat) (Option.some Jvm.ClassFile.FieldType.int)) ∈ lw_all := lw_g (lw_at lw_m5 160 rfl) rfl
theorem q1161 : (Jvm.Cond.instanceMethod ({ cls := "FairFightModel", name := "ends", desc := "(I)J" } : Jvm.MethodName)) ∈ lw_all := lw_g (lw_at lw_m5 162 rfl) rfl
theorem q1162 : (Jvm.Cond.selects "FairFightModel" ({ cls := "FairFightModel", name := "ends", desc := "(I)J" } : Jvm.MethodName) ({ cls := "FairFightModel", name := "ends", desc := "(I)J" } : Jvm.MethodName)) ∈ lw_all := lw_g (lw_at lw_m5 163 rfl) rfl
theorem q1163 : (Jvm.Cond.code ({ cls := "FairFightModel", name := "ends", desc := "(I)J" } : Jvm.MethodName) prog_12_method_38_code (2 : Nat) (Option.some Jvm.ClassFile.FieldType.long)) ∈ lw_all := lw_g (lw_at lw_m5 164 rfl) rfl
theorem q1165 : (Jvm.Cond.instanceMethod ({ cls := "FairFightModel", name := "better", desc := "(II)I" } : Jvm.MethodName)) ∈ lw_all := lw_g (lw_at lw_m5 166 rfl) rfl
theorem q1166 : (Jvm.Cond.selects "FairFightModel" ({ cls := "FairFightModel", name := "better", desc := "(II)I" } : Jvm.MethodName) ({ cls := "FairFightModel", name := "better", desc := "(II)I" } : Jvm.MethodName)) ∈ lw_all := lw_g (lw_at lw_m5 167 rfl) rfl
theorem q1167 : (Jvm.Cond.code ({ cls := "FairFightModel", name := "better", desc := "(II)I" } : Jvm.MethodName) prog_12_method_39_code (5 : Nat) (Option.some Jvm.ClassFile.FieldType.int)) ∈ lw_all := lw_g (lw_at lw_m5 168 rfl) rfl
theorem q1168 : (Jvm.Cond.constant "FairFightModel" (231 : Nat) (-2147483648 : Int32)) ∈ lw_all := lw_g (lw_at lw_m5 169 rfl) rfl
theorem q1169 : (Jvm.Cond.methodLink "FairFightModel" (232 : Nat) ({ cls := "FairFightModel", name := "chance", desc := "()I" } : Jvm.MethodName)) ∈ lw_all := lw_g (lw_at lw_m5 170 rfl) rfl
theorem q1170 : (Jvm.Cond.constant "FairFightModel" (235 : Nat) (-2147483647 : Int32)) ∈ lw_all := lw_g (lw_at lw_m5 171 rfl) rfl
theorem q1172 : (Jvm.Cond.instanceMethod ({ cls := "FairFightModel", name := "without", desc := "(I)I" } : Jvm.MethodName)) ∈ lw_all := lw_g (lw_at lw_m5 173 rfl) rfl
theorem q1173 : (Jvm.Cond.selects "FairFightModel" ({ cls := "FairFightModel", name := "without", desc := "(I)I" } : Jvm.MethodName) ({ cls := "FairFightModel", name := "without", desc := "(I)I" } : Jvm.MethodName)) ∈ lw_all := lw_g (lw_at lw_m5 174 rfl) rfl
theorem q1174 : (Jvm.Cond.code ({ cls := "FairFightModel", name := "without", desc := "(I)I" } : Jvm.MethodName) prog_12_method_40_code (3 : Nat) (Option.some Jvm.ClassFile.FieldType.int)) ∈ lw_all := lw_g (lw_at lw_m5 175 rfl) rfl
theorem q1176 : (Jvm.Cond.instanceMethod ({ cls := "FairFightModel", name := "surprised", desc := "(I)I" } : Jvm.MethodName)) ∈ lw_all := lw_g (lw_at lw_m5 177 rfl) rfl
theorem q1177 : (Jvm.Cond.selects "FairFightModel" ({ cls := "FairFightModel", name := "surprised", desc := "(I)I" } : Jvm.MethodName) ({ cls := "FairFightModel", name := "surprised", desc := "(I)I" } : Jvm.MethodName)) ∈ lw_all := lw_g (lw_at lw_m5 178 rfl) rfl
theorem q1178 : (Jvm.Cond.code ({ cls := "FairFightModel", name := "surprised", desc := "(I)I" } : Jvm.MethodName) prog_12_method_41_code (2 : Nat) (Option.some Jvm.ClassFile.FieldType.int)) ∈ lw_all := lw_g (lw_at lw_m5 179 rfl) rfl
theorem q1180 : (Jvm.Cond.instanceMethod ({ cls := "FairFightModel", name := "fight", desc := "(III)I" } : Jvm.MethodName)) ∈ lw_all := lw_g (lw_at lw_m5 181 rfl) rfl
theorem q1181 : (Jvm.Cond.selects "FairFightModel" ({ cls := "FairFightModel", name := "fight", desc := "(III)I" } : Jvm.MethodName) ({ cls := "FairFightModel", name := "fight", desc := "(III)I" } : Jvm.MethodName)) ∈ lw_all := lw_g (lw_at lw_m5 182 rfl) rfl
theorem q1182 : (Jvm.Cond.code ({ cls := "FairFightModel", name := "fight", desc := "(III)I" } : Jvm.MethodName) prog_12_method_42_code (4 : Nat) (Option.some Jvm.ClassFile.FieldType.int)) ∈ lw_all := lw_g (lw_at lw_m5 183 rfl) rfl
theorem q1184 : (Jvm.Cond.instanceMethod ({ cls := "FairFightModel", name := "rest", desc := "()I" } : Jvm.MethodName)) ∈ lw_all := lw_g (lw_at lw_m5 185 rfl) rfl
theorem q1185 : (Jvm.Cond.selects "FairFightModel" ({ cls := "FairFightModel", name := "rest", desc := "()I" } : Jvm.MethodName) ({ cls := "FairFightModel", name := "rest", desc := "()I" } : Jvm.MethodName)) ∈ lw_all := lw_g (lw_at lw_m5 186 rfl) rfl
theorem q1186 : (Jvm.Cond.code ({ cls := "FairFightModel", name := "rest", desc := "()I" } : Jvm.MethodName) prog_12_method_43_code (2 : Nat) (Option.some Jvm.ClassFile.FieldType.int)) ∈ lw_all := lw_g (lw_at lw_m5 187 rfl) rfl
theorem q1188 : (Jvm.Cond.instanceMethod ({ cls := "FairFightModel", name := "purse", desc := "(II)I" } : Jvm.MethodName)) ∈ lw_all := lw_g (lw_at lw_m5 189 rfl) rfl
theorem q1189 : (Jvm.Cond.selects "FairFightModel" ({ cls := "FairFightModel", name := "purse", desc := "(II)I" } : Jvm.MethodName) ({ cls := "FairFightModel", name := "purse", desc := "(II)I" } : Jvm.MethodName)) ∈ lw_all := lw_g (lw_at lw_m5 190 rfl) rfl
theorem q1190 : (Jvm.Cond.code ({ cls := "FairFightModel", name := "purse", desc := "(II)I" } : Jvm.MethodName) prog_12_method_44_code (3 : Nat) (Option.some Jvm.ClassFile.FieldType.int)) ∈ lw_all := lw_g (lw_at lw_m5 191 rfl) rfl
theorem q1192 : (Jvm.Cond.instanceMethod ({ cls := "FairFightModel", name := "day", desc := "()I" } : Jvm.MethodName)) ∈ lw_all := lw_g (lw_at lw_m5 193 rfl) rfl
theorem q1193 : (Jvm.Cond.selects "FairFightModel" ({ cls := "FairFightModel", name := "day", desc := "()I" } : Jvm.MethodName) ({ cls := "FairFightModel", name := "day", desc := "()I" } : Jvm.MethodName)) ∈ lw_all := lw_g (lw_at lw_m5 194 rfl) rfl
theorem q1194 : (Jvm.Cond.code ({ cls := "FairFightModel", name := "day", desc := "()I" } : Jvm.MethodName) prog_12_method_47_code (1 : Nat) (Option.some Jvm.ClassFile.FieldType.int)) ∈ lw_all := lw_g (lw_at lw_m5 195 rfl) rfl
theorem q1195 : (Jvm.Cond.methodLink "FairFightModel" (245 : Nat) ({ cls := "FairFightModel", name := "findUse", desc := "()I" } : Jvm.MethodName)) ∈ lw_all := lw_g (lw_at lw_m5 196 rfl) rfl
theorem q1196 : (Jvm.Cond.privateMethod ({ cls := "FairFightModel", name := "findUse", desc := "()I" } : Jvm.MethodName)) ∈ lw_tbl := lw_at lw_m5 197 rfl
theorem q1197 : (Jvm.Cond.instanceMethod ({ cls := "FairFightModel", name := "findUse", desc := "()I" } : Jvm.MethodName)) ∈ lw_all := lw_g (lw_at lw_m5 198 rfl) rfl
theorem q1198 : (Jvm.Cond.code ({ cls := "FairFightModel", name := "findUse", desc := "()I" } : Jvm.MethodName) prog_12_method_46_code (8 : Nat) (Option.some Jvm.ClassFile.FieldType.int)) ∈ lw_all := lw_g (lw_at lw_m5 199 rfl) rfl
theorem q1199 : (Jvm.Cond.methodLink "FairFightModel" (239 : Nat) ({ cls := "FairFightModel", name := "oddsOf", desc := "(IZ)I" } : Jvm.MethodName)) ∈ lw_all := lw_g (lw_at lw_m5 200 rfl) rfl
theorem q1200 : (Jvm.Cond.privateMethod ({ cls := "FairFightModel", name := "oddsOf", desc := "(IZ)I" } : Jvm.MethodName)) ∈ lw_tbl := lw_at lw_m5 201 rfl
theorem q1201 : (Jvm.Cond.instanceMethod ({ cls := "FairFightModel", name := "oddsOf", desc := "(IZ)I" } : Jvm.MethodName)) ∈ lw_all := lw_g (lw_at lw_m5 202 rfl) rfl
theorem q1202 : (Jvm.Cond.code ({ cls := "FairFightModel", name := "oddsOf", desc := "(IZ)I" } : Jvm.MethodName) prog_12_method_45_code (4 : Nat) (Option.some Jvm.ClassFile.FieldType.int)) ∈ lw_all := lw_g (lw_at lw_m5 203 rfl) rfl
theorem q1204 : (Jvm.Cond.instanceMethod ({ cls := "FairFightModel", name := "use", desc := "()I" } : Jvm.MethodName)) ∈ lw_all := lw_g (lw_at lw_m5 205 rfl) rfl
theorem q1205 : (Jvm.Cond.selects "FairFightModel" ({ cls := "FairFightModel", name := "use", desc := "()I" } : Jvm.MethodName) ({ cls := "FairFightModel", name := "use", desc := "()I" } : Jvm.MethodName)) ∈ lw_all := lw_g (lw_at lw_m5 206 rfl) rfl
theorem q1206 : (Jvm.Cond.code ({ cls := "FairFightModel", name := "use", desc := "()I" } : Jvm.MethodName) prog_12_method_48_code (2 : Nat) (Option.some Jvm.ClassFile.FieldType.int)) ∈ lw_all := lw_g (lw_at lw_m5 207 rfl) rfl
theorem q1208 : (Jvm.Cond.instanceMethod ({ cls := "FairFightModel", name := "odds", desc := "(II)I" } : Jvm.MethodName)) ∈ lw_all := lw_g (lw_at lw_m5 209 rfl) rfl
theorem q1209 : (Jvm.Cond.selects "FairFightModel" ({ cls := "FairFightModel", name := "odds", desc := "(II)I" } : Jvm.MethodName) ({ cls := "FairFightModel", name := "odds", desc := "(II)I" } : Jvm.MethodName)) ∈ lw_all := lw_g (lw_at lw_m5 210 rfl) rfl
theorem q1210 : (Jvm.Cond.code ({ cls := "FairFightModel", name := "odds", desc := "(II)I" } : Jvm.MethodName) prog_12_method_49_code (3 : Nat) (Option.some Jvm.ClassFile.FieldType.int)) ∈ lw_all := lw_g (lw_at lw_m5 211 rfl) rfl
theorem q1212 : (Jvm.Cond.instanceMethod ({ cls := "FairFightModel", name := "wish", desc := "(II)I" } : Jvm.MethodName)) ∈ lw_all := lw_g (lw_at lw_m5 213 rfl) rfl
theorem q1213 : (Jvm.Cond.selects "FairFightModel" ({ cls := "FairFightModel", name := "wish", desc := "(II)I" } : Jvm.MethodName) ({ cls := "FairFightModel", name := "wish", desc := "(II)I" } : Jvm.MethodName)) ∈ lw_all := lw_g (lw_at lw_m5 214 rfl) rfl
theorem q1214 : (Jvm.Cond.code ({ cls := "FairFightModel", name := "wish", desc := "(II)I" } : Jvm.MethodName) prog_12_method_50_code (6 : Nat) (Option.some Jvm.ClassFile.FieldType.int)) ∈ lw_all := lw_g (lw_at lw_m5 215 rfl) rfl
theorem q1215 : (Jvm.Cond.constantLong "FairFightModel" (248 : Nat) (1000000 : Int64)) ∈ lw_all := lw_g (lw_at lw_m5 216 rfl) rfl
theorem q1217 : (Jvm.Cond.instanceMethod ({ cls := "FairFightModel", name := "band", desc := "(I)I" } : Jvm.MethodName)) ∈ lw_all := lw_g (lw_at lw_m5 218 rfl) rfl
theorem q1218 : (Jvm.Cond.selects "FairFightModel" ({ cls := "FairFightModel", name := "band", desc := "(I)I" } : Jvm.MethodName) ({ cls := "FairFightModel", name := "band", desc := "(I)I" } : Jvm.MethodName)) ∈ lw_all := lw_g (lw_at lw_m5 219 rfl) rfl
theorem q1219 : (Jvm.Cond.code ({ cls := "FairFightModel", name := "band", desc := "(I)I" } : Jvm.MethodName) prog_12_method_51_code (2 : Nat) (Option.some Jvm.ClassFile.FieldType.int)) ∈ lw_all := lw_g (lw_at lw_m5 220 rfl) rfl
theorem q1221 : (Jvm.Cond.instanceMethod ({ cls := "FairFightModel", name := "play", desc := "(I)I" } : Jvm.MethodName)) ∈ lw_all := lw_g (lw_at lw_m5 222 rfl) rfl
theorem q1222 : (Jvm.Cond.selects "FairFightModel" ({ cls := "FairFightModel", name := "play", desc := "(I)I" } : Jvm.MethodName) ({ cls := "FairFightModel", name := "play", desc := "(I)I" } : Jvm.MethodName)) ∈ lw_all := lw_g (lw_at lw_m5 223 rfl) rfl
theorem q1223 : (Jvm.Cond.code ({ cls := "FairFightModel", name := "play", desc := "(I)I" } : Jvm.MethodName) prog_12_method_52_code (9 : Nat) (Option.some Jvm.ClassFile.FieldType.int)) ∈ lw_all := lw_g (lw_at lw_m5 224 rfl) rfl
theorem q1224 : (Jvm.Cond.methodLink "FairFightModel" (253 : Nat) ({ cls := "FairFightModel", name := "isSheet", desc := "(I)Z" } : Jvm.MethodName)) ∈ lw_all := lw_g (lw_at lw_m5 225 rfl) rfl
theorem q1225 : (Jvm.Cond.static ({ cls := "FairFightModel", name := "isSheet", desc := "(I)Z" } : Jvm.MethodName)) ∈ lw_all := lw_g (lw_at lw_m5 226 rfl) rfl
theorem q1226 : (Jvm.Cond.code ({ cls := "FairFightModel", name := "isSheet", desc := "(I)Z" } : Jvm.MethodName) prog_12_method_55_code (1 : Nat) (Option.some Jvm.ClassFile.FieldType.boolean)) ∈ lw_all := lw_g (lw_at lw_m5 227 rfl) rfl
theorem q1227 : (Jvm.Cond.constantLong "FairFightModel" (265 : Nat) (3 : Int64)) ∈ lw_all := lw_g (lw_at lw_m5 228 rfl) rfl
theorem q1228 : (Jvm.Cond.methodLink "FairFightModel" (256 : Nat) ({ cls := "FairFightModel", name := "met", desc := "(I)I" } : Jvm.MethodName)) ∈ lw_all := lw_g (lw_at lw_m5 229 rfl) rfl
theorem q1229 : (Jvm.Cond.privateMethod ({ cls := "FairFightModel", name := "met", desc := "(I)I" } : Jvm.MethodName)) ∈ lw_tbl := lw_at lw_m5 230 rfl
theorem q1230 : (Jvm.Cond.instanceMethod ({ cls := "FairFightModel", name := "met", desc := "(I)I" } : Jvm.MethodName)) ∈ lw_all := lw_g (lw_at lw_m5 231 rfl) rfl
theorem q1231 : (Jvm.Cond.code ({ cls := "FairFightModel", name := "met", desc := "(I)I" } : Jvm.MethodName) prog_12_method_54_code (2 : Nat) (Option.some Jvm.ClassFile.FieldType.int)) ∈ lw_all := lw_g (lw_at lw_m5 232 rfl) rfl
theorem q1233 : (Jvm.Cond.instanceMethod ({ cls := "FairFightModel", name := "played", desc := "(I)I" } : Jvm.MethodName)) ∈ lw_all := lw_g (lw_at lw_m5 234 rfl) rfl
theorem q1234 : (Jvm.Cond.selects "FairFightModel" ({ cls := "FairFightModel", name := "played", desc := "(I)I" } : Jvm.MethodName) ({ cls := "FairFightModel", name := "played", desc := "(I)I" } : Jvm.MethodName)) ∈ lw_all := lw_g (lw_at lw_m5 235 rfl) rfl
theorem q1235 : (Jvm.Cond.code ({ cls := "FairFightModel", name := "played", desc := "(I)I" } : Jvm.MethodName) prog_12_method_53_code (2 : Nat) (Option.some Jvm.ClassFile.FieldType.int)) ∈ lw_all := lw_g (lw_at lw_m5 236 rfl) rfl
theorem q1236 : (Jvm.Cond.constantLong "FairFightModel" (260 : Nat) (15 : Int64)) ∈ lw_all := lw_g (lw_at lw_m5 237 rfl) rfl
theorem q1238 : (Jvm.Cond.instanceMethod ({ cls := "FairFightModel", name := "sheet", desc := "(III)I" } : Jvm.MethodName)) ∈ lw_all := lw_g (lw_at lw_m5 239 rfl) rfl
theorem q1239 : (Jvm.Cond.selects "FairFightModel" ({ cls := "FairFightModel", name := "sheet", desc := "(III)I" } : Jvm.MethodName) ({ cls := "FairFightModel", name := "sheet", desc := "(III)I" } : Jvm.MethodName)) ∈ lw_all := lw_g (lw_at lw_m6 0 rfl) rfl
theorem q1240 : (Jvm.Cond.code ({ cls := "FairFightModel", name := "sheet", desc := "(III)I" } : Jvm.MethodName) prog_12_method_56_code (5 : Nat) (Option.some Jvm.ClassFile.FieldType.int)) ∈ lw_all := lw_g (lw_at lw_m6 1 rfl) rfl
theorem q1242 : (Jvm.Cond.instanceMethod ({ cls := "FairFightModel", name := "lose", desc := "(I)I" } : Jvm.MethodName)) ∈ lw_all := lw_g (lw_at lw_m6 3 rfl) rfl
theorem q1243 : (Jvm.Cond.selects "FairFightModel" ({ cls := "FairFightModel", name := "lose", desc := "(I)I" } : Jvm.MethodName) ({ cls := "FairFightModel", name := "lose", desc := "(I)I" } : Jvm.MethodName)) ∈ lw_all := lw_g (lw_at lw_m6 4 rfl) rfl
theorem q1244 : (Jvm.Cond.code ({ cls := "FairFightModel", name := "lose", desc := "(I)I" } : Jvm.MethodName) prog_12_method_57_code (2 : Nat) (Option.some Jvm.ClassFile.FieldType.int)) ∈ lw_all := lw_g (lw_at lw_m6 5 rfl) rfl
theorem q1246 : (Jvm.Cond.instanceMethod ({ cls := "FairFightModel", name := "put", desc := "(IIII)I" } : Jvm.MethodName)) ∈ lw_all := lw_g (lw_at lw_m6 7 rfl) rfl
theorem q1247 : (Jvm.Cond.selects "FairFightModel" ({ cls := "FairFightModel", name := "put", desc := "(IIII)I" } : Jvm.MethodName) ({ cls := "FairFightModel", name := "put", desc := "(IIII)I" } : Jvm.MethodName)) ∈ lw_all := lw_g (lw_at lw_m6 8 rfl) rfl
theorem q1248 : (Jvm.Cond.code ({ cls := "FairFightModel", name := "put", desc := "(IIII)I" } : Jvm.MethodName) prog_12_method_59_code (6 : Nat) (Option.some Jvm.ClassFile.FieldType.int)) ∈ lw_all := lw_g (lw_at lw_m6 9 rfl) rfl
theorem q1249 : (Jvm.Cond.methodLink "FairFightModel" (267 : Nat) ({ cls := "FairFightModel", name := "lacks", desc := "(III)I" } : Jvm.MethodName)) ∈ lw_all := lw_g (lw_at lw_m6 10 rfl) rfl
theorem q1250 : (Jvm.Cond.privateMethod ({ cls := "FairFightModel", name := "lacks", desc := "(III)I" } : Jvm.MethodName)) ∈ lw_tbl := lw_at lw_m6 11 rfl
theorem q1251 : (Jvm.Cond.instanceMethod ({ cls := "FairFightModel", name := "lacks", desc := "(III)I" } : Jvm.MethodName)) ∈ lw_all := lw_g (lw_at lw_m6 12 rfl) rfl
theorem q1252 : (Jvm.Cond.code ({ cls := "FairFightModel", name := "lacks", desc := "(III)I" } : Jvm.MethodName) prog_12_method_58_code (4 : Nat) (Option.some Jvm.ClassFile.FieldType.int)) ∈ lw_all := lw_g (lw_at lw_m6 13 rfl) rfl
theorem q1254 : (Jvm.Cond.instanceMethod ({ cls := "FairFightModel", name := "get", desc := "(III)I" } : Jvm.MethodName)) ∈ lw_all := lw_g (lw_at lw_m6 15 rfl) rfl
theorem q1255 : (Jvm.Cond.selects "FairFightModel" ({ cls := "FairFightModel", name := "get", desc := "(III)I" } : Jvm.MethodName) ({ cls := "FairFightModel", name := "get", desc := "(III)I" } : Jvm.MethodName)) ∈ lw_all := lw_g (lw_at lw_m6 16 rfl) rfl
theorem q1256 : (Jvm.Cond.code ({ cls := "FairFightModel", name := "get", desc := "(III)I" } : Jvm.MethodName) prog_12_method_60_code (4 : Nat) (Option.some Jvm.ClassFile.FieldType.int)) ∈ lw_all := lw_g (lw_at lw_m6 17 rfl) rfl
theorem q1258 : (Jvm.Cond.instanceMethod ({ cls := "FairFightModel", name := "copy", desc := "(IIIII)I" } : Jvm.MethodName)) ∈ lw_all := lw_g (lw_at lw_m6 19 rfl) rfl
theorem q1259 : (Jvm.Cond.selects "FairFightModel" ({ cls := "FairFightModel", name := "copy", desc := "(IIIII)I" } : Jvm.MethodName) ({ cls := "FairFightModel", name := "copy", desc := "(IIIII)I" } : Jvm.MethodName)) ∈ lw_all := lw_g (lw_at lw_m6 20 rfl) rfl
theorem q1260 : (Jvm.Cond.code ({ cls := "FairFightModel", name := "copy", desc := "(IIIII)I" } : Jvm.MethodName) prog_12_method_61_code (7 : Nat) (Option.some Jvm.ClassFile.FieldType.int)) ∈ lw_all := lw_g (lw_at lw_m6 21 rfl) rfl
theorem q1262 : (Jvm.Cond.instanceMethod ({ cls := "FairFightModel", name := "shake", desc := "(II)I" } : Jvm.MethodName)) ∈ lw_all := lw_g (lw_at lw_m6 23 rfl) rfl
theorem q1263 : (Jvm.Cond.selects "FairFightModel" ({ cls := "FairFightModel", name := "shake", desc := "(II)I" } : Jvm.MethodName) ({ cls := "FairFightModel", name := "shake", desc := "(II)I" } : Jvm.MethodName)) ∈ lw_all := lw_g (lw_at lw_m6 24 rfl) rfl
theorem q1264 : (Jvm.Cond.code ({ cls := "FairFightModel", name := "shake", desc := "(II)I" } : Jvm.MethodName) prog_12_method_62_code (5 : Nat) (Option.some Jvm.ClassFile.FieldType.int)) ∈ lw_all := lw_g (lw_at lw_m6 25 rfl) rfl
theorem q1265 : (Jvm.Cond.constant "FairFightModel" (270 : Nat) (1103515245 : Int32)) ∈ lw_all := lw_g (lw_at lw_m6 26 rfl) rfl
theorem q1267 : (Jvm.Cond.instanceMethod ({ cls := "FairFightModel", name := "count", desc := "(I)I" } : Jvm.MethodName)) ∈ lw_all := lw_g (lw_at lw_m6 28 rfl) rfl
theorem q1268 : (Jvm.Cond.selects "FairFightModel" ({ cls := "FairFightModel", name := "count", desc := "(I)I" } : Jvm.MethodName) ({ cls := "FairFightModel", name := "count", desc := "(I)I" } : Jvm.MethodName)) ∈ lw_all := lw_g (lw_at lw_m6 29 rfl) rfl
theorem q1269 : (Jvm.Cond.code ({ cls := "FairFightModel", name := "count", desc := "(I)I" } : Jvm.MethodName) prog_12_method_63_code (2 : Nat) (Option.some Jvm.ClassFile.FieldType.int)) ∈ lw_all := lw_g (lw_at lw_m6 30 rfl) rfl
theorem q1271 : (Jvm.Cond.instanceMethod ({ cls := "FairFightModel", name := "digest", desc := "()J" } : Jvm.MethodName)) ∈ lw_all := lw_g (lw_at lw_m6 32 rfl) rfl
theorem q1272 : (Jvm.Cond.selects "FairFightModel" ({ cls := "FairFightModel", name := "digest", desc := "()J" } : Jvm.MethodName) ({ cls := "FairFightModel", name := "digest", desc := "()J" } : Jvm.MethodName)) ∈ lw_all := lw_g (lw_at lw_m6 33 rfl) rfl
theorem q1273 : (Jvm.Cond.code ({ cls := "FairFightModel", name := "digest", desc := "()J" } : Jvm.MethodName) prog_12_method_64_code (4 : Nat) (Option.some Jvm.ClassFile.FieldType.long)) ∈ lw_all := lw_g (lw_at lw_m6 34 rfl) rfl
theorem q1274 : (Jvm.Cond.constantLong "FairFightModel" (271 : Nat) (17 : Int64)) ∈ lw_all := lw_g (lw_at lw_m6 35 rfl) rfl
theorem q1275 : (Jvm.Cond.methodLink "FairFightModel" (273 : Nat) ({ cls := "FairFightModel", name := "count", desc := "(I)I" } : Jvm.MethodName)) ∈ lw_all := lw_g (lw_at lw_m6 36 rfl) rfl
theorem q1288 : (Jvm.Cond.castable "FairFightModel" "java/lang/Object") ∈ lw_tbl := lw_at lw_m6 49 rfl
theorem in_X3 : ∀ w ∈ wsX30, w ∈ lw_all := lw_in wsX30 [929, 931, 933, 935, 937, 939, 941, 943, 945, 947, 949, 951, 953, 955, 957, 959, 961, 963, 965, 967, 969, 971, 973, 975, 977, 979, 981, 983, 985, 987, 989, 991, 993, 995, 997, 999, 1001, 1003, 1005, 1007, 1009] (by decide +kernel) (by decide +kernel)
