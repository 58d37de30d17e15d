set_option maxRecDepth 100000
theorem dX0_look_154 : decode cX0_look 154 = .ok (.getfield 94, 3) := dk_180 0 94 (dk_at dksX0_look_5 2 rfl rfl)
theorem dX0_look_157 : decode cX0_look 157 = .ok (.iconst 2, 1) := dk_5 (dk_at dksX0_look_5 5 rfl rfl)
theorem dX0_look_158 : decode cX0_look 158 = .ok (.invokevirtual 399, 3) := dk_182 1 143 (dk_at dksX0_look_5 6 rfl rfl)
theorem dX0_look_161 : decode cX0_look 161 = .ok (.ireturn, 1) := dk_172 (dk_at dksX0_look_5 9 rfl rfl)
theorem dX0_look_162 : decode cX0_look 162 = .ok (.aload_n 0, 1) := dk_42 (dk_at dksX0_look_5 10 rfl rfl)
theorem dX0_look_163 : decode cX0_look 163 = .ok (.getfield 71, 3) := dk_180 0 71 (dk_at dksX0_look_5 11 rfl rfl)
theorem dX0_look_166 : decode cX0_look 166 = .ok (.iload_n 1, 1) := dk_27 (dk_at dksX0_look_5 14 rfl rfl)
theorem dX0_look_167 : decode cX0_look 167 = .ok (.bipush 10, 2) := dk_16 10 (dk_at dksX0_look_5 15 rfl rfl)
theorem dX0_look_169 : decode cX0_look 169 = .ok (.isub, 1) := dk_100 (dk_at dksX0_look_5 17 rfl rfl)
theorem dX0_look_170 : decode cX0_look 170 = .ok (.aaload, 1) := dk_50 (dk_at dksX0_look_5 18 rfl rfl)
theorem dX0_look_171 : decode cX0_look 171 = .ok (.getfield 275, 3) := dk_180 1 19 (dk_at dksX0_look_5 19 rfl rfl)
theorem dX0_look_174 : decode cX0_look 174 = .ok (.ireturn, 1) := dk_172 (dk_at dksX0_look_5 22 rfl rfl)
theorem dX0_look_175 : decode cX0_look 175 = .ok (.aload_n 0, 1) := dk_42 (dk_at dksX0_look_5 23 rfl rfl)
theorem dX0_look_176 : decode cX0_look 176 = .ok (.getfield 78, 3) := dk_180 0 78 (dk_at dksX0_look_6 0 rfl rfl)
theorem dX0_look_179 : decode cX0_look 179 = .ok (.getfield 308, 3) := dk_180 1 52 (dk_at dksX0_look_6 3 rfl rfl)
theorem dX0_look_182 : decode cX0_look 182 = .ok (.ireturn, 1) := dk_172 (dk_at dksX0_look_6 6 rfl rfl)
theorem dX0_look_183 : decode cX0_look 183 = .ok (.iconst (-1), 1) := dk_2 (dk_at dksX0_look_6 7 rfl rfl)
theorem dX0_look_184 : decode cX0_look 184 = .ok (.ireturn, 1) := dk_172 (dk_at dksX0_look_6 8 rfl rfl)
theorem q118 : (Jvm.Cond.initialized "FourCars") ∈ lw_all := lw_g (lw_at lw_m1 1 rfl) rfl
theorem q145 : (Jvm.Cond.instantiable "FourCars" (30 : Nat)) ∈ lw_all := lw_g (lw_at lw_m1 28 rfl) rfl
theorem q147 : (Jvm.Cond.instanceMethod ({ cls := "FourCars", name := "<init>", desc := "()V" } : Jvm.MethodName)) ∈ lw_all := lw_g (lw_at lw_m1 30 rfl) rfl
theorem q148 : (Jvm.Cond.code ({ cls := "FourCars", name := "<init>", desc := "()V" } : Jvm.MethodName) prog_1_method_2_code (1 : Nat) (Option.none : Option Jvm.ClassFile.FieldType)) ∈ lw_all := lw_g (lw_at lw_m1 31 rfl) rfl
theorem q149 : (Jvm.Cond.methodLink "FourCars" (1 : Nat) ({ cls := "java/lang/Object", name := "<init>", desc := "()V" } : Jvm.MethodName)) ∈ lw_all := lw_g (lw_at lw_m1 32 rfl) rfl
theorem q152 : (Jvm.Cond.classLink "FourCars" (13 : Nat) "java/lang/String") ∈ lw_all := lw_g (lw_at lw_m1 35 rfl) rfl
theorem q154 : (Jvm.Cond.stringRef "FourCars" (15 : Nat) "cost") ∈ lw_tbl := lw_at lw_m1 37 rfl
theorem q155 : (Jvm.Cond.stringRef "FourCars" (17 : Nat) "never") ∈ lw_tbl := lw_at lw_m1 38 rfl
theorem q156 : (Jvm.Cond.stringRef "FourCars" (23 : Nat) "floors") ∈ lw_tbl := lw_at lw_m1 39 rfl
theorem q157 : (Jvm.Cond.stringRef "FourCars" (25 : Nat) "car") ∈ lw_tbl := lw_at lw_m1 40 rfl
theorem q158 : (Jvm.Cond.stringRef "FourCars" (27 : Nat) "skip") ∈ lw_tbl := lw_at lw_m1 41 rfl
theorem q159 : (Jvm.Cond.stringRef "FourCars" (32 : Nat) "far") ∈ lw_tbl := lw_at lw_m1 42 rfl
theorem q160 : (Jvm.Cond.stringRef "FourCars" (34 : Nat) "same") ∈ lw_tbl := lw_at lw_m1 43 rfl
theorem q161 : (Jvm.Cond.stringRef "FourCars" (36 : Nat) "against") ∈ lw_tbl := lw_at lw_m1 44 rfl
theorem q162 : (Jvm.Cond.stringRef "FourCars" (38 : Nat) "load") ∈ lw_tbl := lw_at lw_m1 45 rfl
theorem q163 : (Jvm.Cond.stringRef "FourCars" (40 : Nat) "given") ∈ lw_tbl := lw_at lw_m1 46 rfl
theorem q164 : (Jvm.Cond.stringRef "FourCars" (42 : Nat) "idle") ∈ lw_tbl := lw_at lw_m1 47 rfl
theorem q165 : (Jvm.Cond.stringRef "FourCars" (44 : Nat) "up") ∈ lw_tbl := lw_at lw_m1 48 rfl
theorem q166 : (Jvm.Cond.stringRef "FourCars" (46 : Nat) "floor") ∈ lw_tbl := lw_at lw_m1 49 rfl
theorem q167 : (Jvm.Cond.stringRef "FourCars" (48 : Nat) "waits") ∈ lw_tbl := lw_at lw_m1 50 rfl
theorem q168 : (Jvm.Cond.stringRef "FourCars" (53 : Nat) "when") ∈ lw_tbl := lw_at lw_m1 51 rfl
theorem q169 : (Jvm.Cond.stringRef "FourCars" (55 : Nat) "or") ∈ lw_tbl := lw_at lw_m1 52 rfl
theorem q170 : (Jvm.Cond.stringRef "FourCars" (57 : Nat) "and") ∈ lw_tbl := lw_at lw_m1 53 rfl
theorem q171 : (Jvm.Cond.stringRef "FourCars" (59 : Nat) "not") ∈ lw_tbl := lw_at lw_m1 54 rfl
theorem q172 : (Jvm.Cond.classLink "FourCars" (68 : Nat) "FourCars$Text") ∈ lw_all := lw_g (lw_at lw_m1 55 rfl) rfl
theorem q175 : (Jvm.Cond.methodLinkNest "FourCars" (70 : Nat) ({ cls := "FourCars$Text", name := "<init>", desc := "()V" } : Jvm.MethodName) "FourCars") ∈ lw_tbl := lw_at lw_m1 58 rfl
theorem q183 : (Jvm.Cond.fieldLink "FourCars" (278 : Nat) "FourCars$Text" "word" "[I") ∈ lw_all := lw_g (lw_at lw_m1 66 rfl) rfl
theorem q186 : (Jvm.Cond.fieldLink "FourCars" (281 : Nat) "FourCars$Text" "worth" "[LFourCars$Term;") ∈ lw_all := lw_g (lw_at lw_m1 69 rfl) rfl
theorem q188 : (Jvm.Cond.fieldLink "FourCars" (285 : Nat) "FourCars$Text" "when" "[LFourCars$Term;") ∈ lw_all := lw_g (lw_at lw_m1 71 rfl) rfl
theorem q190 : (Jvm.Cond.fieldLink "FourCars" (275 : Nat) "FourCars$Text" "many" "I") ∈ lw_all := lw_g (lw_at lw_m1 73 rfl) rfl
theorem q202 : (Jvm.Cond.classLink "FourCars" (75 : Nat) "FourCars$Plan") ∈ lw_all := lw_g (lw_at lw_m1 85 rfl) rfl
theorem q204 : (Jvm.Cond.methodLinkNest "FourCars" (77 : Nat) ({ cls := "FourCars$Plan", name := "<init>", desc := "()V" } : Jvm.MethodName) "FourCars") ∈ lw_tbl := lw_at lw_m1 87 rfl
theorem q211 : (Jvm.Cond.fieldLink "FourCars" (306 : Nat) "FourCars$Plan" "floors" "I") ∈ lw_all := lw_g (lw_at lw_m1 94 rfl) rfl
theorem q213 : (Jvm.Cond.fieldLink "FourCars" (290 : Nat) "FourCars$Plan" "cars" "I") ∈ lw_all := lw_g (lw_at lw_m1 96 rfl) rfl
theorem q214 : (Jvm.Cond.fieldLink "FourCars" (308 : Nat) "FourCars$Plan" "lines" "I") ∈ lw_all := lw_g (lw_at lw_m1 97 rfl) rfl
theorem q217 : (Jvm.Cond.fieldLink "FourCars" (287 : Nat) "FourCars$Plan" "room" "[I") ∈ lw_all := lw_g (lw_at lw_m1 100 rfl) rfl
theorem q220 : (Jvm.Cond.fieldLink "FourCars" (296 : Nat) "FourCars$Plan" "speed" "[I") ∈ lw_all := lw_g (lw_at lw_m1 103 rfl) rfl
theorem q223 : (Jvm.Cond.fieldLink "FourCars" (299 : Nat) "FourCars$Plan" "door" "[I") ∈ lw_all := lw_g (lw_at lw_m1 106 rfl) rfl
theorem q226 : (Jvm.Cond.fieldLink "FourCars" (302 : Nat) "FourCars$Plan" "load" "[I") ∈ lw_all := lw_g (lw_at lw_m1 109 rfl) rfl
theorem q229 : (Jvm.Cond.fieldLink "FourCars" (304 : Nat) "FourCars$Plan" "floor" "[I") ∈ lw_all := lw_g (lw_at lw_m1 112 rfl) rfl
theorem q231 : (Jvm.Cond.fieldLink "FourCars" (315 : Nat) "FourCars$Plan" "skips" "[[Z") ∈ lw_all := lw_g (lw_at lw_m1 114 rfl) rfl
theorem q252 : (Jvm.Cond.classLink "FourCars" (89 : Nat) "FourCars$Tower") ∈ lw_all := lw_g (lw_at lw_m1 135 rfl) rfl
theorem q254 : (Jvm.Cond.methodLink "FourCars" (91 : Nat) ({ cls := "FourCars$Tower", name := "<init>", desc := "(LFourCars;)V" } : Jvm.MethodName)) ∈ lw_all := lw_g (lw_at lw_m1 137 rfl) rfl
theorem q269 : (Jvm.Cond.fieldLink "FourCars" (413 : Nat) "FourCars$Person" "second" "I") ∈ lw_all := lw_g (lw_at lw_m1 152 rfl) rfl
theorem q272 : (Jvm.Cond.fieldLink "FourCars" (416 : Nat) "FourCars$Person" "from" "I") ∈ lw_all := lw_g (lw_at lw_m1 155 rfl) rfl
theorem q275 : (Jvm.Cond.fieldLink "FourCars" (417 : Nat) "FourCars$Person" "to" "I") ∈ lw_all := lw_g (lw_at lw_m1 158 rfl) rfl
theorem q278 : (Jvm.Cond.fieldLink "FourCars" (373 : Nat) "FourCars$Person" "state" "I") ∈ lw_all := lw_g (lw_at lw_m1 161 rfl) rfl
theorem q281 : (Jvm.Cond.fieldLink "FourCars" (371 : Nat) "FourCars$Person" "car" "I") ∈ lw_all := lw_g (lw_at lw_m1 164 rfl) rfl
theorem q284 : (Jvm.Cond.fieldLink "FourCars" (420 : Nat) "FourCars$Person" "entered" "I") ∈ lw_all := lw_g (lw_at lw_m1 167 rfl) rfl
theorem q287 : (Jvm.Cond.fieldLink "FourCars" (423 : Nat) "FourCars$Person" "left" "I") ∈ lw_all := lw_g (lw_at lw_m1 170 rfl) rfl
theorem q310 : (Jvm.Cond.fieldLink "FourCars" (405 : Nat) "FourCars$Car" "floor" "I") ∈ lw_all := lw_g (lw_at lw_m1 193 rfl) rfl
theorem q313 : (Jvm.Cond.fieldLink "FourCars" (380 : Nat) "FourCars$Car" "way" "I") ∈ lw_all := lw_g (lw_at lw_m1 196 rfl) rfl
theorem q316 : (Jvm.Cond.fieldLink "FourCars" (376 : Nat) "FourCars$Car" "state" "I") ∈ lw_all := lw_g (lw_at lw_m1 199 rfl) rfl
theorem q319 : (Jvm.Cond.fieldLink "FourCars" (377 : Nat) "FourCars$Car" "more" "I") ∈ lw_all := lw_g (lw_at lw_m1 202 rfl) rfl
theorem q322 : (Jvm.Cond.fieldLink "FourCars" (396 : Nat) "FourCars$Car" "home" "I") ∈ lw_all := lw_g (lw_at lw_m1 205 rfl) rfl
theorem q325 : (Jvm.Cond.fieldLink "FourCars" (365 : Nat) "FourCars$Car" "isOut" "Z") ∈ lw_all := lw_g (lw_at lw_m1 208 rfl) rfl
theorem q348 : (Jvm.Cond.fieldLink "FourCars" (352 : Nat) "FourCars$Tower" "people" "[LFourCars$Person;") ∈ lw_all := lw_g (lw_at lw_m1 231 rfl) rfl
theorem q350 : (Jvm.Cond.fieldLink "FourCars" (362 : Nat) "FourCars$Tower" "cars" "[LFourCars$Car;") ∈ lw_all := lw_g (lw_at lw_m1 233 rfl) rfl
theorem q352 : (Jvm.Cond.fieldLink "FourCars" (345 : Nat) "FourCars$Tower" "many" "I") ∈ lw_all := lw_g (lw_at lw_m1 235 rfl) rfl
theorem q354 : (Jvm.Cond.fieldLink "FourCars" (346 : Nat) "FourCars$Tower" "now" "I") ∈ lw_all := lw_g (lw_at lw_m1 237 rfl) rfl
theorem q356 : (Jvm.Cond.fieldLink "FourCars" (386 : Nat) "FourCars$Tower" "rule" "I") ∈ lw_all := lw_g (lw_at lw_m1 239 rfl) rfl
theorem q358 : (Jvm.Cond.fieldLink "FourCars" (467 : Nat) "FourCars$Tower" "giving" "[I") ∈ lw_all := lw_g (lw_at lw_m2 1 rfl) rfl
theorem q360 : (Jvm.Cond.fieldLink "FourCars" (489 : Nat) "FourCars$Tower" "joker" "I") ∈ lw_all := lw_g (lw_at lw_m2 3 rfl) rfl
theorem q362 : (Jvm.Cond.fieldLink "FourCars" (492 : Nat) "FourCars$Tower" "jokeFloor" "I") ∈ lw_all := lw_g (lw_at lw_m2 5 rfl) rfl
theorem q364 : (Jvm.Cond.fieldLinkNest "FourCars" (431 : Nat) "FourCars$Tower" "isNever" "Z" "FourCars") ∈ lw_tbl := lw_at lw_m2 7 rfl
theorem q393 : (Jvm.Cond.classLink "FourCars" (110 : Nat) "[[I") ∈ lw_all := lw_g (lw_at lw_m2 36 rfl) rfl
theorem q395 : (Jvm.Cond.fieldLink "FourCars" (9 : Nat) "FourCars" "tape" "[B") ∈ lw_all := lw_g (lw_at lw_m2 38 rfl) rfl
theorem q396 : (Jvm.Cond.fieldLink "FourCars" (130 : Nat) "FourCars" "taped" "I") ∈ lw_all := lw_g (lw_at lw_m2 39 rfl) rfl
theorem q397 : (Jvm.Cond.fieldLink "FourCars" (19 : Nat) "FourCars" "ruleWords" "[Ljava/lang/String;") ∈ lw_all := lw_g (lw_at lw_m2 40 rfl) rfl
theorem q398 : (Jvm.Cond.fieldLink "FourCars" (29 : Nat) "FourCars" "towerWords" "[Ljava/lang/String;") ∈ lw_all := lw_g (lw_at lw_m2 41 rfl) rfl
theorem q399 : (Jvm.Cond.fieldLink "FourCars" (50 : Nat) "FourCars" "asked" "[Ljava/lang/String;") ∈ lw_all := lw_g (lw_at lw_m2 42 rfl) rfl
theorem q400 : (Jvm.Cond.fieldLink "FourCars" (61 : Nat) "FourCars" "others" "[Ljava/lang/String;") ∈ lw_all := lw_g (lw_at lw_m2 43 rfl) rfl
theorem q401 : (Jvm.Cond.fieldLink "FourCars" (159 : Nat) "FourCars" "token" "LFourCars$Token;") ∈ lw_all := lw_g (lw_at lw_m2 44 rfl) rfl
theorem q402 : (Jvm.Cond.fieldLink "FourCars" (145 : Nat) "FourCars" "spot" "I") ∈ lw_all := lw_g (lw_at lw_m2 45 rfl) rfl
theorem q403 : (Jvm.Cond.fieldLink "FourCars" (148 : Nat) "FourCars" "from" "I") ∈ lw_all := lw_g (lw_at lw_m2 46 rfl) rfl
theorem q404 : (Jvm.Cond.fieldLink "FourCars" (175 : Nat) "FourCars" "value" "I") ∈ lw_all := lw_g (lw_at lw_m2 47 rfl) rfl
theorem q405 : (Jvm.Cond.fieldLink "FourCars" (245 : Nat) "FourCars" "open" "I") ∈ lw_all := lw_g (lw_at lw_m2 48 rfl) rfl
theorem q406 : (Jvm.Cond.fieldLink "FourCars" (319 : Nat) "FourCars" "faultKind" "I") ∈ lw_all := lw_g (lw_at lw_m2 49 rfl) rfl
theorem q407 : (Jvm.Cond.fieldLink "FourCars" (64 : Nat) "FourCars" "faultPlace" "I") ∈ lw_all := lw_g (lw_at lw_m2 50 rfl) rfl
theorem q408 : (Jvm.Cond.fieldLink "FourCars" (71 : Nat) "FourCars" "rules" "[LFourCars$Text;") ∈ lw_all := lw_g (lw_at lw_m2 51 rfl) rfl
theorem q410 : (Jvm.Cond.fieldLink "FourCars" (78 : Nat) "FourCars" "plan" "LFourCars$Plan;") ∈ lw_all := lw_g (lw_at lw_m2 53 rfl) rfl
theorem q412 : (Jvm.Cond.fieldLink "FourCars" (82 : Nat) "FourCars" "weights" "[I") ∈ lw_all := lw_g (lw_at lw_m2 55 rfl) rfl
theorem q413 : (Jvm.Cond.fieldLink "FourCars" (86 : Nat) "FourCars" "has" "[I") ∈ lw_all := lw_g (lw_at lw_m2 56 rfl) rfl
theorem q415 : (Jvm.Cond.fieldLink "FourCars" (94 : Nat) "FourCars" "tower" "LFourCars$Tower;") ∈ lw_all := lw_g (lw_at lw_m2 58 rfl) rfl
theorem q416 : (Jvm.Cond.fieldLink "FourCars" (98 : Nat) "FourCars" "thought" "LFourCars$Tower;") ∈ lw_all := lw_g (lw_at lw_m2 59 rfl) rfl
theorem q417 : (Jvm.Cond.fieldLink "FourCars" (101 : Nat) "FourCars" "kept" "LFourCars$Tower;") ∈ lw_all := lw_g (lw_at lw_m2 60 rfl) rfl
theorem q418 : (Jvm.Cond.fieldLink "FourCars" (104 : Nat) "FourCars" "giving" "[I") ∈ lw_all := lw_g (lw_at lw_m2 61 rfl) rfl
theorem q419 : (Jvm.Cond.fieldLink "FourCars" (107 : Nat) "FourCars" "bestGiving" "[I") ∈ lw_all := lw_g (lw_at lw_m2 62 rfl) rfl
theorem q420 : (Jvm.Cond.fieldLink "FourCars" (112 : Nat) "FourCars" "above" "[[I") ∈ lw_all := lw_g (lw_at lw_m2 63 rfl) rfl
theorem q421 : (Jvm.Cond.fieldLink "FourCars" (115 : Nat) "FourCars" "chosen" "[I") ∈ lw_all := lw_g (lw_at lw_m2 64 rfl) rfl
theorem q422 : (Jvm.Cond.fieldLink "FourCars" (118 : Nat) "FourCars" "cuts" "[I") ∈ lw_all := lw_g (lw_at lw_m2 65 rfl) rfl
theorem q423 : (Jvm.Cond.fieldLink "FourCars" (121 : Nat) "FourCars" "bestCuts" "[I") ∈ lw_all := lw_g (lw_at lw_m2 66 rfl) rfl
theorem q424 : (Jvm.Cond.fieldLink "FourCars" (513 : Nat) "FourCars" "leastZones" "I") ∈ lw_all := lw_g (lw_at lw_m2 67 rfl) rfl
theorem q425 : (Jvm.Cond.fieldLink "FourCars" (519 : Nat) "FourCars" "keptPlan" "LFourCars$Plan;") ∈ lw_all := lw_g (lw_at lw_m2 68 rfl) rfl
theorem q426 : (Jvm.Cond.fieldLink "FourCars" (124 : Nat) "FourCars" "keptRules" "[LFourCars$Text;") ∈ lw_all := lw_g (lw_at lw_m2 69 rfl) rfl
theorem q427 : (Jvm.Cond.fieldLink "FourCars" (127 : Nat) "FourCars" "keptWeights" "[I") ∈ lw_all := lw_g (lw_at lw_m2 70 rfl) rfl
theorem q428 : (Jvm.Cond.laysFinal "FourCars" "FourCars" "tape" "[B") ∈ lw_all := lw_g (lw_at lw_m2 71 rfl) rfl
theorem q429 : (Jvm.Cond.soleField "FourCars" "tape") ∈ lw_all := lw_g (lw_at lw_m2 72 rfl) rfl
theorem q430 : (Jvm.Cond.lays "FourCars" "FourCars" "taped" "I") ∈ lw_all := lw_g (lw_at lw_m2 73 rfl) rfl
theorem q431 : (Jvm.Cond.soleField "FourCars" "taped") ∈ lw_all := lw_g (lw_at lw_m2 74 rfl) rfl
theorem q432 : (Jvm.Cond.laysFinal "FourCars" "FourCars" "ruleWords" "[Ljava/lang/String;") ∈ lw_all := lw_g (lw_at lw_m2 75 rfl) rfl
theorem q433 : (Jvm.Cond.soleField "FourCars" "ruleWords") ∈ lw_all := lw_g (lw_at lw_m2 76 rfl) rfl
theorem q434 : (Jvm.Cond.laysFinal "FourCars" "FourCars" "towerWords" "[Ljava/lang/String;") ∈ lw_all := lw_g (lw_at lw_m2 77 rfl) rfl
theorem q435 : (Jvm.Cond.soleField "FourCars" "towerWords") ∈ lw_all := lw_g (lw_at lw_m2 78 rfl) rfl
theorem q436 : (Jvm.Cond.laysFinal "FourCars" "FourCars" "asked" "[Ljava/lang/String;") ∈ lw_all := lw_g (lw_at lw_m2 79 rfl) rfl
theorem q437 : (Jvm.Cond.soleField "FourCars" "asked") ∈ lw_all := lw_g (lw_at lw_m2 80 rfl) rfl
theorem q438 : (Jvm.Cond.laysFinal "FourCars" "FourCars" "others" "[Ljava/lang/String;") ∈ lw_all := lw_g (lw_at lw_m2 81 rfl) rfl
theorem q439 : (Jvm.Cond.soleField "FourCars" "others") ∈ lw_all := lw_g (lw_at lw_m2 82 rfl) rfl
theorem q440 : (Jvm.Cond.lays "FourCars" "FourCars" "token" "LFourCars$Token;") ∈ lw_all := lw_g (lw_at lw_m2 83 rfl) rfl
theorem q441 : (Jvm.Cond.soleField "FourCars" "token") ∈ lw_all := lw_g (lw_at lw_m2 84 rfl) rfl
theorem q442 : (Jvm.Cond.lays "FourCars" "FourCars" "spot" "I") ∈ lw_all := lw_g (lw_at lw_m2 85 rfl) rfl
theorem q443 : (Jvm.Cond.soleField "FourCars" "spot") ∈ lw_all := lw_g (lw_at lw_m2 86 rfl) rfl
theorem q444 : (Jvm.Cond.lays "FourCars" "FourCars" "from" "I") ∈ lw_all := lw_g (lw_at lw_m2 87 rfl) rfl
theorem q445 : (Jvm.Cond.soleField "FourCars" "from") ∈ lw_all := lw_g (lw_at lw_m2 88 rfl) rfl
theorem q446 : (Jvm.Cond.lays "FourCars" "FourCars" "value" "I") ∈ lw_all := lw_g (lw_at lw_m2 89 rfl) rfl
theorem q447 : (Jvm.Cond.soleField "FourCars" "value") ∈ lw_all := lw_g (lw_at lw_m2 90 rfl) rfl
theorem q448 : (Jvm.Cond.lays "FourCars" "FourCars" "open" "I") ∈ lw_all := lw_g (lw_at lw_m2 91 rfl) rfl
theorem q449 : (Jvm.Cond.soleField "FourCars" "open") ∈ lw_all := lw_g (lw_at lw_m2 92 rfl) rfl
theorem q450 : (Jvm.Cond.lays "FourCars" "FourCars" "faultKind" "I") ∈ lw_all := lw_g (lw_at lw_m2 93 rfl) rfl
theorem q451 : (Jvm.Cond.soleField "FourCars" "faultKind") ∈ lw_all := lw_g (lw_at lw_m2 94 rfl) rfl
theorem q452 : (Jvm.Cond.lays "FourCars" "FourCars" "faultPlace" "I") ∈ lw_all := lw_g (lw_at lw_m2 95 rfl) rfl
theorem q453 : (Jvm.Cond.soleField "FourCars" "faultPlace") ∈ lw_all := lw_g (lw_at lw_m2 96 rfl) rfl
theorem q454 : (Jvm.Cond.laysFinal "FourCars" "FourCars" "rules" "[LFourCars$Text;") ∈ lw_all := lw_g (lw_at lw_m2 97 rfl) rfl
theorem q455 : (Jvm.Cond.soleField "FourCars" "rules") ∈ lw_all := lw_g (lw_at lw_m2 98 rfl) rfl
theorem q456 : (Jvm.Cond.lays "FourCars" "FourCars" "plan" "LFourCars$Plan;") ∈ lw_all := lw_g (lw_at lw_m2 99 rfl) rfl
theorem q457 : (Jvm.Cond.soleField "FourCars" "plan") ∈ lw_all := lw_g (lw_at lw_m2 100 rfl) rfl
theorem q458 : (Jvm.Cond.laysFinal "FourCars" "FourCars" "weights" "[I") ∈ lw_all := lw_g (lw_at lw_m2 101 rfl) rfl
theorem q459 : (Jvm.Cond.soleField "FourCars" "weights") ∈ lw_all := lw_g (lw_at lw_m2 102 rfl) rfl
theorem q460 : (Jvm.Cond.laysFinal "FourCars" "FourCars" "has" "[I") ∈ lw_all := lw_g (lw_at lw_m2 103 rfl) rfl
theorem q461 : (Jvm.Cond.soleField "FourCars" "has") ∈ lw_all := lw_g (lw_at lw_m2 104 rfl) rfl
theorem q462 : (Jvm.Cond.laysFinal "FourCars" "FourCars" "tower" "LFourCars$Tower;") ∈ lw_all := lw_g (lw_at lw_m2 105 rfl) rfl
theorem q463 : (Jvm.Cond.soleField "FourCars" "tower") ∈ lw_all := lw_g (lw_at lw_m2 106 rfl) rfl
theorem q464 : (Jvm.Cond.laysFinal "FourCars" "FourCars" "thought" "LFourCars$Tower;") ∈ lw_all := lw_g (lw_at lw_m2 107 rfl) rfl
theorem q465 : (Jvm.Cond.soleField "FourCars" "thought") ∈ lw_all := lw_g (lw_at lw_m2 108 rfl) rfl
theorem q466 : (Jvm.Cond.laysFinal "FourCars" "FourCars" "kept" "LFourCars$Tower;") ∈ lw_all := lw_g (lw_at lw_m2 109 rfl) rfl
theorem q467 : (Jvm.Cond.soleField "FourCars" "kept") ∈ lw_all := lw_g (lw_at lw_m2 110 rfl) rfl
theorem q468 : (Jvm.Cond.laysFinal "FourCars" "FourCars" "giving" "[I") ∈ lw_all := lw_g (lw_at lw_m2 111 rfl) rfl
theorem q469 : (Jvm.Cond.soleField "FourCars" "giving") ∈ lw_all := lw_g (lw_at lw_m2 112 rfl) rfl
theorem q470 : (Jvm.Cond.laysFinal "FourCars" "FourCars" "bestGiving" "[I") ∈ lw_all := lw_g (lw_at lw_m2 113 rfl) rfl
theorem q471 : (Jvm.Cond.soleField "FourCars" "bestGiving") ∈ lw_all := lw_g (lw_at lw_m2 114 rfl) rfl
theorem q472 : (Jvm.Cond.laysFinal "FourCars" "FourCars" "above" "[[I") ∈ lw_all := lw_g (lw_at lw_m2 115 rfl) rfl
theorem q473 : (Jvm.Cond.soleField "FourCars" "above") ∈ lw_all := lw_g (lw_at lw_m2 116 rfl) rfl
theorem q474 : (Jvm.Cond.laysFinal "FourCars" "FourCars" "chosen" "[I") ∈ lw_all := lw_g (lw_at lw_m2 117 rfl) rfl
theorem q475 : (Jvm.Cond.soleField "FourCars" "chosen") ∈ lw_all := lw_g (lw_at lw_m2 118 rfl) rfl
theorem q476 : (Jvm.Cond.laysFinal "FourCars" "FourCars" "cuts" "[I") ∈ lw_all := lw_g (lw_at lw_m2 119 rfl) rfl
theorem q477 : (Jvm.Cond.soleField "FourCars" "cuts") ∈ lw_all := lw_g (lw_at lw_m2 120 rfl) rfl
theorem q478 : (Jvm.Cond.laysFinal "FourCars" "FourCars" "bestCuts" "[I") ∈ lw_all := lw_g (lw_at lw_m2 121 rfl) rfl
theorem q479 : (Jvm.Cond.soleField "FourCars" "bestCuts") ∈ lw_all := lw_g (lw_at lw_m2 122 rfl) rfl
theorem q480 : (Jvm.Cond.lays "FourCars" "FourCars" "leastZones" "I") ∈ lw_all := lw_g (lw_at lw_m2 123 rfl) rfl
theorem q481 : (Jvm.Cond.soleField "FourCars" "leastZones") ∈ lw_all := lw_g (lw_at lw_m2 124 rfl) rfl
theorem q482 : (Jvm.Cond.lays "FourCars" "FourCars" "keptPlan" "LFourCars$Plan;") ∈ lw_all := lw_g (lw_at lw_m2 125 rfl) rfl
theorem q483 : (Jvm.Cond.soleField "FourCars" "keptPlan") ∈ lw_all := lw_g (lw_at lw_m2 126 rfl) rfl
theorem q484 : (Jvm.Cond.laysFinal "FourCars" "FourCars" "keptRules" "[LFourCars$Text;") ∈ lw_all := lw_g (lw_at lw_m2 127 rfl) rfl
theorem q485 : (Jvm.Cond.soleField "FourCars" "keptRules") ∈ lw_all := lw_g (lw_at lw_m2 128 rfl) rfl
theorem q486 : (Jvm.Cond.laysFinal "FourCars" "FourCars" "keptWeights" "[I") ∈ lw_all := lw_g (lw_at lw_m2 129 rfl) rfl
theorem q487 : (Jvm.Cond.soleField "FourCars" "keptWeights") ∈ lw_all := lw_g (lw_at lw_m2 130 rfl) rfl
theorem q488 : (Jvm.Cond.superclass "FourCars" "java/lang/Object") ∈ lw_all := lw_g (lw_at lw_m2 131 rfl) rfl
theorem q490 : (Jvm.Cond.instanceMethod ({ cls := "FourCars", name := "feed", desc := "(IIIII)I" } : Jvm.MethodName)) ∈ lw_all := lw_g (lw_at lw_m2 133 rfl) rfl
theorem q491 : (Jvm.Cond.selects "FourCars" ({ cls := "FourCars", name := "feed", desc := "(IIIII)I" } : Jvm.MethodName) ({ cls := "FourCars", name := "feed", desc := "(IIIII)I" } : Jvm.MethodName)) ∈ lw_all := lw_g (lw_at lw_m2 134 rfl) rfl
theorem q492 : (Jvm.Cond.code ({ cls := "FourCars", name := "feed", desc := "(IIIII)I" } : Jvm.MethodName) prog_1_method_4_code (6 : Nat) (Option.some Jvm.ClassFile.FieldType.int)) ∈ lw_all := lw_g (lw_at lw_m2 135 rfl) rfl
theorem q493 : (Jvm.Cond.methodLink "FourCars" (133 : Nat) ({ cls := "FourCars", name := "puts", desc := "(I)V" } : Jvm.MethodName)) ∈ lw_all := lw_g (lw_at lw_m2 136 rfl) rfl
theorem q494 : (Jvm.Cond.privateMethod ({ cls := "FourCars", name := "puts", desc := "(I)V" } : Jvm.MethodName)) ∈ lw_tbl := lw_at lw_m2 137 rfl
theorem q495 : (Jvm.Cond.instanceMethod ({ cls := "FourCars", name := "puts", desc := "(I)V" } : Jvm.MethodName)) ∈ lw_all := lw_g (lw_at lw_m2 138 rfl) rfl
theorem q496 : (Jvm.Cond.code ({ cls := "FourCars", name := "puts", desc := "(I)V" } : Jvm.MethodName) prog_1_method_3_code (3 : Nat) (Option.none : Option Jvm.ClassFile.FieldType)) ∈ lw_all := lw_g (lw_at lw_m2 139 rfl) rfl
theorem q498 : (Jvm.Cond.instanceMethod ({ cls := "FourCars", name := "end", desc := "(I)Z" } : Jvm.MethodName)) ∈ lw_all := lw_g (lw_at lw_m2 141 rfl) rfl
theorem q499 : (Jvm.Cond.selects "FourCars" ({ cls := "FourCars", name := "end", desc := "(I)Z" } : Jvm.MethodName) ({ cls := "FourCars", name := "end", desc := "(I)Z" } : Jvm.MethodName)) ∈ lw_all := lw_g (lw_at lw_m2 142 rfl) rfl
theorem q500 : (Jvm.Cond.code ({ cls := "FourCars", name := "end", desc := "(I)Z" } : Jvm.MethodName) prog_1_method_5_code (2 : Nat) (Option.some Jvm.ClassFile.FieldType.boolean)) ∈ lw_all := lw_g (lw_at lw_m2 143 rfl) rfl
theorem q501 : (Jvm.Cond.methodLink "FourCars" (137 : Nat) ({ cls := "FourCars", name := "isIn", desc := "(III)Z" } : Jvm.MethodName)) ∈ lw_all := lw_g (lw_at lw_m2 144 rfl) rfl
theorem q502 : (Jvm.Cond.static ({ cls := "FourCars", name := "isIn", desc := "(III)Z" } : Jvm.MethodName)) ∈ lw_all := lw_g (lw_at lw_m2 145 rfl) rfl
theorem q503 : (Jvm.Cond.code ({ cls := "FourCars", name := "isIn", desc := "(III)Z" } : Jvm.MethodName) prog_1_method_1_code (3 : Nat) (Option.some Jvm.ClassFile.FieldType.boolean)) ∈ lw_all := lw_g (lw_at lw_m2 146 rfl) rfl
theorem q505 : (Jvm.Cond.instanceMethod ({ cls := "FourCars", name := "text", desc := "(I)I" } : Jvm.MethodName)) ∈ lw_all := lw_g (lw_at lw_m2 148 rfl) rfl
theorem q506 : (Jvm.Cond.selects "FourCars" ({ cls := "FourCars", name := "text", desc := "(I)I" } : Jvm.MethodName) ({ cls := "FourCars", name := "text", desc := "(I)I" } : Jvm.MethodName)) ∈ lw_all := lw_g (lw_at lw_m2 149 rfl) rfl
theorem q507 : (Jvm.Cond.codeWith ({ cls := "FourCars", name := "text", desc := "(I)I" } : Jvm.MethodName) prog_1_method_27_code (5 : Nat) (Option.some Jvm.ClassFile.FieldType.int) [((10 : Nat), (21 : Nat), (97 : Nat), (210 : Nat)), ((28 : Nat), (53 : Nat), (97 : Nat), (210 : Nat)), ((60 : Nat), (90 : Nat), (97 : Nat), (210 : Nat)), ((10 : Nat), (21 : Nat), (123 : Nat), (0 : Nat)), ((28 : Nat), (53 : Nat), (123 : Nat), (0 : Nat)), ((60 : Nat), (90 : Nat), (123 : Nat), (0 : Nat)), ((97 : Nat), (116 : Nat), (123 : Nat), (0 : Nat)), ((123 : Nat), (125 : Nat), (123 : Nat), (0 : Nat))]) ∈ lw_all := lw_g (lw_at lw_m2 150 rfl) rfl
theorem q508 : (Jvm.Cond.classLink "FourCars" (210 : Nat) "FourCars$Fault") ∈ lw_all := lw_g (lw_at lw_m2 151 rfl) rfl
theorem q509 : (Jvm.Cond.methodLink "FourCars" (322 : Nat) ({ cls := "FourCars", name := "readsRule", desc := "()LFourCars$Text;" } : Jvm.MethodName)) ∈ lw_all := lw_g (lw_at lw_m2 152 rfl) rfl
theorem q510 : (Jvm.Cond.privateMethod ({ cls := "FourCars", name := "readsRule", desc := "()LFourCars$Text;" } : Jvm.MethodName)) ∈ lw_tbl := lw_at lw_m2 153 rfl
theorem q511 : (Jvm.Cond.instanceMethod ({ cls := "FourCars", name := "readsRule", desc := "()LFourCars$Text;" } : Jvm.MethodName)) ∈ lw_all := lw_g (lw_at lw_m2 154 rfl) rfl
theorem q512 : (Jvm.Cond.code ({ cls := "FourCars", name := "readsRule", desc := "()LFourCars$Text;" } : Jvm.MethodName) prog_1_method_23_code (3 : Nat) (Option.some (Jvm.ClassFile.FieldType.object "FourCars$Text"))) ∈ lw_all := lw_g (lw_at lw_m2 155 rfl) rfl
theorem q513 : (Jvm.Cond.methodLink "FourCars" (223 : Nat) ({ cls := "FourCars", name := "readNext", desc := "()V" } : Jvm.MethodName)) ∈ lw_all := lw_g (lw_at lw_m2 156 rfl) rfl
theorem q514 : (Jvm.Cond.privateMethod ({ cls := "FourCars", name := "readNext", desc := "()V" } : Jvm.MethodName)) ∈ lw_tbl := lw_at lw_m2 157 rfl
theorem q515 : (Jvm.Cond.instanceMethod ({ cls := "FourCars", name := "readNext", desc := "()V" } : Jvm.MethodName)) ∈ lw_all := lw_g (lw_at lw_m2 158 rfl) rfl
theorem q516 : (Jvm.Cond.code ({ cls := "FourCars", name := "readNext", desc := "()V" } : Jvm.MethodName) prog_1_method_13_code (2 : Nat) (Option.none : Option Jvm.ClassFile.FieldType)) ∈ lw_all := lw_g (lw_at lw_m2 159 rfl) rfl
theorem q517 : (Jvm.Cond.methodLink "FourCars" (151 : Nat) ({ cls := "FourCars", name := "raw", desc := "(I)I" } : Jvm.MethodName)) ∈ lw_all := lw_g (lw_at lw_m2 160 rfl) rfl
theorem q518 : (Jvm.Cond.privateMethod ({ cls := "FourCars", name := "raw", desc := "(I)I" } : Jvm.MethodName)) ∈ lw_tbl := lw_at lw_m2 161 rfl
theorem q519 : (Jvm.Cond.instanceMethod ({ cls := "FourCars", name := "raw", desc := "(I)I" } : Jvm.MethodName)) ∈ lw_all := lw_g (lw_at lw_m2 162 rfl) rfl
theorem q520 : (Jvm.Cond.code ({ cls := "FourCars", name := "raw", desc := "(I)I" } : Jvm.MethodName) prog_1_method_6_code (2 : Nat) (Option.some Jvm.ClassFile.FieldType.int)) ∈ lw_all := lw_g (lw_at lw_m2 163 rfl) rfl
theorem q521 : (Jvm.Cond.fieldLink "FourCars" (178 : Nat) "FourCars$Token" "END" "LFourCars$Token;") ∈ lw_all := lw_g (lw_at lw_m2 164 rfl) rfl
theorem q523 : (Jvm.Cond.fieldLink "FourCars" (181 : Nat) "FourCars$Token" "NONE" "LFourCars$Token;") ∈ lw_all := lw_g (lw_at lw_m2 166 rfl) rfl
theorem q525 : (Jvm.Cond.methodLink "FourCars" (184 : Nat) ({ cls := "FourCars", name := "isLetter", desc := "(I)Z" } : Jvm.MethodName)) ∈ lw_all := lw_g (lw_at lw_m2 168 rfl) rfl
theorem q526 : (Jvm.Cond.static ({ cls := "FourCars", name := "isLetter", desc := "(I)Z" } : Jvm.MethodName)) ∈ lw_all := lw_g (lw_at lw_m2 169 rfl) rfl
theorem q527 : (Jvm.Cond.code ({ cls := "FourCars", name := "isLetter", desc := "(I)Z" } : Jvm.MethodName) prog_1_method_7_code (1 : Nat) (Option.some Jvm.ClassFile.FieldType.boolean)) ∈ lw_all := lw_g (lw_at lw_m2 170 rfl) rfl
theorem q528 : (Jvm.Cond.fieldLink "FourCars" (163 : Nat) "FourCars$Token" "WORD" "LFourCars$Token;") ∈ lw_all := lw_g (lw_at lw_m2 171 rfl) rfl
theorem q530 : (Jvm.Cond.methodLink "FourCars" (188 : Nat) ({ cls := "FourCars", name := "wordOf", desc := "([Ljava/lang/String;)I" } : Jvm.MethodName)) ∈ lw_all := lw_g (lw_at lw_m2 173 rfl) rfl
theorem q531 : (Jvm.Cond.privateMethod ({ cls := "FourCars", name := "wordOf", desc := "([Ljava/lang/String;)I" } : Jvm.MethodName)) ∈ lw_tbl := lw_at lw_m2 174 rfl
theorem q532 : (Jvm.Cond.instanceMethod ({ cls := "FourCars", name := "wordOf", desc := "([Ljava/lang/String;)I" } : Jvm.MethodName)) ∈ lw_all := lw_g (lw_at lw_m2 175 rfl) rfl
theorem q533 : (Jvm.Cond.code ({ cls := "FourCars", name := "wordOf", desc := "([Ljava/lang/String;)I" } : Jvm.MethodName) prog_1_method_10_code (3 : Nat) (Option.some Jvm.ClassFile.FieldType.int)) ∈ lw_all := lw_g (lw_at lw_m2 176 rfl) rfl
theorem q534 : (Jvm.Cond.methodLink "FourCars" (168 : Nat) ({ cls := "FourCars", name := "spells", desc := "(Ljava/lang/String;)Z" } : Jvm.MethodName)) ∈ lw_all := lw_g (lw_at lw_m2 177 rfl) rfl
theorem q535 : (Jvm.Cond.privateMethod ({ cls := "FourCars", name := "spells", desc := "(Ljava/lang/String;)Z" } : Jvm.MethodName)) ∈ lw_tbl := lw_at lw_m2 178 rfl
theorem q536 : (Jvm.Cond.instanceMethod ({ cls := "FourCars", name := "spells", desc := "(Ljava/lang/String;)Z" } : Jvm.MethodName)) ∈ lw_all := lw_g (lw_at lw_m2 179 rfl) rfl
theorem q537 : (Jvm.Cond.code ({ cls := "FourCars", name := "spells", desc := "(Ljava/lang/String;)Z" } : Jvm.MethodName) prog_1_method_9_code (3 : Nat) (Option.some Jvm.ClassFile.FieldType.boolean)) ∈ lw_all := lw_g (lw_at lw_m2 180 rfl) rfl
theorem q538 : (Jvm.Cond.methodLink "FourCars" (141 : Nat) ({ cls := "java/lang/String", name := "length", desc := "()I" } : Jvm.MethodName)) ∈ lw_all := lw_g (lw_at lw_m2 181 rfl) rfl
theorem q548 : (Jvm.Cond.methodLink "FourCars" (155 : Nat) ({ cls := "java/lang/String", name := "charAt", desc := "(I)C" } : Jvm.MethodName)) ∈ lw_all := lw_g (lw_at lw_m2 191 rfl) rfl
theorem q586 : (Jvm.Cond.methodLink "FourCars" (192 : Nat) ({ cls := "FourCars", name := "isDigit", desc := "(I)Z" } : Jvm.MethodName)) ∈ lw_all := lw_g (lw_at lw_m2 229 rfl) rfl
theorem q587 : (Jvm.Cond.static ({ cls := "FourCars", name := "isDigit", desc := "(I)Z" } : Jvm.MethodName)) ∈ lw_all := lw_g (lw_at lw_m2 230 rfl) rfl
theorem q588 : (Jvm.Cond.code ({ cls := "FourCars", name := "isDigit", desc := "(I)Z" } : Jvm.MethodName) prog_1_method_8_code (1 : Nat) (Option.some Jvm.ClassFile.FieldType.boolean)) ∈ lw_all := lw_g (lw_at lw_m2 231 rfl) rfl
theorem q589 : (Jvm.Cond.constant "FourCars" (195 : Nat) (99999 : Int32)) ∈ lw_all := lw_g (lw_at lw_m2 232 rfl) rfl
theorem q590 : (Jvm.Cond.methodLink "FourCars" (196 : Nat) ({ cls := "java/lang/Math", name := "min", desc := "(II)I" } : Jvm.MethodName)) ∈ lw_all := lw_g (lw_at lw_m2 233 rfl) rfl
theorem q593 : (Jvm.Cond.fieldLink "FourCars" (202 : Nat) "FourCars$Token" "NUMBER" "LFourCars$Token;") ∈ lw_all := lw_g (lw_at lw_m2 236 rfl) rfl
theorem q595 : (Jvm.Cond.stringRef "FourCars" (205 : Nat) ";+-*/()<=>") ∈ lw_tbl := lw_at lw_m2 238 rfl
theorem q596 : (Jvm.Cond.methodLink "FourCars" (207 : Nat) ({ cls := "java/lang/String", name := "indexOf", desc := "(I)I" } : Jvm.MethodName)) ∈ lw_all := lw_g (lw_at lw_m2 239 rfl) rfl
theorem q653 : (Jvm.Cond.fieldLink "FourCars" (172 : Nat) "FourCars$Token" "SIGN" "LFourCars$Token;") ∈ lw_all := lw_g (lw_at lw_m3 56 rfl) rfl
theorem q655 : (Jvm.Cond.methodLink "FourCars" (219 : Nat) ({ cls := "FourCars", name := "must", desc := "(Z)V" } : Jvm.MethodName)) ∈ lw_all := lw_g (lw_at lw_m3 58 rfl) rfl
theorem q656 : (Jvm.Cond.privateMethod ({ cls := "FourCars", name := "must", desc := "(Z)V" } : Jvm.MethodName)) ∈ lw_tbl := lw_at lw_m3 59 rfl
theorem q657 : (Jvm.Cond.instanceMethod ({ cls := "FourCars", name := "must", desc := "(Z)V" } : Jvm.MethodName)) ∈ lw_all := lw_g (lw_at lw_m3 60 rfl) rfl
theorem q658 : (Jvm.Cond.code ({ cls := "FourCars", name := "must", desc := "(Z)V" } : Jvm.MethodName) prog_1_method_14_code (2 : Nat) (Option.none : Option Jvm.ClassFile.FieldType)) ∈ lw_all := lw_g (lw_at lw_m3 61 rfl) rfl
theorem q695 : (Jvm.Cond.methodLink "FourCars" (212 : Nat) ({ cls := "FourCars$Fault", name := "<init>", desc := "(II)V" } : Jvm.MethodName)) ∈ lw_all := lw_g (lw_at lw_m3 98 rfl) rfl
theorem q705 : (Jvm.Cond.fieldLink "FourCars" (339 : Nat) "FourCars$Fault" "kind" "I") ∈ lw_all := lw_g (lw_at lw_m3 108 rfl) rfl
theorem q707 : (Jvm.Cond.fieldLink "FourCars" (342 : Nat) "FourCars$Fault" "place" "I") ∈ lw_all := lw_g (lw_at lw_m3 110 rfl) rfl
theorem q725 : (Jvm.Cond.methodLink "FourCars" (269 : Nat) ({ cls := "FourCars", name := "sum", desc := "()LFourCars$Term;" } : Jvm.MethodName)) ∈ lw_all := lw_g (lw_at lw_m3 128 rfl) rfl
theorem q726 : (Jvm.Cond.privateMethod ({ cls := "FourCars", name := "sum", desc := "()LFourCars$Term;" } : Jvm.MethodName)) ∈ lw_tbl := lw_at lw_m3 129 rfl
theorem q727 : (Jvm.Cond.instanceMethod ({ cls := "FourCars", name := "sum", desc := "()LFourCars$Term;" } : Jvm.MethodName)) ∈ lw_all := lw_g (lw_at lw_m3 130 rfl) rfl
theorem q728 : (Jvm.Cond.code ({ cls := "FourCars", name := "sum", desc := "()LFourCars$Term;" } : Jvm.MethodName) prog_1_method_18_code (3 : Nat) (Option.some (Jvm.ClassFile.FieldType.object "FourCars$Term"))) ∈ lw_all := lw_g (lw_at lw_m3 131 rfl) rfl
theorem q729 : (Jvm.Cond.methodLink "FourCars" (242 : Nat) ({ cls := "FourCars", name := "product", desc := "()LFourCars$Term;" } : Jvm.MethodName)) ∈ lw_all := lw_g (lw_at lw_m3 132 rfl) rfl
theorem q730 : (Jvm.Cond.privateMethod ({ cls := "FourCars", name := "product", desc := "()LFourCars$Term;" } : Jvm.MethodName)) ∈ lw_tbl := lw_at lw_m3 133 rfl
theorem q731 : (Jvm.Cond.instanceMethod ({ cls := "FourCars", name := "product", desc := "()LFourCars$Term;" } : Jvm.MethodName)) ∈ lw_all := lw_g (lw_at lw_m3 134 rfl) rfl
theorem q732 : (Jvm.Cond.code ({ cls := "FourCars", name := "product", desc := "()LFourCars$Term;" } : Jvm.MethodName) prog_1_method_17_code (3 : Nat) (Option.some (Jvm.ClassFile.FieldType.object "FourCars$Term"))) ∈ lw_all := lw_g (lw_at lw_m3 135 rfl) rfl
theorem q733 : (Jvm.Cond.methodLink "FourCars" (233 : Nat) ({ cls := "FourCars", name := "unit", desc := "()LFourCars$Term;" } : Jvm.MethodName)) ∈ lw_all := lw_g (lw_at lw_m3 136 rfl) rfl
theorem q734 : (Jvm.Cond.privateMethod ({ cls := "FourCars", name := "unit", desc := "()LFourCars$Term;" } : Jvm.MethodName)) ∈ lw_tbl := lw_at lw_m3 137 rfl
theorem q735 : (Jvm.Cond.instanceMethod ({ cls := "FourCars", name := "unit", desc := "()LFourCars$Term;" } : Jvm.MethodName)) ∈ lw_all := lw_g (lw_at lw_m3 138 rfl) rfl
theorem q736 : (Jvm.Cond.code ({ cls := "FourCars", name := "unit", desc := "()LFourCars$Term;" } : Jvm.MethodName) prog_1_method_16_code (2 : Nat) (Option.some (Jvm.ClassFile.FieldType.object "FourCars$Term"))) ∈ lw_all := lw_g (lw_at lw_m3 139 rfl) rfl
theorem q737 : (Jvm.Cond.classLink "FourCars" (226 : Nat) "FourCars$Number") ∈ lw_all := lw_g (lw_at lw_m3 140 rfl) rfl
theorem q739 : (Jvm.Cond.methodLink "FourCars" (228 : Nat) ({ cls := "FourCars$Number", name := "<init>", desc := "(I)V" } : Jvm.MethodName)) ∈ lw_all := lw_g (lw_at lw_m3 142 rfl) rfl
theorem q750 : (Jvm.Cond.classLink "FourCars" (230 : Nat) "FourCars$Word") ∈ lw_all := lw_g (lw_at lw_m3 153 rfl) rfl
theorem q752 : (Jvm.Cond.methodLink "FourCars" (232 : Nat) ({ cls := "FourCars$Word", name := "<init>", desc := "(I)V" } : Jvm.MethodName)) ∈ lw_all := lw_g (lw_at lw_m3 155 rfl) rfl
theorem q760 : (Jvm.Cond.methodLink "FourCars" (215 : Nat) ({ cls := "FourCars", name := "isSign", desc := "(C)Z" } : Jvm.MethodName)) ∈ lw_all := lw_g (lw_at lw_m3 163 rfl) rfl
theorem q761 : (Jvm.Cond.privateMethod ({ cls := "FourCars", name := "isSign", desc := "(C)Z" } : Jvm.MethodName)) ∈ lw_tbl := lw_at lw_m3 164 rfl
theorem q762 : (Jvm.Cond.instanceMethod ({ cls := "FourCars", name := "isSign", desc := "(C)Z" } : Jvm.MethodName)) ∈ lw_all := lw_g (lw_at lw_m3 165 rfl) rfl
theorem q763 : (Jvm.Cond.code ({ cls := "FourCars", name := "isSign", desc := "(C)Z" } : Jvm.MethodName) prog_1_method_12_code (2 : Nat) (Option.some Jvm.ClassFile.FieldType.boolean)) ∈ lw_all := lw_g (lw_at lw_m3 166 rfl) rfl
theorem q764 : (Jvm.Cond.classLink "FourCars" (237 : Nat) "FourCars$Two") ∈ lw_all := lw_g (lw_at lw_m3 167 rfl) rfl
theorem q766 : (Jvm.Cond.methodLink "FourCars" (239 : Nat) ({ cls := "FourCars$Two", name := "<init>", desc := "(CLFourCars$Term;LFourCars$Term;)V" } : Jvm.MethodName)) ∈ lw_all := lw_g (lw_at lw_m3 169 rfl) rfl
theorem q780 : (Jvm.Cond.methodLink "FourCars" (248 : Nat) ({ cls := "FourCars", name := "isWord", desc := "(Ljava/lang/String;)Z" } : Jvm.MethodName)) ∈ lw_all := lw_g (lw_at lw_m3 183 rfl) rfl
theorem q781 : (Jvm.Cond.privateMethod ({ cls := "FourCars", name := "isWord", desc := "(Ljava/lang/String;)Z" } : Jvm.MethodName)) ∈ lw_tbl := lw_at lw_m3 184 rfl
theorem q782 : (Jvm.Cond.instanceMethod ({ cls := "FourCars", name := "isWord", desc := "(Ljava/lang/String;)Z" } : Jvm.MethodName)) ∈ lw_all := lw_g (lw_at lw_m3 185 rfl) rfl
theorem q783 : (Jvm.Cond.code ({ cls := "FourCars", name := "isWord", desc := "(Ljava/lang/String;)Z" } : Jvm.MethodName) prog_1_method_11_code (2 : Nat) (Option.some Jvm.ClassFile.FieldType.boolean)) ∈ lw_all := lw_g (lw_at lw_m3 186 rfl) rfl
theorem q784 : (Jvm.Cond.methodLink "FourCars" (262 : Nat) ({ cls := "FourCars", name := "any", desc := "()LFourCars$Term;" } : Jvm.MethodName)) ∈ lw_all := lw_g (lw_at lw_m3 187 rfl) rfl
theorem q785 : (Jvm.Cond.privateMethod ({ cls := "FourCars", name := "any", desc := "()LFourCars$Term;" } : Jvm.MethodName)) ∈ lw_tbl := lw_at lw_m3 188 rfl
theorem q786 : (Jvm.Cond.instanceMethod ({ cls := "FourCars", name := "any", desc := "()LFourCars$Term;" } : Jvm.MethodName)) ∈ lw_all := lw_g (lw_at lw_m3 189 rfl) rfl
theorem q787 : (Jvm.Cond.code ({ cls := "FourCars", name := "any", desc := "()LFourCars$Term;" } : Jvm.MethodName) prog_1_method_22_code (2 : Nat) (Option.some (Jvm.ClassFile.FieldType.object "FourCars$Term"))) ∈ lw_all := lw_g (lw_at lw_m3 190 rfl) rfl
theorem q788 : (Jvm.Cond.methodLink "FourCars" (272 : Nat) ({ cls := "FourCars", name := "both", desc := "()LFourCars$Term;" } : Jvm.MethodName)) ∈ lw_all := lw_g (lw_at lw_m3 191 rfl) rfl
theorem q789 : (Jvm.Cond.privateMethod ({ cls := "FourCars", name := "both", desc := "()LFourCars$Term;" } : Jvm.MethodName)) ∈ lw_tbl := lw_at lw_m3 192 rfl
theorem q790 : (Jvm.Cond.instanceMethod ({ cls := "FourCars", name := "both", desc := "()LFourCars$Term;" } : Jvm.MethodName)) ∈ lw_all := lw_g (lw_at lw_m3 193 rfl) rfl
theorem q791 : (Jvm.Cond.code ({ cls := "FourCars", name := "both", desc := "()LFourCars$Term;" } : Jvm.MethodName) prog_1_method_21_code (2 : Nat) (Option.some (Jvm.ClassFile.FieldType.object "FourCars$Term"))) ∈ lw_all := lw_g (lw_at lw_m3 194 rfl) rfl
theorem q792 : (Jvm.Cond.methodLink "FourCars" (254 : Nat) ({ cls := "FourCars", name := "oneOf", desc := "()LFourCars$Term;" } : Jvm.MethodName)) ∈ lw_all := lw_g (lw_at lw_m3 195 rfl) rfl
theorem q793 : (Jvm.Cond.privateMethod ({ cls := "FourCars", name := "oneOf", desc := "()LFourCars$Term;" } : Jvm.MethodName)) ∈ lw_tbl := lw_at lw_m3 196 rfl
theorem q794 : (Jvm.Cond.instanceMethod ({ cls := "FourCars", name := "oneOf", desc := "()LFourCars$Term;" } : Jvm.MethodName)) ∈ lw_all := lw_g (lw_at lw_m3 197 rfl) rfl
theorem q795 : (Jvm.Cond.code ({ cls := "FourCars", name := "oneOf", desc := "()LFourCars$Term;" } : Jvm.MethodName) prog_1_method_20_code (3 : Nat) (Option.some (Jvm.ClassFile.FieldType.object "FourCars$Term"))) ∈ lw_all := lw_g (lw_at lw_m3 198 rfl) rfl
theorem q796 : (Jvm.Cond.methodLink "FourCars" (251 : Nat) ({ cls := "FourCars", name := "opens", desc := "()V" } : Jvm.MethodName)) ∈ lw_all := lw_g (lw_at lw_m3 199 rfl) rfl
theorem q797 : (Jvm.Cond.privateMethod ({ cls := "FourCars", name := "opens", desc := "()V" } : Jvm.MethodName)) ∈ lw_tbl := lw_at lw_m3 200 rfl
theorem q798 : (Jvm.Cond.instanceMethod ({ cls := "FourCars", name := "opens", desc := "()V" } : Jvm.MethodName)) ∈ lw_all := lw_g (lw_at lw_m3 201 rfl) rfl
theorem q799 : (Jvm.Cond.code ({ cls := "FourCars", name := "opens", desc := "()V" } : Jvm.MethodName) prog_1_method_19_code (1 : Nat) (Option.none : Option Jvm.ClassFile.FieldType)) ∈ lw_all := lw_g (lw_at lw_m3 202 rfl) rfl
theorem q800 : (Jvm.Cond.classLink "FourCars" (257 : Nat) "FourCars$Not") ∈ lw_all := lw_g (lw_at lw_m3 203 rfl) rfl
theorem q802 : (Jvm.Cond.methodLink "FourCars" (259 : Nat) ({ cls := "FourCars$Not", name := "<init>", desc := "(LFourCars$Term;)V" } : Jvm.MethodName)) ∈ lw_all := lw_g (lw_at lw_m3 205 rfl) rfl
theorem q810 : (Jvm.Cond.methodLink "FourCars" (265 : Nat) ({ cls := "FourCars", name := "takesSign", desc := "(C)V" } : Jvm.MethodName)) ∈ lw_all := lw_g (lw_at lw_m3 213 rfl) rfl
theorem q811 : (Jvm.Cond.privateMethod ({ cls := "FourCars", name := "takesSign", desc := "(C)V" } : Jvm.MethodName)) ∈ lw_tbl := lw_at lw_m3 214 rfl
theorem q812 : (Jvm.Cond.instanceMethod ({ cls := "FourCars", name := "takesSign", desc := "(C)V" } : Jvm.MethodName)) ∈ lw_all := lw_g (lw_at lw_m3 215 rfl) rfl
theorem q813 : (Jvm.Cond.code ({ cls := "FourCars", name := "takesSign", desc := "(C)V" } : Jvm.MethodName) prog_1_method_15_code (2 : Nat) (Option.none : Option Jvm.ClassFile.FieldType)) ∈ lw_all := lw_g (lw_at lw_m3 216 rfl) rfl
theorem q814 : (Jvm.Cond.methodLink "FourCars" (326 : Nat) ({ cls := "FourCars", name := "readsTower", desc := "()LFourCars$Plan;" } : Jvm.MethodName)) ∈ lw_all := lw_g (lw_at lw_m3 217 rfl) rfl
theorem q815 : (Jvm.Cond.privateMethod ({ cls := "FourCars", name := "readsTower", desc := "()LFourCars$Plan;" } : Jvm.MethodName)) ∈ lw_tbl := lw_at lw_m3 218 rfl
theorem q816 : (Jvm.Cond.instanceMethod ({ cls := "FourCars", name := "readsTower", desc := "()LFourCars$Plan;" } : Jvm.MethodName)) ∈ lw_all := lw_g (lw_at lw_m3 219 rfl) rfl
theorem q817 : (Jvm.Cond.code ({ cls := "FourCars", name := "readsTower", desc := "()LFourCars$Plan;" } : Jvm.MethodName) prog_1_method_26_code (4 : Nat) (Option.some (Jvm.ClassFile.FieldType.object "FourCars$Plan"))) ∈ lw_all := lw_g (lw_at lw_m3 220 rfl) rfl
theorem q818 : (Jvm.Cond.methodLink "FourCars" (293 : Nat) ({ cls := "FourCars", name := "number", desc := "(II)I" } : Jvm.MethodName)) ∈ lw_all := lw_g (lw_at lw_m3 221 rfl) rfl
theorem q819 : (Jvm.Cond.privateMethod ({ cls := "FourCars", name := "number", desc := "(II)I" } : Jvm.MethodName)) ∈ lw_tbl := lw_at lw_m3 222 rfl
theorem q820 : (Jvm.Cond.instanceMethod ({ cls := "FourCars", name := "number", desc := "(II)I" } : Jvm.MethodName)) ∈ lw_all := lw_g (lw_at lw_m3 223 rfl) rfl
theorem q821 : (Jvm.Cond.code ({ cls := "FourCars", name := "number", desc := "(II)I" } : Jvm.MethodName) prog_1_method_24_code (4 : Nat) (Option.some Jvm.ClassFile.FieldType.int)) ∈ lw_all := lw_g (lw_at lw_m3 224 rfl) rfl
theorem q822 : (Jvm.Cond.methodLink "FourCars" (311 : Nat) ({ cls := "FourCars", name := "readsCar", desc := "(LFourCars$Plan;)V" } : Jvm.MethodName)) ∈ lw_all := lw_g (lw_at lw_m3 225 rfl) rfl
theorem q823 : (Jvm.Cond.privateMethod ({ cls := "FourCars", name := "readsCar", desc := "(LFourCars$Plan;)V" } : Jvm.MethodName)) ∈ lw_tbl := lw_at lw_m3 226 rfl
theorem q824 : (Jvm.Cond.instanceMethod ({ cls := "FourCars", name := "readsCar", desc := "(LFourCars$Plan;)V" } : Jvm.MethodName)) ∈ lw_all := lw_g (lw_at lw_m3 227 rfl) rfl
theorem q825 : (Jvm.Cond.code ({ cls := "FourCars", name := "readsCar", desc := "(LFourCars$Plan;)V" } : Jvm.MethodName) prog_1_method_25_code (2 : Nat) (Option.none : Option Jvm.ClassFile.FieldType)) ∈ lw_all := lw_g (lw_at lw_m3 228 rfl) rfl
theorem q826 : (Jvm.Cond.methodLink "FourCars" (330 : Nat) ({ cls := "FourCars$Tower", name := "begins", desc := "()V" } : Jvm.MethodName)) ∈ lw_all := lw_g (lw_at lw_m3 229 rfl) rfl
theorem q830 : (Jvm.Cond.methodLink "FourCars" (333 : Nat) ({ cls := "java/util/Arrays", name := "fill", desc := "([II)V" } : Jvm.MethodName)) ∈ lw_all := lw_g (lw_at lw_m3 233 rfl) rfl
theorem q834 : (Jvm.Cond.instanceMethod ({ cls := "FourCars", name := "fault", desc := "(I)I" } : Jvm.MethodName)) ∈ lw_all := lw_g (lw_at lw_m3 237 rfl) rfl
theorem q835 : (Jvm.Cond.selects "FourCars" ({ cls := "FourCars", name := "fault", desc := "(I)I" } : Jvm.MethodName) ({ cls := "FourCars", name := "fault", desc := "(I)I" } : Jvm.MethodName)) ∈ lw_all := lw_g (lw_at lw_m3 238 rfl) rfl
theorem q836 : (Jvm.Cond.code ({ cls := "FourCars", name := "fault", desc := "(I)I" } : Jvm.MethodName) prog_1_method_28_code (2 : Nat) (Option.some Jvm.ClassFile.FieldType.int)) ∈ lw_all := lw_g (lw_at lw_m3 239 rfl) rfl
theorem q838 : (Jvm.Cond.instanceMethod ({ cls := "FourCars", name := "one", desc := "(III)I" } : Jvm.MethodName)) ∈ lw_all := lw_g (lw_at lw_m4 1 rfl) rfl
theorem q839 : (Jvm.Cond.selects "FourCars" ({ cls := "FourCars", name := "one", desc := "(III)I" } : Jvm.MethodName) ({ cls := "FourCars", name := "one", desc := "(III)I" } : Jvm.MethodName)) ∈ lw_all := lw_g (lw_at lw_m4 2 rfl) rfl
theorem q840 : (Jvm.Cond.code ({ cls := "FourCars", name := "one", desc := "(III)I" } : Jvm.MethodName) prog_1_method_33_code (4 : Nat) (Option.some Jvm.ClassFile.FieldType.int)) ∈ lw_all := lw_g (lw_at lw_m4 3 rfl) rfl
theorem q841 : (Jvm.Cond.methodLink "FourCars" (349 : Nat) ({ cls := "FourCars", name := "isFloor", desc := "(I)Z" } : Jvm.MethodName)) ∈ lw_all := lw_g (lw_at lw_m4 4 rfl) rfl
theorem q842 : (Jvm.Cond.privateMethod ({ cls := "FourCars", name := "isFloor", desc := "(I)Z" } : Jvm.MethodName)) ∈ lw_tbl := lw_at lw_m4 5 rfl
theorem q843 : (Jvm.Cond.instanceMethod ({ cls := "FourCars", name := "isFloor", desc := "(I)Z" } : Jvm.MethodName)) ∈ lw_all := lw_g (lw_at lw_m4 6 rfl) rfl
theorem q844 : (Jvm.Cond.code ({ cls := "FourCars", name := "isFloor", desc := "(I)Z" } : Jvm.MethodName) prog_1_method_29_code (2 : Nat) (Option.some Jvm.ClassFile.FieldType.boolean)) ∈ lw_all := lw_g (lw_at lw_m4 7 rfl) rfl
theorem q845 : (Jvm.Cond.methodLink "FourCars" (356 : Nat) ({ cls := "FourCars$Person", name := "is", desc := "(III)V" } : Jvm.MethodName)) ∈ lw_all := lw_g (lw_at lw_m4 8 rfl) rfl
theorem q850 : (Jvm.Cond.instanceMethod ({ cls := "FourCars", name := "set", desc := "(III)Z" } : Jvm.MethodName)) ∈ lw_all := lw_g (lw_at lw_m4 13 rfl) rfl
theorem q851 : (Jvm.Cond.selects "FourCars" ({ cls := "FourCars", name := "set", desc := "(III)Z" } : Jvm.MethodName) ({ cls := "FourCars", name := "set", desc := "(III)Z" } : Jvm.MethodName)) ∈ lw_all := lw_g (lw_at lw_m4 14 rfl) rfl
theorem q852 : (Jvm.Cond.code ({ cls := "FourCars", name := "set", desc := "(III)Z" } : Jvm.MethodName) prog_1_method_35_code (4 : Nat) (Option.some Jvm.ClassFile.FieldType.boolean)) ∈ lw_all := lw_g (lw_at lw_m4 15 rfl) rfl
theorem q853 : (Jvm.Cond.methodLink "FourCars" (383 : Nat) ({ cls := "FourCars", name := "isRule", desc := "(I)Z" } : Jvm.MethodName)) ∈ lw_all := lw_g (lw_at lw_m4 16 rfl) rfl
theorem q854 : (Jvm.Cond.static ({ cls := "FourCars", name := "isRule", desc := "(I)Z" } : Jvm.MethodName)) ∈ lw_all := lw_g (lw_at lw_m4 17 rfl) rfl
theorem q855 : (Jvm.Cond.code ({ cls := "FourCars", name := "isRule", desc := "(I)Z" } : Jvm.MethodName) prog_1_method_31_code (1 : Nat) (Option.some Jvm.ClassFile.FieldType.boolean)) ∈ lw_all := lw_g (lw_at lw_m4 18 rfl) rfl
theorem q856 : (Jvm.Cond.methodLink "FourCars" (389 : Nat) ({ cls := "FourCars", name := "isCar", desc := "(I)Z" } : Jvm.MethodName)) ∈ lw_all := lw_g (lw_at lw_m4 19 rfl) rfl
theorem q857 : (Jvm.Cond.privateMethod ({ cls := "FourCars", name := "isCar", desc := "(I)Z" } : Jvm.MethodName)) ∈ lw_tbl := lw_at lw_m4 20 rfl
theorem q858 : (Jvm.Cond.instanceMethod ({ cls := "FourCars", name := "isCar", desc := "(I)Z" } : Jvm.MethodName)) ∈ lw_all := lw_g (lw_at lw_m4 21 rfl) rfl
theorem q859 : (Jvm.Cond.code ({ cls := "FourCars", name := "isCar", desc := "(I)Z" } : Jvm.MethodName) prog_1_method_30_code (2 : Nat) (Option.some Jvm.ClassFile.FieldType.boolean)) ∈ lw_all := lw_g (lw_at lw_m4 22 rfl) rfl
theorem q860 : (Jvm.Cond.methodLink "FourCars" (392 : Nat) ({ cls := "FourCars", name := "putsOut", desc := "(IZ)V" } : Jvm.MethodName)) ∈ lw_all := lw_g (lw_at lw_m4 23 rfl) rfl
theorem q861 : (Jvm.Cond.privateMethod ({ cls := "FourCars", name := "putsOut", desc := "(IZ)V" } : Jvm.MethodName)) ∈ lw_tbl := lw_at lw_m4 24 rfl
theorem q862 : (Jvm.Cond.instanceMethod ({ cls := "FourCars", name := "putsOut", desc := "(IZ)V" } : Jvm.MethodName)) ∈ lw_all := lw_g (lw_at lw_m4 25 rfl) rfl
theorem q863 : (Jvm.Cond.code ({ cls := "FourCars", name := "putsOut", desc := "(IZ)V" } : Jvm.MethodName) prog_1_method_34_code (5 : Nat) (Option.none : Option Jvm.ClassFile.FieldType)) ∈ lw_all := lw_g (lw_at lw_m4 26 rfl) rfl
theorem q865 : (Jvm.Cond.instanceMethod ({ cls := "FourCars", name := "seconds", desc := "(I)I" } : Jvm.MethodName)) ∈ lw_all := lw_g (lw_at lw_m4 28 rfl) rfl
theorem q866 : (Jvm.Cond.selects "FourCars" ({ cls := "FourCars", name := "seconds", desc := "(I)I" } : Jvm.MethodName) ({ cls := "FourCars", name := "seconds", desc := "(I)I" } : Jvm.MethodName)) ∈ lw_all := lw_g (lw_at lw_m4 29 rfl) rfl
theorem q867 : (Jvm.Cond.code ({ cls := "FourCars", name := "seconds", desc := "(I)I" } : Jvm.MethodName) prog_1_method_36_code (4 : Nat) (Option.some Jvm.ClassFile.FieldType.int)) ∈ lw_all := lw_g (lw_at lw_m4 30 rfl) rfl
theorem q868 : (Jvm.Cond.methodLink "FourCars" (399 : Nat) ({ cls := "FourCars$Tower", name := "inState", desc := "(I)I" } : Jvm.MethodName)) ∈ lw_all := lw_g (lw_at lw_m4 31 rfl) rfl
theorem q872 : (Jvm.Cond.methodLink "FourCars" (402 : Nat) ({ cls := "FourCars$Tower", name := "goesBy", desc := "()V" } : Jvm.MethodName)) ∈ lw_all := lw_g (lw_at lw_m4 35 rfl) rfl
theorem q978 : (Jvm.Cond.instanceMethod ({ cls := "FourCars", name := "car", desc := "(II)I" } : Jvm.MethodName)) ∈ lw_all := lw_g (lw_at lw_m4 141 rfl) rfl
theorem q979 : (Jvm.Cond.selects "FourCars" ({ cls := "FourCars", name := "car", desc := "(II)I" } : Jvm.MethodName) ({ cls := "FourCars", name := "car", desc := "(II)I" } : Jvm.MethodName)) ∈ lw_all := lw_g (lw_at lw_m4 142 rfl) rfl
theorem q980 : (Jvm.Cond.code ({ cls := "FourCars", name := "car", desc := "(II)I" } : Jvm.MethodName) prog_1_method_37_code (4 : Nat) (Option.some Jvm.ClassFile.FieldType.int)) ∈ lw_all := lw_g (lw_at lw_m4 143 rfl) rfl
theorem q981 : (Jvm.Cond.methodLink "FourCars" (407 : Nat) ({ cls := "FourCars$Tower", name := "inCar", desc := "(II)I" } : Jvm.MethodName)) ∈ lw_all := lw_g (lw_at lw_m4 144 rfl) rfl
theorem q983 : (Jvm.Cond.instanceMethod ({ cls := "FourCars", name := "person", desc := "(II)I" } : Jvm.MethodName)) ∈ lw_all := lw_g (lw_at lw_m4 146 rfl) rfl
theorem q984 : (Jvm.Cond.selects "FourCars" ({ cls := "FourCars", name := "person", desc := "(II)I" } : Jvm.MethodName) ({ cls := "FourCars", name := "person", desc := "(II)I" } : Jvm.MethodName)) ∈ lw_all := lw_g (lw_at lw_m4 147 rfl) rfl
theorem q985 : (Jvm.Cond.code ({ cls := "FourCars", name := "person", desc := "(II)I" } : Jvm.MethodName) prog_1_method_38_code (4 : Nat) (Option.some Jvm.ClassFile.FieldType.int)) ∈ lw_all := lw_g (lw_at lw_m4 148 rfl) rfl
theorem q986 : (Jvm.Cond.methodLink "FourCars" (410 : Nat) ({ cls := "FourCars", name := "isOne", desc := "(I)Z" } : Jvm.MethodName)) ∈ lw_all := lw_g (lw_at lw_m4 149 rfl) rfl
theorem q987 : (Jvm.Cond.privateMethod ({ cls := "FourCars", name := "isOne", desc := "(I)Z" } : Jvm.MethodName)) ∈ lw_tbl := lw_at lw_m4 150 rfl
theorem q988 : (Jvm.Cond.instanceMethod ({ cls := "FourCars", name := "isOne", desc := "(I)Z" } : Jvm.MethodName)) ∈ lw_all := lw_g (lw_at lw_m4 151 rfl) rfl
theorem q989 : (Jvm.Cond.code ({ cls := "FourCars", name := "isOne", desc := "(I)Z" } : Jvm.MethodName) prog_1_method_32_code (2 : Nat) (Option.some Jvm.ClassFile.FieldType.boolean)) ∈ lw_all := lw_g (lw_at lw_m4 152 rfl) rfl
theorem q991 : (Jvm.Cond.instanceMethod ({ cls := "FourCars", name := "cost", desc := "(III)I" } : Jvm.MethodName)) ∈ lw_all := lw_g (lw_at lw_m4 154 rfl) rfl
theorem q992 : (Jvm.Cond.selects "FourCars" ({ cls := "FourCars", name := "cost", desc := "(III)I" } : Jvm.MethodName) ({ cls := "FourCars", name := "cost", desc := "(III)I" } : Jvm.MethodName)) ∈ lw_all := lw_g (lw_at lw_m4 155 rfl) rfl
theorem q993 : (Jvm.Cond.code ({ cls := "FourCars", name := "cost", desc := "(III)I" } : Jvm.MethodName) prog_1_method_39_code (5 : Nat) (Option.some Jvm.ClassFile.FieldType.int)) ∈ lw_all := lw_g (lw_at lw_m4 156 rfl) rfl
theorem q994 : (Jvm.Cond.constant "FourCars" (426 : Nat) (-100000000 : Int32)) ∈ lw_all := lw_g (lw_at lw_m4 157 rfl) rfl
theorem q995 : (Jvm.Cond.methodLink "FourCars" (427 : Nat) ({ cls := "FourCars$Tower", name := "costOf", desc := "(III)I" } : Jvm.MethodName)) ∈ lw_all := lw_g (lw_at lw_m4 158 rfl) rfl
theorem q997 : (Jvm.Cond.instanceMethod ({ cls := "FourCars", name := "sums", desc := "(I)I" } : Jvm.MethodName)) ∈ lw_all := lw_g (lw_at lw_m4 160 rfl) rfl
theorem q998 : (Jvm.Cond.selects "FourCars" ({ cls := "FourCars", name := "sums", desc := "(I)I" } : Jvm.MethodName) ({ cls := "FourCars", name := "sums", desc := "(I)I" } : Jvm.MethodName)) ∈ lw_all := lw_g (lw_at lw_m4 161 rfl) rfl
theorem q999 : (Jvm.Cond.code ({ cls := "FourCars", name := "sums", desc := "(I)I" } : Jvm.MethodName) prog_1_method_40_code (5 : Nat) (Option.some Jvm.ClassFile.FieldType.int)) ∈ lw_all := lw_g (lw_at lw_m4 162 rfl) rfl
theorem q1000 : (Jvm.Cond.methodLink "FourCars" (434 : Nat) ({ cls := "java/lang/Math", name := "max", desc := "(II)I" } : Jvm.MethodName)) ∈ lw_all := lw_g (lw_at lw_m4 163 rfl) rfl
theorem q1002 : (Jvm.Cond.instanceMethod ({ cls := "FourCars", name := "thought", desc := "(II)I" } : Jvm.MethodName)) ∈ lw_all := lw_g (lw_at lw_m4 165 rfl) rfl
theorem q1003 : (Jvm.Cond.selects "FourCars" ({ cls := "FourCars", name := "thought", desc := "(II)I" } : Jvm.MethodName) ({ cls := "FourCars", name := "thought", desc := "(II)I" } : Jvm.MethodName)) ∈ lw_all := lw_g (lw_at lw_m4 166 rfl) rfl
theorem q1004 : (Jvm.Cond.code ({ cls := "FourCars", name := "thought", desc := "(II)I" } : Jvm.MethodName) prog_1_method_42_code (4 : Nat) (Option.some Jvm.ClassFile.FieldType.int)) ∈ lw_all := lw_g (lw_at lw_m4 167 rfl) rfl
theorem q1005 : (Jvm.Cond.methodLink "FourCars" (440 : Nat) ({ cls := "FourCars$Tower", name := "become", desc := "(LFourCars$Tower;)V" } : Jvm.MethodName)) ∈ lw_all := lw_g (lw_at lw_m4 168 rfl) rfl
theorem q1017 : (Jvm.Cond.methodLink "FourCars" (444 : Nat) ({ cls := "FourCars$Tower", name := "toTheEnd", desc := "(I)I" } : Jvm.MethodName)) ∈ lw_all := lw_g (lw_at lw_m4 180 rfl) rfl
theorem q1023 : (Jvm.Cond.methodLink "FourCars" (447 : Nat) ({ cls := "FourCars$Tower", name := "overOf", desc := "(I)I" } : Jvm.MethodName)) ∈ lw_all := lw_g (lw_at lw_m4 186 rfl) rfl
theorem q1031 : (Jvm.Cond.methodLink "FourCars" (450 : Nat) ({ cls := "FourCars", name := "greatestOver", desc := "()I" } : Jvm.MethodName)) ∈ lw_all := lw_g (lw_at lw_m4 194 rfl) rfl
theorem q1032 : (Jvm.Cond.privateMethod ({ cls := "FourCars", name := "greatestOver", desc := "()I" } : Jvm.MethodName)) ∈ lw_tbl := lw_at lw_m4 195 rfl
theorem q1033 : (Jvm.Cond.instanceMethod ({ cls := "FourCars", name := "greatestOver", desc := "()I" } : Jvm.MethodName)) ∈ lw_all := lw_g (lw_at lw_m4 196 rfl) rfl
theorem q1034 : (Jvm.Cond.code ({ cls := "FourCars", name := "greatestOver", desc := "()I" } : Jvm.MethodName) prog_1_method_41_code (3 : Nat) (Option.some Jvm.ClassFile.FieldType.int)) ∈ lw_all := lw_g (lw_at lw_m4 197 rfl) rfl
theorem q1035 : (Jvm.Cond.methodLink "FourCars" (437 : Nat) ({ cls := "FourCars$Person", name := "over", desc := "()I" } : Jvm.MethodName)) ∈ lw_all := lw_g (lw_at lw_m4 198 rfl) rfl
theorem q1037 : (Jvm.Cond.instanceMethod ({ cls := "FourCars", name := "better", desc := "(II)I" } : Jvm.MethodName)) ∈ lw_all := lw_g (lw_at lw_m4 200 rfl) rfl
theorem q1038 : (Jvm.Cond.selects "FourCars" ({ cls := "FourCars", name := "better", desc := "(II)I" } : Jvm.MethodName) ({ cls := "FourCars", name := "better", desc := "(II)I" } : Jvm.MethodName)) ∈ lw_all := lw_g (lw_at lw_m4 201 rfl) rfl
theorem q1039 : (Jvm.Cond.code ({ cls := "FourCars", name := "better", desc := "(II)I" } : Jvm.MethodName) prog_1_method_44_code (7 : Nat) (Option.some Jvm.ClassFile.FieldType.int)) ∈ lw_all := lw_g (lw_at lw_m4 202 rfl) rfl
theorem q1040 : (Jvm.Cond.methodLink "FourCars" (457 : Nat) ({ cls := "FourCars", name := "overBy", desc := "(I)J" } : Jvm.MethodName)) ∈ lw_all := lw_g (lw_at lw_m4 203 rfl) rfl
theorem q1041 : (Jvm.Cond.privateMethod ({ cls := "FourCars", name := "overBy", desc := "(I)J" } : Jvm.MethodName)) ∈ lw_tbl := lw_at lw_m4 204 rfl
theorem q1042 : (Jvm.Cond.instanceMethod ({ cls := "FourCars", name := "overBy", desc := "(I)J" } : Jvm.MethodName)) ∈ lw_all := lw_g (lw_at lw_m4 205 rfl) rfl
theorem q1043 : (Jvm.Cond.code ({ cls := "FourCars", name := "overBy", desc := "(I)J" } : Jvm.MethodName) prog_1_method_43_code (2 : Nat) (Option.some Jvm.ClassFile.FieldType.long)) ∈ lw_all := lw_g (lw_at lw_m4 206 rfl) rfl
theorem q1044 : (Jvm.Cond.constantLong "FourCars" (455 : Nat) (9223372036854775807 : Int64)) ∈ lw_all := lw_g (lw_at lw_m4 207 rfl) rfl
theorem q1046 : (Jvm.Cond.instanceMethod ({ cls := "FourCars", name := "best", desc := "(I)I" } : Jvm.MethodName)) ∈ lw_all := lw_g (lw_at lw_m4 209 rfl) rfl
theorem q1047 : (Jvm.Cond.selects "FourCars" ({ cls := "FourCars", name := "best", desc := "(I)I" } : Jvm.MethodName) ({ cls := "FourCars", name := "best", desc := "(I)I" } : Jvm.MethodName)) ∈ lw_all := lw_g (lw_at lw_m4 210 rfl) rfl
theorem q1048 : (Jvm.Cond.code ({ cls := "FourCars", name := "best", desc := "(I)I" } : Jvm.MethodName) prog_1_method_48_code (3 : Nat) (Option.some Jvm.ClassFile.FieldType.int)) ∈ lw_all := lw_g (lw_at lw_m4 211 rfl) rfl
theorem q1049 : (Jvm.Cond.methodLink "FourCars" (474 : Nat) ({ cls := "FourCars", name := "canGive", desc := "()Z" } : Jvm.MethodName)) ∈ lw_all := lw_g (lw_at lw_m4 212 rfl) rfl
theorem q1050 : (Jvm.Cond.privateMethod ({ cls := "FourCars", name := "canGive", desc := "()Z" } : Jvm.MethodName)) ∈ lw_tbl := lw_at lw_m4 213 rfl
theorem q1051 : (Jvm.Cond.instanceMethod ({ cls := "FourCars", name := "canGive", desc := "()Z" } : Jvm.MethodName)) ∈ lw_all := lw_g (lw_at lw_m4 214 rfl) rfl
theorem q1052 : (Jvm.Cond.code ({ cls := "FourCars", name := "canGive", desc := "()Z" } : Jvm.MethodName) prog_1_method_45_code (2 : Nat) (Option.some Jvm.ClassFile.FieldType.boolean)) ∈ lw_all := lw_g (lw_at lw_m4 215 rfl) rfl
theorem q1053 : (Jvm.Cond.methodLink "FourCars" (478 : Nat) ({ cls := "FourCars", name := "findsBest", desc := "()I" } : Jvm.MethodName)) ∈ lw_all := lw_g (lw_at lw_m4 216 rfl) rfl
theorem q1054 : (Jvm.Cond.privateMethod ({ cls := "FourCars", name := "findsBest", desc := "()I" } : Jvm.MethodName)) ∈ lw_tbl := lw_at lw_m4 217 rfl
theorem q1055 : (Jvm.Cond.instanceMethod ({ cls := "FourCars", name := "findsBest", desc := "()I" } : Jvm.MethodName)) ∈ lw_all := lw_g (lw_at lw_m4 218 rfl) rfl
theorem q1056 : (Jvm.Cond.code ({ cls := "FourCars", name := "findsBest", desc := "()I" } : Jvm.MethodName) prog_1_method_47_code (5 : Nat) (Option.some Jvm.ClassFile.FieldType.int)) ∈ lw_all := lw_g (lw_at lw_m4 219 rfl) rfl
theorem q1057 : (Jvm.Cond.methodLink "FourCars" (464 : Nat) ({ cls := "FourCars", name := "gives", desc := "(I)Z" } : Jvm.MethodName)) ∈ lw_all := lw_g (lw_at lw_m4 220 rfl) rfl
theorem q1058 : (Jvm.Cond.privateMethod ({ cls := "FourCars", name := "gives", desc := "(I)Z" } : Jvm.MethodName)) ∈ lw_tbl := lw_at lw_m4 221 rfl
theorem q1059 : (Jvm.Cond.instanceMethod ({ cls := "FourCars", name := "gives", desc := "(I)Z" } : Jvm.MethodName)) ∈ lw_all := lw_g (lw_at lw_m4 222 rfl) rfl
theorem q1060 : (Jvm.Cond.code ({ cls := "FourCars", name := "gives", desc := "(I)Z" } : Jvm.MethodName) prog_1_method_46_code (5 : Nat) (Option.some Jvm.ClassFile.FieldType.boolean)) ∈ lw_all := lw_g (lw_at lw_m4 223 rfl) rfl
theorem q1061 : (Jvm.Cond.methodLink "FourCars" (461 : Nat) ({ cls := "FourCars$Plan", name := "serves", desc := "(III)Z" } : Jvm.MethodName)) ∈ lw_all := lw_g (lw_at lw_m4 224 rfl) rfl
theorem q1062 : (Jvm.Cond.methodLink "FourCars" (468 : Nat) ({ cls := "java/lang/System", name := "arraycopy", desc := "(Ljava/lang/Object;ILjava/lang/Object;II)V" } : Jvm.MethodName)) ∈ lw_all := lw_g (lw_at lw_m4 225 rfl) rfl
theorem q1066 : (Jvm.Cond.instanceMethod ({ cls := "FourCars", name := "mornings", desc := "(IIII)I" } : Jvm.MethodName)) ∈ lw_all := lw_g (lw_at lw_m4 229 rfl) rfl
theorem q1067 : (Jvm.Cond.selects "FourCars" ({ cls := "FourCars", name := "mornings", desc := "(IIII)I" } : Jvm.MethodName) ({ cls := "FourCars", name := "mornings", desc := "(IIII)I" } : Jvm.MethodName)) ∈ lw_all := lw_g (lw_at lw_m4 230 rfl) rfl
theorem q1068 : (Jvm.Cond.code ({ cls := "FourCars", name := "mornings", desc := "(IIII)I" } : Jvm.MethodName) prog_1_method_51_code (8 : Nat) (Option.some Jvm.ClassFile.FieldType.int)) ∈ lw_all := lw_g (lw_at lw_m4 231 rfl) rfl
theorem q1069 : (Jvm.Cond.methodLink "FourCars" (485 : Nat) ({ cls := "FourCars", name := "overOf", desc := "(IIII)I" } : Jvm.MethodName)) ∈ lw_all := lw_g (lw_at lw_m4 232 rfl) rfl
theorem q1070 : (Jvm.Cond.privateMethod ({ cls := "FourCars", name := "overOf", desc := "(IIII)I" } : Jvm.MethodName)) ∈ lw_tbl := lw_at lw_m4 233 rfl
theorem q1071 : (Jvm.Cond.instanceMethod ({ cls := "FourCars", name := "overOf", desc := "(IIII)I" } : Jvm.MethodName)) ∈ lw_all := lw_g (lw_at lw_m4 234 rfl) rfl
theorem q1072 : (Jvm.Cond.code ({ cls := "FourCars", name := "overOf", desc := "(IIII)I" } : Jvm.MethodName) prog_1_method_50_code (5 : Nat) (Option.some Jvm.ClassFile.FieldType.int)) ∈ lw_all := lw_g (lw_at lw_m4 235 rfl) rfl
theorem q1073 : (Jvm.Cond.methodLink "FourCars" (481 : Nat) ({ cls := "FourCars", name := "comes", desc := "(II)V" } : Jvm.MethodName)) ∈ lw_all := lw_g (lw_at lw_m4 236 rfl) rfl
theorem q1074 : (Jvm.Cond.privateMethod ({ cls := "FourCars", name := "comes", desc := "(II)V" } : Jvm.MethodName)) ∈ lw_tbl := lw_at lw_m4 237 rfl
theorem q1075 : (Jvm.Cond.instanceMethod ({ cls := "FourCars", name := "comes", desc := "(II)V" } : Jvm.MethodName)) ∈ lw_all := lw_g (lw_at lw_m4 238 rfl) rfl
theorem q1076 : (Jvm.Cond.code ({ cls := "FourCars", name := "comes", desc := "(II)V" } : Jvm.MethodName) prog_1_method_49_code (5 : Nat) (Option.none : Option Jvm.ClassFile.FieldType)) ∈ lw_all := lw_g (lw_at lw_m4 239 rfl) rfl
theorem q1077 : (Jvm.Cond.constant "FourCars" (484 : Nat) (999999 : Int32)) ∈ lw_all := lw_g (lw_at lw_m5 0 rfl) rfl
theorem q1079 : (Jvm.Cond.instanceMethod ({ cls := "FourCars", name := "fun", desc := "(II)I" } : Jvm.MethodName)) ∈ lw_all := lw_g (lw_at lw_m5 2 rfl) rfl
theorem q1080 : (Jvm.Cond.selects "FourCars" ({ cls := "FourCars", name := "fun", desc := "(II)I" } : Jvm.MethodName) ({ cls := "FourCars", name := "fun", desc := "(II)I" } : Jvm.MethodName)) ∈ lw_all := lw_g (lw_at lw_m5 3 rfl) rfl
theorem q1081 : (Jvm.Cond.code ({ cls := "FourCars", name := "fun", desc := "(II)I" } : Jvm.MethodName) prog_1_method_52_code (4 : Nat) (Option.some Jvm.ClassFile.FieldType.int)) ∈ lw_all := lw_g (lw_at lw_m5 4 rfl) rfl
theorem q1082 : (Jvm.Cond.constant "FourCars" (488 : Nat) (-100000 : Int32)) ∈ lw_all := lw_g (lw_at lw_m5 5 rfl) rfl
theorem q1084 : (Jvm.Cond.instanceMethod ({ cls := "FourCars", name := "places", desc := "(II)I" } : Jvm.MethodName)) ∈ lw_all := lw_g (lw_at lw_m5 7 rfl) rfl
theorem q1085 : (Jvm.Cond.selects "FourCars" ({ cls := "FourCars", name := "places", desc := "(II)I" } : Jvm.MethodName) ({ cls := "FourCars", name := "places", desc := "(II)I" } : Jvm.MethodName)) ∈ lw_all := lw_g (lw_at lw_m5 8 rfl) rfl
theorem q1086 : (Jvm.Cond.code ({ cls := "FourCars", name := "places", desc := "(II)I" } : Jvm.MethodName) prog_1_method_57_code (4 : Nat) (Option.some Jvm.ClassFile.FieldType.int)) ∈ lw_all := lw_g (lw_at lw_m5 9 rfl) rfl
theorem q1087 : (Jvm.Cond.methodLink "FourCars" (507 : Nat) ({ cls := "FourCars", name := "findsPlaces", desc := "(I)I" } : Jvm.MethodName)) ∈ lw_all := lw_g (lw_at lw_m5 10 rfl) rfl
theorem q1088 : (Jvm.Cond.privateMethod ({ cls := "FourCars", name := "findsPlaces", desc := "(I)I" } : Jvm.MethodName)) ∈ lw_tbl := lw_at lw_m5 11 rfl
theorem q1089 : (Jvm.Cond.instanceMethod ({ cls := "FourCars", name := "findsPlaces", desc := "(I)I" } : Jvm.MethodName)) ∈ lw_all := lw_g (lw_at lw_m5 12 rfl) rfl
theorem q1090 : (Jvm.Cond.code ({ cls := "FourCars", name := "findsPlaces", desc := "(I)I" } : Jvm.MethodName) prog_1_method_56_code (6 : Nat) (Option.some Jvm.ClassFile.FieldType.int)) ∈ lw_all := lw_g (lw_at lw_m5 13 rfl) rfl
theorem q1091 : (Jvm.Cond.methodLink "FourCars" (501 : Nat) ({ cls := "FourCars", name := "findsAbove", desc := "(I)V" } : Jvm.MethodName)) ∈ lw_all := lw_g (lw_at lw_m5 14 rfl) rfl
theorem q1092 : (Jvm.Cond.privateMethod ({ cls := "FourCars", name := "findsAbove", desc := "(I)V" } : Jvm.MethodName)) ∈ lw_tbl := lw_at lw_m5 15 rfl
theorem q1093 : (Jvm.Cond.instanceMethod ({ cls := "FourCars", name := "findsAbove", desc := "(I)V" } : Jvm.MethodName)) ∈ lw_all := lw_g (lw_at lw_m5 16 rfl) rfl
theorem q1094 : (Jvm.Cond.code ({ cls := "FourCars", name := "findsAbove", desc := "(I)V" } : Jvm.MethodName) prog_1_method_55_code (5 : Nat) (Option.none : Option Jvm.ClassFile.FieldType)) ∈ lw_all := lw_g (lw_at lw_m5 17 rfl) rfl
theorem q1095 : (Jvm.Cond.constant "FourCars" (497 : Nat) (2147483647 : Int32)) ∈ lw_all := lw_g (lw_at lw_m5 18 rfl) rfl
theorem q1096 : (Jvm.Cond.methodLink "FourCars" (498 : Nat) ({ cls := "FourCars", name := "between", desc := "(II)I" } : Jvm.MethodName)) ∈ lw_all := lw_g (lw_at lw_m5 19 rfl) rfl
theorem q1097 : (Jvm.Cond.privateMethod ({ cls := "FourCars", name := "between", desc := "(II)I" } : Jvm.MethodName)) ∈ lw_tbl := lw_at lw_m5 20 rfl
theorem q1098 : (Jvm.Cond.instanceMethod ({ cls := "FourCars", name := "between", desc := "(II)I" } : Jvm.MethodName)) ∈ lw_all := lw_g (lw_at lw_m5 21 rfl) rfl
theorem q1099 : (Jvm.Cond.code ({ cls := "FourCars", name := "between", desc := "(II)I" } : Jvm.MethodName) prog_1_method_54_code (5 : Nat) (Option.some Jvm.ClassFile.FieldType.int)) ∈ lw_all := lw_g (lw_at lw_m5 22 rfl) rfl
theorem q1100 : (Jvm.Cond.methodLink "FourCars" (504 : Nat) ({ cls := "FourCars", name := "below", desc := "(I)I" } : Jvm.MethodName)) ∈ lw_all := lw_g (lw_at lw_m5 23 rfl) rfl
theorem q1101 : (Jvm.Cond.privateMethod ({ cls := "FourCars", name := "below", desc := "(I)I" } : Jvm.MethodName)) ∈ lw_tbl := lw_at lw_m5 24 rfl
theorem q1102 : (Jvm.Cond.instanceMethod ({ cls := "FourCars", name := "below", desc := "(I)I" } : Jvm.MethodName)) ∈ lw_all := lw_g (lw_at lw_m5 25 rfl) rfl
theorem q1103 : (Jvm.Cond.code ({ cls := "FourCars", name := "below", desc := "(I)I" } : Jvm.MethodName) prog_1_method_53_code (4 : Nat) (Option.some Jvm.ClassFile.FieldType.int)) ∈ lw_all := lw_g (lw_at lw_m5 26 rfl) rfl
theorem q1105 : (Jvm.Cond.instanceMethod ({ cls := "FourCars", name := "zones", desc := "(II)I" } : Jvm.MethodName)) ∈ lw_all := lw_g (lw_at lw_m5 28 rfl) rfl
theorem q1106 : (Jvm.Cond.selects "FourCars" ({ cls := "FourCars", name := "zones", desc := "(II)I" } : Jvm.MethodName) ({ cls := "FourCars", name := "zones", desc := "(II)I" } : Jvm.MethodName)) ∈ lw_all := lw_g (lw_at lw_m5 29 rfl) rfl
theorem q1107 : (Jvm.Cond.code ({ cls := "FourCars", name := "zones", desc := "(II)I" } : Jvm.MethodName) prog_1_method_60_code (3 : Nat) (Option.some Jvm.ClassFile.FieldType.int)) ∈ lw_all := lw_g (lw_at lw_m5 30 rfl) rfl
theorem q1108 : (Jvm.Cond.methodLink "FourCars" (516 : Nat) ({ cls := "FourCars", name := "cutsOn", desc := "(III)V" } : Jvm.MethodName)) ∈ lw_all := lw_g (lw_at lw_m5 31 rfl) rfl
theorem q1109 : (Jvm.Cond.privateMethod ({ cls := "FourCars", name := "cutsOn", desc := "(III)V" } : Jvm.MethodName)) ∈ lw_tbl := lw_at lw_m5 32 rfl
theorem q1110 : (Jvm.Cond.instanceMethod ({ cls := "FourCars", name := "cutsOn", desc := "(III)V" } : Jvm.MethodName)) ∈ lw_all := lw_g (lw_at lw_m5 33 rfl) rfl
theorem q1111 : (Jvm.Cond.code ({ cls := "FourCars", name := "cutsOn", desc := "(III)V" } : Jvm.MethodName) prog_1_method_59_code (7 : Nat) (Option.none : Option Jvm.ClassFile.FieldType)) ∈ lw_all := lw_g (lw_at lw_m5 34 rfl) rfl
theorem q1112 : (Jvm.Cond.methodLink "FourCars" (510 : Nat) ({ cls := "FourCars", name := "zoneOf", desc := "(II)I" } : Jvm.MethodName)) ∈ lw_all := lw_g (lw_at lw_m5 35 rfl) rfl
theorem q1113 : (Jvm.Cond.privateMethod ({ cls := "FourCars", name := "zoneOf", desc := "(II)I" } : Jvm.MethodName)) ∈ lw_tbl := lw_at lw_m5 36 rfl
theorem q1114 : (Jvm.Cond.instanceMethod ({ cls := "FourCars", name := "zoneOf", desc := "(II)I" } : Jvm.MethodName)) ∈ lw_all := lw_g (lw_at lw_m5 37 rfl) rfl
theorem q1115 : (Jvm.Cond.code ({ cls := "FourCars", name := "zoneOf", desc := "(II)I" } : Jvm.MethodName) prog_1_method_58_code (5 : Nat) (Option.some Jvm.ClassFile.FieldType.int)) ∈ lw_all := lw_g (lw_at lw_m5 38 rfl) rfl
theorem q1117 : (Jvm.Cond.instanceMethod ({ cls := "FourCars", name := "image", desc := "(Z)Z" } : Jvm.MethodName)) ∈ lw_all := lw_g (lw_at lw_m5 40 rfl) rfl
theorem q1118 : (Jvm.Cond.selects "FourCars" ({ cls := "FourCars", name := "image", desc := "(Z)Z" } : Jvm.MethodName) ({ cls := "FourCars", name := "image", desc := "(Z)Z" } : Jvm.MethodName)) ∈ lw_all := lw_g (lw_at lw_m5 41 rfl) rfl
theorem q1119 : (Jvm.Cond.code ({ cls := "FourCars", name := "image", desc := "(Z)Z" } : Jvm.MethodName) prog_1_method_61_code (2 : Nat) (Option.some Jvm.ClassFile.FieldType.boolean)) ∈ lw_all := lw_g (lw_at lw_m5 42 rfl) rfl
theorem q1121 : (Jvm.Cond.instanceMethod ({ cls := "FourCars", name := "look", desc := "(I)I" } : Jvm.MethodName)) ∈ lw_all := lw_g (lw_at lw_m5 44 rfl) rfl
theorem q1122 : (Jvm.Cond.selects "FourCars" ({ cls := "FourCars", name := "look", desc := "(I)I" } : Jvm.MethodName) ({ cls := "FourCars", name := "look", desc := "(I)I" } : Jvm.MethodName)) ∈ lw_all := lw_g (lw_at lw_m5 45 rfl) rfl
theorem q1123 : (Jvm.Cond.code ({ cls := "FourCars", name := "look", desc := "(I)I" } : Jvm.MethodName) prog_1_method_62_code (2 : Nat) (Option.some Jvm.ClassFile.FieldType.int)) ∈ lw_all := lw_g (lw_at lw_m5 46 rfl) rfl
theorem in_X0 : ∀ w ∈ wsX00, w ∈ lw_all := lw_in wsX00 [428, 430, 432, 434, 436, 438, 440, 442, 444, 446, 448, 450, 452, 454, 456, 458, 460, 462, 464, 466, 468, 470, 472, 474, 476, 478, 480, 482, 484, 486] (by decide +kernel) (by decide +kernel)
/-! FourCarsModel -/
def RX6 : String := "FourCarsModel"
def TX6 : u_T := fun k => match k with
  | 0 => ("FourCarsModel", "w", "[I", true)
  | 1 => ("FourCarsModel", "kept", "[I", true)
  | 2 => ("FourCarsModel", "before", "[I", true)
  | 3 => ("FourCarsModel", "hasImage", "Z", false)
  | 4 => ("FourCarsModel", "freshLine", "[I", true)
  | 5 => ("FourCarsModel", "freshStep", "[I", true)
  | 6 => ("FourCarsModel", "freshCar", "[I", true)
  | 7 => ("FourCarsModel", "tape", "[I", true)
  | 8 => ("FourCarsModel", "pile", "[I", true)
  | 9 => ("FourCarsModel", "facts", "[I", true)
  | 10 => ("FourCarsModel", "freshSkip", "[Z", true)
  | 11 => ("FourCarsModel", "which", "I", false)
  | 12 => ("FourCarsModel", "lines", "I", false)
  | 13 => ("FourCarsModel", "steps", "I", false)
  | 14 => ("FourCarsModel", "freshFloors", "I", false)
  | 15 => ("FourCarsModel", "freshCars", "I", false)
  | 16 => ("FourCarsModel", "taped", "I", false)
  | 17 => ("FourCarsModel", "at", "I", false)
  | 18 => ("FourCarsModel", "token", "I", false)
  | 19 => ("FourCarsModel", "tokenAt", "I", false)
  | 20 => ("FourCarsModel", "value", "I", false)
  | 21 => ("FourCarsModel", "wrong", "I", false)
  | 22 => ("FourCarsModel", "wrongAt", "I", false)
  | 23 => ("FourCarsModel", "faultKind", "I", false)
  | 24 => ("FourCarsModel", "depth", "I", false)
  | 25 => ("FourCarsModel", "faultPlace", "I", false)
  | 26 => ("FourCarsModel", "costs", "I", false)
  | 27 => ("FourCarsModel", "tried", "[I", true)
  | 28 => ("FourCarsModel", "isTried", "Z", false)
  | 29 => ("FourCarsModel", "presser", "I", false)
  | 30 => ("FourCarsModel", "pressed", "I", false)
  | 31 => ("FourCarsModel", "needed", "I", false)
  | 32 => ("FourCarsModel", "bestTried", "[I", true)
  | 33 => ("FourCarsModel", "leastOver", "I", false)
  | 34 => ("FourCarsModel", "above", "[I", true)
  | 35 => ("FourCarsModel", "chosen", "[I", true)
  | 36 => ("FourCarsModel", "cuts", "[I", true)
  | 37 => ("FourCarsModel", "bestCuts", "[I", true)
  | _ => ("FourCarsModel", "leastZones", "I", false)
def tyX6 : Nat → FieldType := fun k => match k with
  | 0 => .array .int
  | 1 => .array .int
  | 2 => .array .int
  | 3 => .boolean
  | 4 => .array .int
  | 5 => .array .int
  | 6 => .array .int
  | 7 => .array .int
  | 8 => .array .int
  | 9 => .array .int
  | 10 => .array .boolean
  | 11 => .int
  | 12 => .int
  | 13 => .int
  | 14 => .int
  | 15 => .int
  | 16 => .int
  | 17 => .int
  | 18 => .int
  | 19 => .int
  | 20 => .int
  | 21 => .int
  | 22 => .int
  | 23 => .int
  | 24 => .int
  | 25 => .int
  | 26 => .int
  | 27 => .array .int
  | 28 => .boolean
  | 29 => .int
  | 30 => .int
  | 31 => .int
  | 32 => .array .int
  | 33 => .int
  | 34 => .array .int
  | 35 => .array .int
  | 36 => .array .int
  | 37 => .array .int
  | _ => .int
abbrev wsX60 : List Cond := u_ws RX6 TX6 39
set_option maxRecDepth 100000 in
theorem nmX6 : ∀ a, a < 39 → ∀ b, b < 39 → a ≠ b → (TX6 a).2.1 ≠ (TX6 b).2.1 := by decide +kernel
set_option maxRecDepth 100000 in
theorem tyX6_ok : ∀ k, k < 39 → parseFieldDescriptor (TX6 k).2.2.1 = some (tyX6 k) := by decide +kernel
abbrev cX6_init : ByteArray := prog_15_method_1_code
def yX6_init : MethodName := ⟨RX6, "<init>", "()V"⟩
def dkwX6_init_6 : List UInt8 := [7, 188, 10, 181, 0, 63, 177]
abbrev dktX6_init_6 : List UInt8 := dkwX6_init_6 ++ []
def dkwX6_init_5 : List UInt8 := [42, 17, 1, 64, 188, 10, 181, 0, 54, 42, 7, 188, 10, 181, 0, 57, 42, 7, 188, 10, 181, 0, 60, 42]
abbrev dktX6_init_5 : List UInt8 := dkwX6_init_5 ++ dktX6_init_6
def dkwX6_init_4 : List UInt8 := [181, 0, 41, 42, 16, 60, 188, 10, 181, 0, 45, 42, 2, 181, 0, 48, 42, 16, 60, 188, 10, 181, 0, 51]
abbrev dktX6_init_4 : List UInt8 := dkwX6_init_4 ++ dktX6_init_5
def dkwX6_init_3 : List UInt8 := [188, 10, 181, 0, 31, 42, 16, 11, 188, 10, 181, 0, 34, 42, 17, 1, 64, 188, 4, 181, 0, 37, 42, 2]
abbrev dktX6_init_3 : List UInt8 := dkwX6_init_3 ++ dktX6_init_4
def dkwX6_init_2 : List UInt8 := [181, 0, 22, 42, 16, 40, 188, 10, 181, 0, 25, 42, 17, 1, 144, 188, 10, 181, 0, 28, 42, 17, 1, 164]
abbrev dktX6_init_2 : List UInt8 := dkwX6_init_2 ++ dktX6_init_3
def dkwX6_init_1 : List UInt8 := [17, 5, 20, 188, 10, 181, 0, 16, 42, 16, 64, 188, 10, 181, 0, 19, 42, 17, 3, 52, 188, 10]
abbrev dktX6_init_1 : List UInt8 := dkwX6_init_1 ++ dktX6_init_2
def dkwX6_init_0 : List UInt8 := [42, 183, 0, 1, 42, 17, 15, 130, 188, 10, 181, 0, 7, 42, 17, 15, 130, 188, 10, 181, 0, 13, 42]
abbrev dktX6_init_0 : List UInt8 := dkwX6_init_0 ++ dktX6_init_1
theorem dksX6_init_0 : cX6_init.data.toList.drop 0 = dktX6_init_0 := by decide +kernel
theorem dksX6_init_1 : cX6_init.data.toList.drop 23 = dktX6_init_1 := dk_seg dksX6_init_0 23 rfl rfl
theorem dksX6_init_2 : cX6_init.data.toList.drop 45 = dktX6_init_2 := dk_seg dksX6_init_1 22 rfl rfl
theorem dksX6_init_3 : cX6_init.data.toList.drop 69 = dktX6_init_3 := dk_seg dksX6_init_2 24 rfl rfl
theorem dksX6_init_4 : cX6_init.data.toList.drop 93 = dktX6_init_4 := dk_seg dksX6_init_3 24 rfl rfl
theorem dksX6_init_5 : cX6_init.data.toList.drop 117 = dktX6_init_5 := dk_seg dksX6_init_4 24 rfl rfl
theorem dksX6_init_6 : cX6_init.data.toList.drop 141 = dktX6_init_6 := dk_seg dksX6_init_5 24 rfl rfl
theorem dX6_init_0 : decode cX6_init 0 = .ok (.aload_n 0, 1) := dk_42 (dk_at dksX6_init_0 0 rfl rfl)
theorem dX6_init_1 : decode cX6_init 1 = .ok (.invokespecial 1, 3) := dk_183 0 1 (dk_at dksX6_init_0 1 rfl rfl)
theorem dX6_init_4 : decode cX6_init 4 = .ok (.aload_n 0, 1) := dk_42 (dk_at dksX6_init_0 4 rfl rfl)
theorem dX6_init_5 : decode cX6_init 5 = .ok (.sipush 3970, 3) := dk_17 15 130 (dk_at dksX6_init_0 5 rfl rfl)
theorem dX6_init_8 : decode cX6_init 8 = .ok (.newarray .int, 2) := dk_188_10 (dk_at dksX6_init_0 8 rfl rfl)
theorem dX6_init_10 : decode cX6_init 10 = .ok (.putfield 7, 3) := dk_181 0 7 (dk_at dksX6_init_0 10 rfl rfl)
theorem dX6_init_13 : decode cX6_init 13 = .ok (.aload_n 0, 1) := dk_42 (dk_at dksX6_init_0 13 rfl rfl)
theorem dX6_init_14 : decode cX6_init 14 = .ok (.sipush 3970, 3) := dk_17 15 130 (dk_at dksX6_init_0 14 rfl rfl)
theorem dX6_init_17 : decode cX6_init 17 = .ok (.newarray .int, 2) := dk_188_10 (dk_at dksX6_init_0 17 rfl rfl)
theorem dX6_init_19 : decode cX6_init 19 = .ok (.putfield 13, 3) := dk_181 0 13 (dk_at dksX6_init_0 19 rfl rfl)
theorem dX6_init_22 : decode cX6_init 22 = .ok (.aload_n 0, 1) := dk_42 (dk_at dksX6_init_0 22 rfl rfl)
theorem dX6_init_23 : decode cX6_init 23 = .ok (.sipush 1300, 3) := dk_17 5 20 (dk_at dksX6_init_1 0 rfl rfl)
theorem dX6_init_26 : decode cX6_init 26 = .ok (.newarray .int, 2) := dk_188_10 (dk_at dksX6_init_1 3 rfl rfl)
theorem dX6_init_28 : decode cX6_init 28 = .ok (.putfield 16, 3) := dk_181 0 16 (dk_at dksX6_init_1 5 rfl rfl)
theorem dX6_init_31 : decode cX6_init 31 = .ok (.aload_n 0, 1) := dk_42 (dk_at dksX6_init_1 8 rfl rfl)
theorem dX6_init_32 : decode cX6_init 32 = .ok (.bipush 64, 2) := dk_16 64 (dk_at dksX6_init_1 9 rfl rfl)
theorem dX6_init_34 : decode cX6_init 34 = .ok (.newarray .int, 2) := dk_188_10 (dk_at dksX6_init_1 11 rfl rfl)
theorem dX6_init_36 : decode cX6_init 36 = .ok (.putfield 19, 3) := dk_181 0 19 (dk_at dksX6_init_1 13 rfl rfl)
theorem dX6_init_39 : decode cX6_init 39 = .ok (.aload_n 0, 1) := dk_42 (dk_at dksX6_init_1 16 rfl rfl)
theorem dX6_init_40 : decode cX6_init 40 = .ok (.sipush 820, 3) := dk_17 3 52 (dk_at dksX6_init_1 17 rfl rfl)
theorem dX6_init_43 : decode cX6_init 43 = .ok (.newarray .int, 2) := dk_188_10 (dk_at dksX6_init_1 20 rfl rfl)
theorem dX6_init_45 : decode cX6_init 45 = .ok (.putfield 22, 3) := dk_181 0 22 (dk_at dksX6_init_2 0 rfl rfl)
theorem dX6_init_48 : decode cX6_init 48 = .ok (.aload_n 0, 1) := dk_42 (dk_at dksX6_init_2 3 rfl rfl)
theorem dX6_init_49 : decode cX6_init 49 = .ok (.bipush 40, 2) := dk_16 40 (dk_at dksX6_init_2 4 rfl rfl)
theorem dX6_init_51 : decode cX6_init 51 = .ok (.newarray .int, 2) := dk_188_10 (dk_at dksX6_init_2 6 rfl rfl)
theorem dX6_init_53 : decode cX6_init 53 = .ok (.putfield 25, 3) := dk_181 0 25 (dk_at dksX6_init_2 8 rfl rfl)
theorem dX6_init_56 : decode cX6_init 56 = .ok (.aload_n 0, 1) := dk_42 (dk_at dksX6_init_2 11 rfl rfl)
theorem dX6_init_57 : decode cX6_init 57 = .ok (.sipush 400, 3) := dk_17 1 144 (dk_at dksX6_init_2 12 rfl rfl)
theorem dX6_init_60 : decode cX6_init 60 = .ok (.newarray .int, 2) := dk_188_10 (dk_at dksX6_init_2 15 rfl rfl)
theorem dX6_init_62 : decode cX6_init 62 = .ok (.putfield 28, 3) := dk_181 0 28 (dk_at dksX6_init_2 17 rfl rfl)
theorem dX6_init_65 : decode cX6_init 65 = .ok (.aload_n 0, 1) := dk_42 (dk_at dksX6_init_2 20 rfl rfl)
theorem dX6_init_66 : decode cX6_init 66 = .ok (.sipush 420, 3) := dk_17 1 164 (dk_at dksX6_init_2 21 rfl rfl)
theorem dX6_init_69 : decode cX6_init 69 = .ok (.newarray .int, 2) := dk_188_10 (dk_at dksX6_init_3 0 rfl rfl)
theorem dX6_init_71 : decode cX6_init 71 = .ok (.putfield 31, 3) := dk_181 0 31 (dk_at dksX6_init_3 2 rfl rfl)
theorem dX6_init_74 : decode cX6_init 74 = .ok (.aload_n 0, 1) := dk_42 (dk_at dksX6_init_3 5 rfl rfl)
theorem dX6_init_75 : decode cX6_init 75 = .ok (.bipush 11, 2) := dk_16 11 (dk_at dksX6_init_3 6 rfl rfl)
theorem dX6_init_77 : decode cX6_init 77 = .ok (.newarray .int, 2) := dk_188_10 (dk_at dksX6_init_3 8 rfl rfl)
theorem dX6_init_79 : decode cX6_init 79 = .ok (.putfield 34, 3) := dk_181 0 34 (dk_at dksX6_init_3 10 rfl rfl)
theorem dX6_init_82 : decode cX6_init 82 = .ok (.aload_n 0, 1) := dk_42 (dk_at dksX6_init_3 13 rfl rfl)
theorem dX6_init_83 : decode cX6_init 83 = .ok (.sipush 320, 3) := dk_17 1 64 (dk_at dksX6_init_3 14 rfl rfl)
theorem dX6_init_86 : decode cX6_init 86 = .ok (.newarray .boolean, 2) := dk_188_4 (dk_at dksX6_init_3 17 rfl rfl)
theorem dX6_init_88 : decode cX6_init 88 = .ok (.putfield 37, 3) := dk_181 0 37 (dk_at dksX6_init_3 19 rfl rfl)
theorem dX6_init_91 : decode cX6_init 91 = .ok (.aload_n 0, 1) := dk_42 (dk_at dksX6_init_3 22 rfl rfl)
theorem dX6_init_92 : decode cX6_init 92 = .ok (.iconst (-1), 1) := dk_2 (dk_at dksX6_init_3 23 rfl rfl)
theorem dX6_init_93 : decode cX6_init 93 = .ok (.putfield 41, 3) := dk_181 0 41 (dk_at dksX6_init_4 0 rfl rfl)
theorem dX6_init_96 : decode cX6_init 96 = .ok (.aload_n 0, 1) := dk_42 (dk_at dksX6_init_4 3 rfl rfl)
theorem dX6_init_97 : decode cX6_init 97 = .ok (.bipush 60, 2) := dk_16 60 (dk_at dksX6_init_4 4 rfl rfl)
theorem dX6_init_99 : decode cX6_init 99 = .ok (.newarray .int, 2) := dk_188_10 (dk_at dksX6_init_4 6 rfl rfl)
theorem dX6_init_101 : decode cX6_init 101 = .ok (.putfield 45, 3) := dk_181 0 45 (dk_at dksX6_init_4 8 rfl rfl)
theorem dX6_init_104 : decode cX6_init 104 = .ok (.aload_n 0, 1) := dk_42 (dk_at dksX6_init_4 11 rfl rfl)
theorem dX6_init_105 : decode cX6_init 105 = .ok (.iconst (-1), 1) := dk_2 (dk_at dksX6_init_4 12 rfl rfl)
theorem dX6_init_106 : decode cX6_init 106 = .ok (.putfield 48, 3) := dk_181 0 48 (dk_at dksX6_init_4 13 rfl rfl)
theorem dX6_init_109 : decode cX6_init 109 = .ok (.aload_n 0, 1) := dk_42 (dk_at dksX6_init_4 16 rfl rfl)
theorem dX6_init_110 : decode cX6_init 110 = .ok (.bipush 60, 2) := dk_16 60 (dk_at dksX6_init_4 17 rfl rfl)
theorem dX6_init_112 : decode cX6_init 112 = .ok (.newarray .int, 2) := dk_188_10 (dk_at dksX6_init_4 19 rfl rfl)
theorem dX6_init_114 : decode cX6_init 114 = .ok (.putfield 51, 3) := dk_181 0 51 (dk_at dksX6_init_4 21 rfl rfl)
theorem dX6_init_117 : decode cX6_init 117 = .ok (.aload_n 0, 1) := dk_42 (dk_at dksX6_init_5 0 rfl rfl)
theorem dX6_init_118 : decode cX6_init 118 = .ok (.sipush 320, 3) := dk_17 1 64 (dk_at dksX6_init_5 1 rfl rfl)
theorem dX6_init_121 : decode cX6_init 121 = .ok (.newarray .int, 2) := dk_188_10 (dk_at dksX6_init_5 4 rfl rfl)
theorem dX6_init_123 : decode cX6_init 123 = .ok (.putfield 54, 3) := dk_181 0 54 (dk_at dksX6_init_5 6 rfl rfl)
theorem dX6_init_126 : decode cX6_init 126 = .ok (.aload_n 0, 1) := dk_42 (dk_at dksX6_init_5 9 rfl rfl)
theorem dX6_init_127 : decode cX6_init 127 = .ok (.iconst 4, 1) := dk_7 (dk_at dksX6_init_5 10 rfl rfl)
theorem dX6_init_128 : decode cX6_init 128 = .ok (.newarray .int, 2) := dk_188_10 (dk_at dksX6_init_5 11 rfl rfl)
theorem dX6_init_130 : decode cX6_init 130 = .ok (.putfield 57, 3) := dk_181 0 57 (dk_at dksX6_init_5 13 rfl rfl)
theorem dX6_init_133 : decode cX6_init 133 = .ok (.aload_n 0, 1) := dk_42 (dk_at dksX6_init_5 16 rfl rfl)
theorem dX6_init_134 : decode cX6_init 134 = .ok (.iconst 4, 1) := dk_7 (dk_at dksX6_init_5 17 rfl rfl)
theorem dX6_init_135 : decode cX6_init 135 = .ok (.newarray .int, 2) := dk_188_10 (dk_at dksX6_init_5 18 rfl rfl)
theorem dX6_init_137 : decode cX6_init 137 = .ok (.putfield 60, 3) := dk_181 0 60 (dk_at dksX6_init_5 20 rfl rfl)
theorem dX6_init_140 : decode cX6_init 140 = .ok (.aload_n 0, 1) := dk_42 (dk_at dksX6_init_5 23 rfl rfl)
theorem dX6_init_141 : decode cX6_init 141 = .ok (.iconst 4, 1) := dk_7 (dk_at dksX6_init_6 0 rfl rfl)
theorem dX6_init_142 : decode cX6_init 142 = .ok (.newarray .int, 2) := dk_188_10 (dk_at dksX6_init_6 1 rfl rfl)
theorem dX6_init_144 : decode cX6_init 144 = .ok (.putfield 63, 3) := dk_181 0 63 (dk_at dksX6_init_6 3 rfl rfl)
theorem dX6_init_147 : decode cX6_init 147 = .ok (.return_, 1) := dk_177 (dk_at dksX6_init_6 6 rfl rfl)
abbrev cX6_feed : ByteArray := prog_15_method_12_code
def yX6_feed : MethodName := ⟨RX6, "feed", "(IIIII)I"⟩
def dkwX6_feed_5 : List UInt8 := [180, 0, 70, 172]
abbrev dktX6_feed_5 : List UInt8 := dkwX6_feed_5 ++ []
def dkwX6_feed_4 : List UInt8 := [122, 17, 0, 255, 126, 79, 42, 89, 180, 0, 70, 4, 96, 181, 0, 70, 132, 6, 1, 167, 255, 162, 42]
abbrev dktX6_feed_4 : List UInt8 := dkwX6_feed_4 ++ dktX6_feed_5
def dkwX6_feed_3 : List UInt8 := [21, 5, 54, 7, 42, 180, 0, 28, 42, 180, 0, 70, 21, 7, 16, 24, 16, 8, 21, 6, 7, 112, 104, 100]
abbrev dktX6_feed_3 : List UInt8 := dkwX6_feed_3 ++ dktX6_feed_4
def dkwX6_feed_2 : List UInt8 := [21, 6, 16, 12, 162, 0, 7, 29, 167, 0, 17, 21, 6, 16, 16, 162, 0, 8, 21, 4, 167, 0, 5]
abbrev dktX6_feed_2 : List UInt8 := dkwX6_feed_2 ++ dktX6_feed_3
def dkwX6_feed_1 : List UInt8 := [162, 0, 93, 21, 6, 7, 162, 0, 7, 27, 167, 0, 39, 21, 6, 16, 8, 162, 0, 7, 28, 167, 0, 28]
abbrev dktX6_feed_1 : List UInt8 := dkwX6_feed_1 ++ dktX6_feed_2
def dkwX6_feed_0 : List UInt8 := [42, 180, 0, 70, 16, 20, 96, 17, 1, 144, 164, 0, 5, 2, 172, 3, 54, 6, 21, 6, 16, 20]
abbrev dktX6_feed_0 : List UInt8 := dkwX6_feed_0 ++ dktX6_feed_1
theorem dksX6_feed_0 : cX6_feed.data.toList.drop 0 = dktX6_feed_0 := by decide +kernel
theorem dksX6_feed_1 : cX6_feed.data.toList.drop 22 = dktX6_feed_1 := dk_seg dksX6_feed_0 22 rfl rfl
theorem dksX6_feed_2 : cX6_feed.data.toList.drop 46 = dktX6_feed_2 := dk_seg dksX6_feed_1 24 rfl rfl
theorem dksX6_feed_3 : cX6_feed.data.toList.drop 69 = dktX6_feed_3 := dk_seg dksX6_feed_2 23 rfl rfl
theorem dksX6_feed_4 : cX6_feed.data.toList.drop 93 = dktX6_feed_4 := dk_seg dksX6_feed_3 24 rfl rfl
theorem dksX6_feed_5 : cX6_feed.data.toList.drop 116 = dktX6_feed_5 := dk_seg dksX6_feed_4 23 rfl rfl
theorem dX6_feed_0 : decode cX6_feed 0 = .ok (.aload_n 0, 1) := dk_42 (dk_at dksX6_feed_0 0 rfl rfl)
theorem dX6_feed_1 : decode cX6_feed 1 = .ok (.getfield 70, 3) := dk_180 0 70 (dk_at dksX6_feed_0 1 rfl rfl)
theorem dX6_feed_4 : decode cX6_feed 4 = .ok (.bipush 20, 2) := dk_16 20 (dk_at dksX6_feed_0 4 rfl rfl)
theorem dX6_feed_6 : decode cX6_feed 6 = .ok (.iadd, 1) := dk_96 (dk_at dksX6_feed_0 6 rfl rfl)
theorem dX6_feed_7 : decode cX6_feed 7 = .ok (.sipush 400, 3) := dk_17 1 144 (dk_at dksX6_feed_0 7 rfl rfl)
theorem dX6_feed_10 : decode cX6_feed 10 = .ok (.if_icmp .le 5, 3) := dk_164 0 5 (dk_at dksX6_feed_0 10 rfl rfl)
theorem dX6_feed_13 : decode cX6_feed 13 = .ok (.iconst (-1), 1) := dk_2 (dk_at dksX6_feed_0 13 rfl rfl)
theorem dX6_feed_14 : decode cX6_feed 14 = .ok (.ireturn, 1) := dk_172 (dk_at dksX6_feed_0 14 rfl rfl)
theorem dX6_feed_15 : decode cX6_feed 15 = .ok (.iconst 0, 1) := dk_3 (dk_at dksX6_feed_0 15 rfl rfl)
theorem dX6_feed_16 : decode cX6_feed 16 = .ok (.istore 6, 2) := dk_54 6 (dk_at dksX6_feed_0 16 rfl rfl)
theorem dX6_feed_18 : decode cX6_feed 18 = .ok (.iload 6, 2) := dk_21 6 (dk_at dksX6_feed_0 18 rfl rfl)
theorem dX6_feed_20 : decode cX6_feed 20 = .ok (.bipush 20, 2) := dk_16 20 (dk_at dksX6_feed_0 20 rfl rfl)
theorem dX6_feed_22 : decode cX6_feed 22 = .ok (.if_icmp .ge 93, 3) := dk_162 0 93 (dk_at dksX6_feed_1 0 rfl rfl)
theorem dX6_feed_25 : decode cX6_feed 25 = .ok (.iload 6, 2) := dk_21 6 (dk_at dksX6_feed_1 3 rfl rfl)
theorem dX6_feed_27 : decode cX6_feed 27 = .ok (.iconst 4, 1) := dk_7 (dk_at dksX6_feed_1 5 rfl rfl)
theorem dX6_feed_28 : decode cX6_feed 28 = .ok (.if_icmp .ge 7, 3) := dk_162 0 7 (dk_at dksX6_feed_1 6 rfl rfl)
theorem dX6_feed_31 : decode cX6_feed 31 = .ok (.iload_n 1, 1) := dk_27 (dk_at dksX6_feed_1 9 rfl rfl)
theorem dX6_feed_32 : decode cX6_feed 32 = .ok (.goto 39, 3) := dk_167 0 39 (dk_at dksX6_feed_1 10 rfl rfl)
theorem dX6_feed_35 : decode cX6_feed 35 = .ok (.iload 6, 2) := dk_21 6 (dk_at dksX6_feed_1 13 rfl rfl)
theorem dX6_feed_37 : decode cX6_feed 37 = .ok (.bipush 8, 2) := dk_16 8 (dk_at dksX6_feed_1 15 rfl rfl)
theorem dX6_feed_39 : decode cX6_feed 39 = .ok (.if_icmp .ge 7, 3) := dk_162 0 7 (dk_at dksX6_feed_1 17 rfl rfl)
theorem dX6_feed_42 : decode cX6_feed 42 = .ok (.iload_n 2, 1) := dk_28 (dk_at dksX6_feed_1 20 rfl rfl)
theorem dX6_feed_43 : decode cX6_feed 43 = .ok (.goto 28, 3) := dk_167 0 28 (dk_at dksX6_feed_1 21 rfl rfl)
theorem dX6_feed_46 : decode cX6_feed 46 = .ok (.iload 6, 2) := dk_21 6 (dk_at dksX6_feed_2 0 rfl rfl)
theorem dX6_feed_48 : decode cX6_feed 48 = .ok (.bipush 12, 2) := dk_16 12 (dk_at dksX6_feed_2 2 rfl rfl)
theorem dX6_feed_50 : decode cX6_feed 50 = .ok (.if_icmp .ge 7, 3) := dk_162 0 7 (dk_at dksX6_feed_2 4 rfl rfl)
theorem dX6_feed_53 : decode cX6_feed 53 = .ok (.iload_n 3, 1) := dk_29 (dk_at dksX6_feed_2 7 rfl rfl)
theorem dX6_feed_54 : decode cX6_feed 54 = .ok (.goto 17, 3) := dk_167 0 17 (dk_at dksX6_feed_2 8 rfl rfl)
theorem dX6_feed_57 : decode cX6_feed 57 = .ok (.iload 6, 2) := dk_21 6 (dk_at dksX6_feed_2 11 rfl rfl)
theorem dX6_feed_59 : decode cX6_feed 59 = .ok (.bipush 16, 2) := dk_16 16 (dk_at dksX6_feed_2 13 rfl rfl)
theorem dX6_feed_61 : decode cX6_feed 61 = .ok (.if_icmp .ge 8, 3) := dk_162 0 8 (dk_at dksX6_feed_2 15 rfl rfl)
theorem dX6_feed_64 : decode cX6_feed 64 = .ok (.iload 4, 2) := dk_21 4 (dk_at dksX6_feed_2 18 rfl rfl)
theorem dX6_feed_66 : decode cX6_feed 66 = .ok (.goto 5, 3) := dk_167 0 5 (dk_at dksX6_feed_2 20 rfl rfl)
theorem dX6_feed_69 : decode cX6_feed 69 = .ok (.iload 5, 2) := dk_21 5 (dk_at dksX6_feed_3 0 rfl rfl)
theorem dX6_feed_71 : decode cX6_feed 71 = .ok (.istore 7, 2) := dk_54 7 (dk_at dksX6_feed_3 2 rfl rfl)
theorem dX6_feed_73 : decode cX6_feed 73 = .ok (.aload_n 0, 1) := dk_42 (dk_at dksX6_feed_3 4 rfl rfl)
theorem dX6_feed_74 : decode cX6_feed 74 = .ok (.getfield 28, 3) := dk_180 0 28 (dk_at dksX6_feed_3 5 rfl rfl)
theorem dX6_feed_77 : decode cX6_feed 77 = .ok (.aload_n 0, 1) := dk_42 (dk_at dksX6_feed_3 8 rfl rfl)
theorem dX6_feed_78 : decode cX6_feed 78 = .ok (.getfield 70, 3) := dk_180 0 70 (dk_at dksX6_feed_3 9 rfl rfl)
theorem dX6_feed_81 : decode cX6_feed 81 = .ok (.iload 7, 2) := dk_21 7 (dk_at dksX6_feed_3 12 rfl rfl)
theorem dX6_feed_83 : decode cX6_feed 83 = .ok (.bipush 24, 2) := dk_16 24 (dk_at dksX6_feed_3 14 rfl rfl)
theorem dX6_feed_85 : decode cX6_feed 85 = .ok (.bipush 8, 2) := dk_16 8 (dk_at dksX6_feed_3 16 rfl rfl)
theorem dX6_feed_87 : decode cX6_feed 87 = .ok (.iload 6, 2) := dk_21 6 (dk_at dksX6_feed_3 18 rfl rfl)
theorem dX6_feed_89 : decode cX6_feed 89 = .ok (.iconst 4, 1) := dk_7 (dk_at dksX6_feed_3 20 rfl rfl)
theorem dX6_feed_90 : decode cX6_feed 90 = .ok (.irem, 1) := dk_112 (dk_at dksX6_feed_3 21 rfl rfl)
theorem dX6_feed_91 : decode cX6_feed 91 = .ok (.imul, 1) := dk_104 (dk_at dksX6_feed_3 22 rfl rfl)
theorem dX6_feed_92 : decode cX6_feed 92 = .ok (.isub, 1) := dk_100 (dk_at dksX6_feed_3 23 rfl rfl)
theorem dX6_feed_93 : decode cX6_feed 93 = .ok (.ishr, 1) := dk_122 (dk_at dksX6_feed_4 0 rfl rfl)
theorem dX6_feed_94 : decode cX6_feed 94 = .ok (.sipush 255, 3) := dk_17 0 255 (dk_at dksX6_feed_4 1 rfl rfl)
theorem dX6_feed_97 : decode cX6_feed 97 = .ok (.iand, 1) := dk_126 (dk_at dksX6_feed_4 4 rfl rfl)
theorem dX6_feed_98 : decode cX6_feed 98 = .ok (.iastore, 1) := dk_79 (dk_at dksX6_feed_4 5 rfl rfl)
theorem dX6_feed_99 : decode cX6_feed 99 = .ok (.aload_n 0, 1) := dk_42 (dk_at dksX6_feed_4 6 rfl rfl)
theorem dX6_feed_100 : decode cX6_feed 100 = .ok (.dup, 1) := dk_89 (dk_at dksX6_feed_4 7 rfl rfl)
theorem dX6_feed_101 : decode cX6_feed 101 = .ok (.getfield 70, 3) := dk_180 0 70 (dk_at dksX6_feed_4 8 rfl rfl)
theorem dX6_feed_104 : decode cX6_feed 104 = .ok (.iconst 1, 1) := dk_4 (dk_at dksX6_feed_4 11 rfl rfl)
theorem dX6_feed_105 : decode cX6_feed 105 = .ok (.iadd, 1) := dk_96 (dk_at dksX6_feed_4 12 rfl rfl)
theorem dX6_feed_106 : decode cX6_feed 106 = .ok (.putfield 70, 3) := dk_181 0 70 (dk_at dksX6_feed_4 13 rfl rfl)
theorem dX6_feed_109 : decode cX6_feed 109 = .ok (.iinc 6 1, 3) := dk_132 6 1 (dk_at dksX6_feed_4 16 rfl rfl)
theorem dX6_feed_112 : decode cX6_feed 112 = .ok (.goto (-94), 3) := dk_167 255 162 (dk_at dksX6_feed_4 19 rfl rfl)
theorem dX6_feed_115 : decode cX6_feed 115 = .ok (.aload_n 0, 1) := dk_42 (dk_at dksX6_feed_4 22 rfl rfl)
theorem dX6_feed_116 : decode cX6_feed 116 = .ok (.getfield 70, 3) := dk_180 0 70 (dk_at dksX6_feed_5 0 rfl rfl)
theorem dX6_feed_119 : decode cX6_feed 119 = .ok (.ireturn, 1) := dk_172 (dk_at dksX6_feed_5 3 rfl rfl)
abbrev cX6_end : ByteArray := prog_15_method_13_code
def yX6_end : MethodName := ⟨RX6, "end", "(I)Z"⟩
def dkwX6_end_0 : List UInt8 := [27, 3, 42, 180, 0, 70, 184, 0, 66, 154, 0, 5, 3, 172, 42, 27, 181, 0, 70, 4, 172]
abbrev dktX6_end_0 : List UInt8 := dkwX6_end_0 ++ []
theorem dksX6_end_0 : cX6_end.data.toList.drop 0 = dktX6_end_0 := by decide +kernel
theorem dX6_end_0 : decode cX6_end 0 = .ok (.iload_n 1, 1) := dk_27 (dk_at dksX6_end_0 0 rfl rfl)
theorem dX6_end_1 : decode cX6_end 1 = .ok (.iconst 0, 1) := dk_3 (dk_at dksX6_end_0 1 rfl rfl)
theorem dX6_end_2 : decode cX6_end 2 = .ok (.aload_n 0, 1) := dk_42 (dk_at dksX6_end_0 2 rfl rfl)
theorem dX6_end_3 : decode cX6_end 3 = .ok (.getfield 70, 3) := dk_180 0 70 (dk_at dksX6_end_0 3 rfl rfl)
theorem dX6_end_6 : decode cX6_end 6 = .ok (.invokestatic 66, 3) := dk_184 0 66 (dk_at dksX6_end_0 6 rfl rfl)
theorem dX6_end_9 : decode cX6_end 9 = .ok (.ifCond .ne 5, 3) := dk_154 0 5 (dk_at dksX6_end_0 9 rfl rfl)
theorem dX6_end_12 : decode cX6_end 12 = .ok (.iconst 0, 1) := dk_3 (dk_at dksX6_end_0 12 rfl rfl)
theorem dX6_end_13 : decode cX6_end 13 = .ok (.ireturn, 1) := dk_172 (dk_at dksX6_end_0 13 rfl rfl)
theorem dX6_end_14 : decode cX6_end 14 = .ok (.aload_n 0, 1) := dk_42 (dk_at dksX6_end_0 14 rfl rfl)
theorem dX6_end_15 : decode cX6_end 15 = .ok (.iload_n 1, 1) := dk_27 (dk_at dksX6_end_0 15 rfl rfl)
theorem dX6_end_16 : decode cX6_end 16 = .ok (.putfield 70, 3) := dk_181 0 70 (dk_at dksX6_end_0 16 rfl rfl)
theorem dX6_end_19 : decode cX6_end 19 = .ok (.iconst 1, 1) := dk_4 (dk_at dksX6_end_0 19 rfl rfl)
theorem dX6_end_20 : decode cX6_end 20 = .ok (.ireturn, 1) := dk_172 (dk_at dksX6_end_0 20 rfl rfl)
abbrev cX6_isIn : ByteArray := prog_15_method_2_code
def yX6_isIn : MethodName := ⟨RX6, "isIn", "(III)Z"⟩
def dkwX6_isIn_0 : List UInt8 := [26, 27, 161, 0, 12, 26, 28, 163, 0, 7, 4, 167, 0, 4, 3, 172]
abbrev dktX6_isIn_0 : List UInt8 := dkwX6_isIn_0 ++ []
theorem dksX6_isIn_0 : cX6_isIn.data.toList.drop 0 = dktX6_isIn_0 := by decide +kernel
theorem dX6_isIn_0 : decode cX6_isIn 0 = .ok (.iload_n 0, 1) := dk_26 (dk_at dksX6_isIn_0 0 rfl rfl)
theorem dX6_isIn_1 : decode cX6_isIn 1 = .ok (.iload_n 1, 1) := dk_27 (dk_at dksX6_isIn_0 1 rfl rfl)
theorem dX6_isIn_2 : decode cX6_isIn 2 = .ok (.if_icmp .lt 12, 3) := dk_161 0 12 (dk_at dksX6_isIn_0 2 rfl rfl)
theorem dX6_isIn_5 : decode cX6_isIn 5 = .ok (.iload_n 0, 1) := dk_26 (dk_at dksX6_isIn_0 5 rfl rfl)
theorem dX6_isIn_6 : decode cX6_isIn 6 = .ok (.iload_n 2, 1) := dk_28 (dk_at dksX6_isIn_0 6 rfl rfl)
theorem dX6_isIn_7 : decode cX6_isIn 7 = .ok (.if_icmp .gt 7, 3) := dk_163 0 7 (dk_at dksX6_isIn_0 7 rfl rfl)
theorem dX6_isIn_10 : decode cX6_isIn 10 = .ok (.iconst 1, 1) := dk_4 (dk_at dksX6_isIn_0 10 rfl rfl)
theorem dX6_isIn_11 : decode cX6_isIn 11 = .ok (.goto 4, 3) := dk_167 0 4 (dk_at dksX6_isIn_0 11 rfl rfl)
theorem dX6_isIn_14 : decode cX6_isIn 14 = .ok (.iconst 0, 1) := dk_3 (dk_at dksX6_isIn_0 14 rfl rfl)
theorem dX6_isIn_15 : decode cX6_isIn 15 = .ok (.ireturn, 1) := dk_172 (dk_at dksX6_isIn_0 15 rfl rfl)
abbrev cX6_text : ByteArray := prog_15_method_38_code
def yX6_text : MethodName := ⟨RX6, "text", "(I)I"⟩
def dkwX6_text_8 : List UInt8 := [182, 0, 238, 42, 180, 0, 205, 172]
abbrev dktX6_text_8 : List UInt8 := dkwX6_text_8 ++ []
def dkwX6_text_7 : List UInt8 := [181, 0, 41, 28, 154, 0, 5, 2, 172, 27, 6, 162, 0, 11, 42, 27, 182, 0, 234, 167, 0, 7, 42]
abbrev dktX6_text_7 : List UInt8 := dkwX6_text_7 ++ dktX6_text_8
def dkwX6_text_6 : List UInt8 := [181, 0, 70, 42, 42, 180, 0, 158, 181, 0, 225, 42, 28, 153, 0, 7, 2, 167, 0, 7, 42, 180, 0, 161]
abbrev dktX6_text_6 : List UInt8 := dkwX6_text_6 ++ dktX6_text_7
def dkwX6_text_5 : List UInt8 := [89, 180, 0, 205, 28, 153, 0, 7, 4, 167, 0, 4, 3, 96, 181, 0, 205, 167, 255, 210, 42, 3]
abbrev dktX6_text_5 : List UInt8 := dkwX6_text_5 ++ dktX6_text_6
def dkwX6_text_4 : List UInt8 := [180, 0, 142, 153, 0, 41, 27, 6, 162, 0, 10, 42, 182, 0, 228, 167, 0, 7, 42, 182, 0, 231, 61, 42]
abbrev dktX6_text_4 : List UInt8 := dkwX6_text_4 ++ dktX6_text_5
def dkwX6_text_3 : List UInt8 := [180, 0, 37, 28, 3, 84, 132, 2, 1, 167, 255, 239, 42, 182, 0, 167, 4, 61, 28, 153, 0, 48, 42]
abbrev dktX6_text_3 : List UInt8 := dkwX6_text_3 ++ dktX6_text_4
def dkwX6_text_2 : List UInt8 := [181, 0, 170, 42, 3, 181, 0, 208, 42, 3, 181, 0, 215, 3, 61, 28, 17, 1, 64, 162, 0, 16, 42]
abbrev dktX6_text_2 : List UInt8 := dkwX6_text_2 ++ dktX6_text_3
def dkwX6_text_1 : List UInt8 := [42, 2, 181, 0, 41, 2, 172, 42, 27, 181, 0, 117, 42, 3, 181, 0, 73, 42, 3, 181, 0, 205, 42, 3]
abbrev dktX6_text_1 : List UInt8 := dkwX6_text_1 ++ dktX6_text_2
def dkwX6_text_0 : List UInt8 := [42, 3, 181, 0, 158, 27, 3, 6, 184, 0, 66, 154, 0, 20, 42, 3, 181, 0, 70, 42, 3, 181, 0, 225]
abbrev dktX6_text_0 : List UInt8 := dkwX6_text_0 ++ dktX6_text_1
theorem dksX6_text_0 : cX6_text.data.toList.drop 0 = dktX6_text_0 := by decide +kernel
theorem dksX6_text_1 : cX6_text.data.toList.drop 24 = dktX6_text_1 := dk_seg dksX6_text_0 24 rfl rfl
theorem dksX6_text_2 : cX6_text.data.toList.drop 48 = dktX6_text_2 := dk_seg dksX6_text_1 24 rfl rfl
theorem dksX6_text_3 : cX6_text.data.toList.drop 71 = dktX6_text_3 := dk_seg dksX6_text_2 23 rfl rfl
theorem dksX6_text_4 : cX6_text.data.toList.drop 94 = dktX6_text_4 := dk_seg dksX6_text_3 23 rfl rfl
theorem dksX6_text_5 : cX6_text.data.toList.drop 118 = dktX6_text_5 := dk_seg dksX6_text_4 24 rfl rfl
theorem dksX6_text_6 : cX6_text.data.toList.drop 140 = dktX6_text_6 := dk_seg dksX6_text_5 22 rfl rfl
theorem dksX6_text_7 : cX6_text.data.toList.drop 164 = dktX6_text_7 := dk_seg dksX6_text_6 24 rfl rfl
theorem dksX6_text_8 : cX6_text.data.toList.drop 187 = dktX6_text_8 := dk_seg dksX6_text_7 23 rfl rfl
theorem dX6_text_0 : decode cX6_text 0 = .ok (.aload_n 0, 1) := dk_42 (dk_at dksX6_text_0 0 rfl rfl)
theorem dX6_text_1 : decode cX6_text 1 = .ok (.iconst 0, 1) := dk_3 (dk_at dksX6_text_0 1 rfl rfl)
theorem dX6_text_2 : decode cX6_text 2 = .ok (.putfield 158, 3) := dk_181 0 158 (dk_at dksX6_text_0 2 rfl rfl)
theorem dX6_text_5 : decode cX6_text 5 = .ok (.iload_n 1, 1) := dk_27 (dk_at dksX6_text_0 5 rfl rfl)
theorem dX6_text_6 : decode cX6_text 6 = .ok (.iconst 0, 1) := dk_3 (dk_at dksX6_text_0 6 rfl rfl)
theorem dX6_text_7 : decode cX6_text 7 = .ok (.iconst 3, 1) := dk_6 (dk_at dksX6_text_0 7 rfl rfl)
theorem dX6_text_8 : decode cX6_text 8 = .ok (.invokestatic 66, 3) := dk_184 0 66 (dk_at dksX6_text_0 8 rfl rfl)
theorem dX6_text_11 : decode cX6_text 11 = .ok (.ifCond .ne 20, 3) := dk_154 0 20 (dk_at dksX6_text_0 11 rfl rfl)
theorem dX6_text_14 : decode cX6_text 14 = .ok (.aload_n 0, 1) := dk_42 (dk_at dksX6_text_0 14 rfl rfl)
theorem dX6_text_15 : decode cX6_text 15 = .ok (.iconst 0, 1) := dk_3 (dk_at dksX6_text_0 15 rfl rfl)
theorem dX6_text_16 : decode cX6_text 16 = .ok (.putfield 70, 3) := dk_181 0 70 (dk_at dksX6_text_0 16 rfl rfl)
theorem dX6_text_19 : decode cX6_text 19 = .ok (.aload_n 0, 1) := dk_42 (dk_at dksX6_text_0 19 rfl rfl)
theorem dX6_text_20 : decode cX6_text 20 = .ok (.iconst 0, 1) := dk_3 (dk_at dksX6_text_0 20 rfl rfl)
theorem dX6_text_21 : decode cX6_text 21 = .ok (.putfield 225, 3) := dk_181 0 225 (dk_at dksX6_text_0 21 rfl rfl)
theorem dX6_text_24 : decode cX6_text 24 = .ok (.aload_n 0, 1) := dk_42 (dk_at dksX6_text_1 0 rfl rfl)
theorem dX6_text_25 : decode cX6_text 25 = .ok (.iconst (-1), 1) := dk_2 (dk_at dksX6_text_1 1 rfl rfl)
theorem dX6_text_26 : decode cX6_text 26 = .ok (.putfield 41, 3) := dk_181 0 41 (dk_at dksX6_text_1 2 rfl rfl)
theorem dX6_text_29 : decode cX6_text 29 = .ok (.iconst (-1), 1) := dk_2 (dk_at dksX6_text_1 5 rfl rfl)
theorem dX6_text_30 : decode cX6_text 30 = .ok (.ireturn, 1) := dk_172 (dk_at dksX6_text_1 6 rfl rfl)
theorem dX6_text_31 : decode cX6_text 31 = .ok (.aload_n 0, 1) := dk_42 (dk_at dksX6_text_1 7 rfl rfl)
theorem dX6_text_32 : decode cX6_text 32 = .ok (.iload_n 1, 1) := dk_27 (dk_at dksX6_text_1 8 rfl rfl)
theorem dX6_text_33 : decode cX6_text 33 = .ok (.putfield 117, 3) := dk_181 0 117 (dk_at dksX6_text_1 9 rfl rfl)
theorem dX6_text_36 : decode cX6_text 36 = .ok (.aload_n 0, 1) := dk_42 (dk_at dksX6_text_1 12 rfl rfl)
theorem dX6_text_37 : decode cX6_text 37 = .ok (.iconst 0, 1) := dk_3 (dk_at dksX6_text_1 13 rfl rfl)
theorem dX6_text_38 : decode cX6_text 38 = .ok (.putfield 73, 3) := dk_181 0 73 (dk_at dksX6_text_1 14 rfl rfl)
theorem dX6_text_41 : decode cX6_text 41 = .ok (.aload_n 0, 1) := dk_42 (dk_at dksX6_text_1 17 rfl rfl)
theorem dX6_text_42 : decode cX6_text 42 = .ok (.iconst 0, 1) := dk_3 (dk_at dksX6_text_1 18 rfl rfl)
theorem dX6_text_43 : decode cX6_text 43 = .ok (.putfield 205, 3) := dk_181 0 205 (dk_at dksX6_text_1 19 rfl rfl)
theorem dX6_text_46 : decode cX6_text 46 = .ok (.aload_n 0, 1) := dk_42 (dk_at dksX6_text_1 22 rfl rfl)
theorem dX6_text_47 : decode cX6_text 47 = .ok (.iconst 0, 1) := dk_3 (dk_at dksX6_text_1 23 rfl rfl)
theorem dX6_text_48 : decode cX6_text 48 = .ok (.putfield 170, 3) := dk_181 0 170 (dk_at dksX6_text_2 0 rfl rfl)
theorem dX6_text_51 : decode cX6_text 51 = .ok (.aload_n 0, 1) := dk_42 (dk_at dksX6_text_2 3 rfl rfl)
theorem dX6_text_52 : decode cX6_text 52 = .ok (.iconst 0, 1) := dk_3 (dk_at dksX6_text_2 4 rfl rfl)
theorem dX6_text_53 : decode cX6_text 53 = .ok (.putfield 208, 3) := dk_181 0 208 (dk_at dksX6_text_2 5 rfl rfl)
theorem dX6_text_56 : decode cX6_text 56 = .ok (.aload_n 0, 1) := dk_42 (dk_at dksX6_text_2 8 rfl rfl)
theorem dX6_text_57 : decode cX6_text 57 = .ok (.iconst 0, 1) := dk_3 (dk_at dksX6_text_2 9 rfl rfl)
theorem dX6_text_58 : decode cX6_text 58 = .ok (.putfield 215, 3) := dk_181 0 215 (dk_at dksX6_text_2 10 rfl rfl)
theorem dX6_text_61 : decode cX6_text 61 = .ok (.iconst 0, 1) := dk_3 (dk_at dksX6_text_2 13 rfl rfl)
theorem dX6_text_62 : decode cX6_text 62 = .ok (.istore_n 2, 1) := dk_61 (dk_at dksX6_text_2 14 rfl rfl)
theorem dX6_text_63 : decode cX6_text 63 = .ok (.iload_n 2, 1) := dk_28 (dk_at dksX6_text_2 15 rfl rfl)
theorem dX6_text_64 : decode cX6_text 64 = .ok (.sipush 320, 3) := dk_17 1 64 (dk_at dksX6_text_2 16 rfl rfl)
theorem dX6_text_67 : decode cX6_text 67 = .ok (.if_icmp .ge 16, 3) := dk_162 0 16 (dk_at dksX6_text_2 19 rfl rfl)
theorem dX6_text_70 : decode cX6_text 70 = .ok (.aload_n 0, 1) := dk_42 (dk_at dksX6_text_2 22 rfl rfl)
theorem dX6_text_71 : decode cX6_text 71 = .ok (.getfield 37, 3) := dk_180 0 37 (dk_at dksX6_text_3 0 rfl rfl)
theorem dX6_text_74 : decode cX6_text 74 = .ok (.iload_n 2, 1) := dk_28 (dk_at dksX6_text_3 3 rfl rfl)
theorem dX6_text_75 : decode cX6_text 75 = .ok (.iconst 0, 1) := dk_3 (dk_at dksX6_text_3 4 rfl rfl)
theorem dX6_text_76 : decode cX6_text 76 = .ok (.bastore, 1) := dk_84 (dk_at dksX6_text_3 5 rfl rfl)
theorem dX6_text_77 : decode cX6_text 77 = .ok (.iinc 2 1, 3) := dk_132 2 1 (dk_at dksX6_text_3 6 rfl rfl)
theorem dX6_text_80 : decode cX6_text 80 = .ok (.goto (-17), 3) := dk_167 255 239 (dk_at dksX6_text_3 9 rfl rfl)
theorem dX6_text_83 : decode cX6_text 83 = .ok (.aload_n 0, 1) := dk_42 (dk_at dksX6_text_3 12 rfl rfl)
theorem dX6_text_84 : decode cX6_text 84 = .ok (.invokevirtual 167, 3) := dk_182 0 167 (dk_at dksX6_text_3 13 rfl rfl)
theorem dX6_text_87 : decode cX6_text 87 = .ok (.iconst 1, 1) := dk_4 (dk_at dksX6_text_3 16 rfl rfl)
theorem dX6_text_88 : decode cX6_text 88 = .ok (.istore_n 2, 1) := dk_61 (dk_at dksX6_text_3 17 rfl rfl)
theorem dX6_text_89 : decode cX6_text 89 = .ok (.iload_n 2, 1) := dk_28 (dk_at dksX6_text_3 18 rfl rfl)
theorem dX6_text_90 : decode cX6_text 90 = .ok (.ifCond .eq 48, 3) := dk_153 0 48 (dk_at dksX6_text_3 19 rfl rfl)
theorem dX6_text_93 : decode cX6_text 93 = .ok (.aload_n 0, 1) := dk_42 (dk_at dksX6_text_3 22 rfl rfl)
theorem dX6_text_94 : decode cX6_text 94 = .ok (.getfield 142, 3) := dk_180 0 142 (dk_at dksX6_text_4 0 rfl rfl)
theorem dX6_text_97 : decode cX6_text 97 = .ok (.ifCond .eq 41, 3) := dk_153 0 41 (dk_at dksX6_text_4 3 rfl rfl)
theorem dX6_text_100 : decode cX6_text 100 = .ok (.iload_n 1, 1) := dk_27 (dk_at dksX6_text_4 6 rfl rfl)
theorem dX6_text_101 : decode cX6_text 101 = .ok (.iconst 3, 1) := dk_6 (dk_at dksX6_text_4 7 rfl rfl)
theorem dX6_text_102 : decode cX6_text 102 = .ok (.if_icmp .ge 10, 3) := dk_162 0 10 (dk_at dksX6_text_4 8 rfl rfl)
theorem dX6_text_105 : decode cX6_text 105 = .ok (.aload_n 0, 1) := dk_42 (dk_at dksX6_text_4 11 rfl rfl)
theorem dX6_text_106 : decode cX6_text 106 = .ok (.invokevirtual 228, 3) := dk_182 0 228 (dk_at dksX6_text_4 12 rfl rfl)
theorem dX6_text_109 : decode cX6_text 109 = .ok (.goto 7, 3) := dk_167 0 7 (dk_at dksX6_text_4 15 rfl rfl)
theorem dX6_text_112 : decode cX6_text 112 = .ok (.aload_n 0, 1) := dk_42 (dk_at dksX6_text_4 18 rfl rfl)
theorem dX6_text_113 : decode cX6_text 113 = .ok (.invokevirtual 231, 3) := dk_182 0 231 (dk_at dksX6_text_4 19 rfl rfl)
theorem dX6_text_116 : decode cX6_text 116 = .ok (.istore_n 2, 1) := dk_61 (dk_at dksX6_text_4 22 rfl rfl)
theorem dX6_text_117 : decode cX6_text 117 = .ok (.aload_n 0, 1) := dk_42 (dk_at dksX6_text_4 23 rfl rfl)
theorem dX6_text_118 : decode cX6_text 118 = .ok (.dup, 1) := dk_89 (dk_at dksX6_text_5 0 rfl rfl)
theorem dX6_text_119 : decode cX6_text 119 = .ok (.getfield 205, 3) := dk_180 0 205 (dk_at dksX6_text_5 1 rfl rfl)
theorem dX6_text_122 : decode cX6_text 122 = .ok (.iload_n 2, 1) := dk_28 (dk_at dksX6_text_5 4 rfl rfl)
theorem dX6_text_123 : decode cX6_text 123 = .ok (.ifCond .eq 7, 3) := dk_153 0 7 (dk_at dksX6_text_5 5 rfl rfl)
theorem dX6_text_126 : decode cX6_text 126 = .ok (.iconst 1, 1) := dk_4 (dk_at dksX6_text_5 8 rfl rfl)
theorem dX6_text_127 : decode cX6_text 127 = .ok (.goto 4, 3) := dk_167 0 4 (dk_at dksX6_text_5 9 rfl rfl)
theorem dX6_text_130 : decode cX6_text 130 = .ok (.iconst 0, 1) := dk_3 (dk_at dksX6_text_5 12 rfl rfl)
theorem dX6_text_131 : decode cX6_text 131 = .ok (.iadd, 1) := dk_96 (dk_at dksX6_text_5 13 rfl rfl)
theorem dX6_text_132 : decode cX6_text 132 = .ok (.putfield 205, 3) := dk_181 0 205 (dk_at dksX6_text_5 14 rfl rfl)
theorem dX6_text_135 : decode cX6_text 135 = .ok (.goto (-46), 3) := dk_167 255 210 (dk_at dksX6_text_5 17 rfl rfl)
theorem dX6_text_138 : decode cX6_text 138 = .ok (.aload_n 0, 1) := dk_42 (dk_at dksX6_text_5 20 rfl rfl)
theorem dX6_text_139 : decode cX6_text 139 = .ok (.iconst 0, 1) := dk_3 (dk_at dksX6_text_5 21 rfl rfl)
theorem dX6_text_140 : decode cX6_text 140 = .ok (.putfield 70, 3) := dk_181 0 70 (dk_at dksX6_text_6 0 rfl rfl)
theorem dX6_text_143 : decode cX6_text 143 = .ok (.aload_n 0, 1) := dk_42 (dk_at dksX6_text_6 3 rfl rfl)
theorem dX6_text_144 : decode cX6_text 144 = .ok (.aload_n 0, 1) := dk_42 (dk_at dksX6_text_6 4 rfl rfl)
theorem dX6_text_145 : decode cX6_text 145 = .ok (.getfield 158, 3) := dk_180 0 158 (dk_at dksX6_text_6 5 rfl rfl)
theorem dX6_text_148 : decode cX6_text 148 = .ok (.putfield 225, 3) := dk_181 0 225 (dk_at dksX6_text_6 8 rfl rfl)
theorem dX6_text_151 : decode cX6_text 151 = .ok (.aload_n 0, 1) := dk_42 (dk_at dksX6_text_6 11 rfl rfl)
theorem dX6_text_152 : decode cX6_text 152 = .ok (.iload_n 2, 1) := dk_28 (dk_at dksX6_text_6 12 rfl rfl)
theorem dX6_text_153 : decode cX6_text 153 = .ok (.ifCond .eq 7, 3) := dk_153 0 7 (dk_at dksX6_text_6 13 rfl rfl)
theorem dX6_text_156 : decode cX6_text 156 = .ok (.iconst (-1), 1) := dk_2 (dk_at dksX6_text_6 16 rfl rfl)
theorem dX6_text_157 : decode cX6_text 157 = .ok (.goto 7, 3) := dk_167 0 7 (dk_at dksX6_text_6 17 rfl rfl)
theorem dX6_text_160 : decode cX6_text 160 = .ok (.aload_n 0, 1) := dk_42 (dk_at dksX6_text_6 20 rfl rfl)
theorem dX6_text_161 : decode cX6_text 161 = .ok (.getfield 161, 3) := dk_180 0 161 (dk_at dksX6_text_6 21 rfl rfl)
theorem dX6_text_164 : decode cX6_text 164 = .ok (.putfield 41, 3) := dk_181 0 41 (dk_at dksX6_text_7 0 rfl rfl)
theorem dX6_text_167 : decode cX6_text 167 = .ok (.iload_n 2, 1) := dk_28 (dk_at dksX6_text_7 3 rfl rfl)
theorem dX6_text_168 : decode cX6_text 168 = .ok (.ifCond .ne 5, 3) := dk_154 0 5 (dk_at dksX6_text_7 4 rfl rfl)
theorem dX6_text_171 : decode cX6_text 171 = .ok (.iconst (-1), 1) := dk_2 (dk_at dksX6_text_7 7 rfl rfl)
theorem dX6_text_172 : decode cX6_text 172 = .ok (.ireturn, 1) := dk_172 (dk_at dksX6_text_7 8 rfl rfl)
theorem dX6_text_173 : decode cX6_text 173 = .ok (.iload_n 1, 1) := dk_27 (dk_at dksX6_text_7 9 rfl rfl)
theorem dX6_text_174 : decode cX6_text 174 = .ok (.iconst 3, 1) := dk_6 (dk_at dksX6_text_7 10 rfl rfl)
theorem dX6_text_175 : decode cX6_text 175 = .ok (.if_icmp .ge 11, 3) := dk_162 0 11 (dk_at dksX6_text_7 11 rfl rfl)
theorem dX6_text_178 : decode cX6_text 178 = .ok (.aload_n 0, 1) := dk_42 (dk_at dksX6_text_7 14 rfl rfl)
theorem dX6_text_179 : decode cX6_text 179 = .ok (.iload_n 1, 1) := dk_27 (dk_at dksX6_text_7 15 rfl rfl)
theorem dX6_text_180 : decode cX6_text 180 = .ok (.invokevirtual 234, 3) := dk_182 0 234 (dk_at dksX6_text_7 16 rfl rfl)
theorem dX6_text_183 : decode cX6_text 183 = .ok (.goto 7, 3) := dk_167 0 7 (dk_at dksX6_text_7 19 rfl rfl)
theorem dX6_text_186 : decode cX6_text 186 = .ok (.aload_n 0, 1) := dk_42 (dk_at dksX6_text_7 22 rfl rfl)
theorem dX6_text_187 : decode cX6_text 187 = .ok (.invokevirtual 238, 3) := dk_182 0 238 (dk_at dksX6_text_8 0 rfl rfl)
theorem dX6_text_190 : decode cX6_text 190 = .ok (.aload_n 0, 1) := dk_42 (dk_at dksX6_text_8 3 rfl rfl)
theorem dX6_text_191 : decode cX6_text 191 = .ok (.getfield 205, 3) := dk_180 0 205 (dk_at dksX6_text_8 4 rfl rfl)
theorem dX6_text_194 : decode cX6_text 194 = .ok (.ireturn, 1) := dk_172 (dk_at dksX6_text_8 7 rfl rfl)
abbrev cX6_next0 : ByteArray := prog_15_method_21_code
def yX6_next0 : MethodName := ⟨RX6, "next0", "()V"⟩
def dkwX6_next0_13 : List UInt8 := [181, 0, 142, 177]
abbrev dktX6_next0_13 : List UInt8 := dkwX6_next0_13 ++ []
def dkwX6_next0_12 : List UInt8 := [16, 62, 160, 0, 7, 4, 167, 0, 4, 3, 61, 42, 28, 153, 0, 10, 16, 100, 27, 96, 167, 0, 4, 4]
abbrev dktX6_next0_12 : List UInt8 := dkwX6_next0_12 ++ dktX6_next0_13
def dkwX6_next0_11 : List UInt8 := [16, 40, 159, 0, 27, 27, 16, 41, 159, 0, 21, 27, 16, 60, 159, 0, 15, 27, 16, 61, 159, 0, 9, 27]
abbrev dktX6_next0_11 : List UInt8 := dkwX6_next0_11 ++ dktX6_next0_12
def dkwX6_next0_10 : List UInt8 := [16, 43, 159, 0, 51, 27, 16, 45, 159, 0, 45, 27, 16, 42, 159, 0, 39, 27, 16, 47, 159, 0, 33, 27]
abbrev dktX6_next0_10 : List UInt8 := dkwX6_next0_10 ++ dktX6_next0_11
def dkwX6_next0_9 : List UInt8 := [4, 181, 0, 142, 167, 0, 95, 42, 89, 180, 0, 73, 4, 96, 181, 0, 73, 27, 16, 59, 159, 0, 57, 27]
abbrev dktX6_next0_9 : List UInt8 := dkwX6_next0_9 ++ dktX6_next0_10
def dkwX6_next0_8 : List UInt8 := [181, 0, 73, 167, 255, 196, 42, 42, 180, 0, 73, 42, 180, 0, 76, 100, 8, 162, 0, 7, 5, 167, 0, 4]
abbrev dktX6_next0_8 : List UInt8 := dkwX6_next0_8 ++ dktX6_next0_9
def dkwX6_next0_7 : List UInt8 := [42, 42, 180, 0, 73, 182, 0, 138, 96, 16, 48, 100, 181, 0, 155, 42, 89, 180, 0, 73, 4, 96]
abbrev dktX6_next0_7 : List UInt8 := dkwX6_next0_7 ++ dktX6_next0_8
def dkwX6_next0_6 : List UInt8 := [153, 0, 52, 42, 180, 0, 73, 42, 180, 0, 76, 7, 96, 162, 0, 26, 42, 16, 10, 42, 180, 0, 155, 104]
abbrev dktX6_next0_6 : List UInt8 := dkwX6_next0_6 ++ dktX6_next0_7
def dkwX6_next0_5 : List UInt8 := [184, 0, 152, 153, 0, 96, 42, 3, 181, 0, 155, 42, 42, 180, 0, 73, 182, 0, 138, 184, 0, 152]
abbrev dktX6_next0_5 : List UInt8 := dkwX6_next0_5 ++ dktX6_next0_6
def dkwX6_next0_4 : List UInt8 := [180, 0, 73, 4, 96, 181, 0, 73, 167, 255, 232, 42, 42, 182, 0, 149, 181, 0, 142, 167, 0, 195, 27]
abbrev dktX6_next0_4 : List UInt8 := dkwX6_next0_4 ++ dktX6_next0_5
def dkwX6_next0_3 : List UInt8 := [184, 0, 145, 153, 0, 41, 42, 42, 180, 0, 73, 182, 0, 138, 184, 0, 145, 153, 0, 16, 42, 89]
abbrev dktX6_next0_3 : List UInt8 := dkwX6_next0_3 ++ dktX6_next0_4
def dkwX6_next0_2 : List UInt8 := [42, 42, 180, 0, 73, 182, 0, 138, 60, 27, 2, 160, 0, 11, 42, 3, 181, 0, 142, 167, 0, 240, 27]
abbrev dktX6_next0_2 : List UInt8 := dkwX6_next0_2 ++ dktX6_next0_3
def dkwX6_next0_1 : List UInt8 := [160, 0, 16, 42, 89, 180, 0, 73, 4, 96, 181, 0, 73, 167, 255, 220, 42, 42, 180, 0, 73, 181, 0, 76]
abbrev dktX6_next0_1 : List UInt8 := dkwX6_next0_1 ++ dktX6_next0_2
def dkwX6_next0_0 : List UInt8 := [42, 42, 180, 0, 73, 182, 0, 138, 16, 32, 159, 0, 16, 42, 42, 180, 0, 73, 182, 0, 138, 16, 10]
abbrev dktX6_next0_0 : List UInt8 := dkwX6_next0_0 ++ dktX6_next0_1
theorem dksX6_next0_0 : cX6_next0.data.toList.drop 0 = dktX6_next0_0 := by decide +kernel
theorem dksX6_next0_1 : cX6_next0.data.toList.drop 23 = dktX6_next0_1 := dk_seg dksX6_next0_0 23 rfl rfl
theorem dksX6_next0_2 : cX6_next0.data.toList.drop 47 = dktX6_next0_2 := dk_seg dksX6_next0_1 24 rfl rfl
theorem dksX6_next0_3 : cX6_next0.data.toList.drop 70 = dktX6_next0_3 := dk_seg dksX6_next0_2 23 rfl rfl
theorem dksX6_next0_4 : cX6_next0.data.toList.drop 92 = dktX6_next0_4 := dk_seg dksX6_next0_3 22 rfl rfl
theorem dksX6_next0_5 : cX6_next0.data.toList.drop 115 = dktX6_next0_5 := dk_seg dksX6_next0_4 23 rfl rfl
theorem dksX6_next0_6 : cX6_next0.data.toList.drop 137 = dktX6_next0_6 := dk_seg dksX6_next0_5 22 rfl rfl
theorem dksX6_next0_7 : cX6_next0.data.toList.drop 161 = dktX6_next0_7 := dk_seg dksX6_next0_6 24 rfl rfl
theorem dksX6_next0_8 : cX6_next0.data.toList.drop 183 = dktX6_next0_8 := dk_seg dksX6_next0_7 22 rfl rfl
theorem dksX6_next0_9 : cX6_next0.data.toList.drop 207 = dktX6_next0_9 := dk_seg dksX6_next0_8 24 rfl rfl
theorem dksX6_next0_10 : cX6_next0.data.toList.drop 231 = dktX6_next0_10 := dk_seg dksX6_next0_9 24 rfl rfl
theorem dksX6_next0_11 : cX6_next0.data.toList.drop 255 = dktX6_next0_11 := dk_seg dksX6_next0_10 24 rfl rfl
theorem dksX6_next0_12 : cX6_next0.data.toList.drop 279 = dktX6_next0_12 := dk_seg dksX6_next0_11 24 rfl rfl
theorem dksX6_next0_13 : cX6_next0.data.toList.drop 303 = dktX6_next0_13 := dk_seg dksX6_next0_12 24 rfl rfl
theorem dX6_next0_0 : decode cX6_next0 0 = .ok (.aload_n 0, 1) := dk_42 (dk_at dksX6_next0_0 0 rfl rfl)
theorem dX6_next0_1 : decode cX6_next0 1 = .ok (.aload_n 0, 1) := dk_42 (dk_at dksX6_next0_0 1 rfl rfl)
theorem dX6_next0_2 : decode cX6_next0 2 = .ok (.getfield 73, 3) := dk_180 0 73 (dk_at dksX6_next0_0 2 rfl rfl)
theorem dX6_next0_5 : decode cX6_next0 5 = .ok (.invokevirtual 138, 3) := dk_182 0 138 (dk_at dksX6_next0_0 5 rfl rfl)
theorem dX6_next0_8 : decode cX6_next0 8 = .ok (.bipush 32, 2) := dk_16 32 (dk_at dksX6_next0_0 8 rfl rfl)
theorem dX6_next0_10 : decode cX6_next0 10 = .ok (.if_icmp .eq 16, 3) := dk_159 0 16 (dk_at dksX6_next0_0 10 rfl rfl)
theorem dX6_next0_13 : decode cX6_next0 13 = .ok (.aload_n 0, 1) := dk_42 (dk_at dksX6_next0_0 13 rfl rfl)
theorem dX6_next0_14 : decode cX6_next0 14 = .ok (.aload_n 0, 1) := dk_42 (dk_at dksX6_next0_0 14 rfl rfl)
theorem dX6_next0_15 : decode cX6_next0 15 = .ok (.getfield 73, 3) := dk_180 0 73 (dk_at dksX6_next0_0 15 rfl rfl)
theorem dX6_next0_18 : decode cX6_next0 18 = .ok (.invokevirtual 138, 3) := dk_182 0 138 (dk_at dksX6_next0_0 18 rfl rfl)
theorem dX6_next0_21 : decode cX6_next0 21 = .ok (.bipush 10, 2) := dk_16 10 (dk_at dksX6_next0_0 21 rfl rfl)
theorem dX6_next0_23 : decode cX6_next0 23 = .ok (.if_icmp .ne 16, 3) := dk_160 0 16 (dk_at dksX6_next0_1 0 rfl rfl)
theorem dX6_next0_26 : decode cX6_next0 26 = .ok (.aload_n 0, 1) := dk_42 (dk_at dksX6_next0_1 3 rfl rfl)
theorem dX6_next0_27 : decode cX6_next0 27 = .ok (.dup, 1) := dk_89 (dk_at dksX6_next0_1 4 rfl rfl)
theorem dX6_next0_28 : decode cX6_next0 28 = .ok (.getfield 73, 3) := dk_180 0 73 (dk_at dksX6_next0_1 5 rfl rfl)
theorem dX6_next0_31 : decode cX6_next0 31 = .ok (.iconst 1, 1) := dk_4 (dk_at dksX6_next0_1 8 rfl rfl)
theorem dX6_next0_32 : decode cX6_next0 32 = .ok (.iadd, 1) := dk_96 (dk_at dksX6_next0_1 9 rfl rfl)
theorem dX6_next0_33 : decode cX6_next0 33 = .ok (.putfield 73, 3) := dk_181 0 73 (dk_at dksX6_next0_1 10 rfl rfl)
theorem dX6_next0_36 : decode cX6_next0 36 = .ok (.goto (-36), 3) := dk_167 255 220 (dk_at dksX6_next0_1 13 rfl rfl)
theorem dX6_next0_39 : decode cX6_next0 39 = .ok (.aload_n 0, 1) := dk_42 (dk_at dksX6_next0_1 16 rfl rfl)
theorem dX6_next0_40 : decode cX6_next0 40 = .ok (.aload_n 0, 1) := dk_42 (dk_at dksX6_next0_1 17 rfl rfl)
theorem dX6_next0_41 : decode cX6_next0 41 = .ok (.getfield 73, 3) := dk_180 0 73 (dk_at dksX6_next0_1 18 rfl rfl)
theorem dX6_next0_44 : decode cX6_next0 44 = .ok (.putfield 76, 3) := dk_181 0 76 (dk_at dksX6_next0_1 21 rfl rfl)
theorem dX6_next0_47 : decode cX6_next0 47 = .ok (.aload_n 0, 1) := dk_42 (dk_at dksX6_next0_2 0 rfl rfl)
theorem dX6_next0_48 : decode cX6_next0 48 = .ok (.aload_n 0, 1) := dk_42 (dk_at dksX6_next0_2 1 rfl rfl)
theorem dX6_next0_49 : decode cX6_next0 49 = .ok (.getfield 73, 3) := dk_180 0 73 (dk_at dksX6_next0_2 2 rfl rfl)
theorem dX6_next0_52 : decode cX6_next0 52 = .ok (.invokevirtual 138, 3) := dk_182 0 138 (dk_at dksX6_next0_2 5 rfl rfl)
theorem dX6_next0_55 : decode cX6_next0 55 = .ok (.istore_n 1, 1) := dk_60 (dk_at dksX6_next0_2 8 rfl rfl)
theorem dX6_next0_56 : decode cX6_next0 56 = .ok (.iload_n 1, 1) := dk_27 (dk_at dksX6_next0_2 9 rfl rfl)
theorem dX6_next0_57 : decode cX6_next0 57 = .ok (.iconst (-1), 1) := dk_2 (dk_at dksX6_next0_2 10 rfl rfl)
theorem dX6_next0_58 : decode cX6_next0 58 = .ok (.if_icmp .ne 11, 3) := dk_160 0 11 (dk_at dksX6_next0_2 11 rfl rfl)
theorem dX6_next0_61 : decode cX6_next0 61 = .ok (.aload_n 0, 1) := dk_42 (dk_at dksX6_next0_2 14 rfl rfl)
theorem dX6_next0_62 : decode cX6_next0 62 = .ok (.iconst 0, 1) := dk_3 (dk_at dksX6_next0_2 15 rfl rfl)
theorem dX6_next0_63 : decode cX6_next0 63 = .ok (.putfield 142, 3) := dk_181 0 142 (dk_at dksX6_next0_2 16 rfl rfl)
theorem dX6_next0_66 : decode cX6_next0 66 = .ok (.goto 240, 3) := dk_167 0 240 (dk_at dksX6_next0_2 19 rfl rfl)
theorem dX6_next0_69 : decode cX6_next0 69 = .ok (.iload_n 1, 1) := dk_27 (dk_at dksX6_next0_2 22 rfl rfl)
theorem dX6_next0_70 : decode cX6_next0 70 = .ok (.invokestatic 145, 3) := dk_184 0 145 (dk_at dksX6_next0_3 0 rfl rfl)
theorem dX6_next0_73 : decode cX6_next0 73 = .ok (.ifCond .eq 41, 3) := dk_153 0 41 (dk_at dksX6_next0_3 3 rfl rfl)
theorem dX6_next0_76 : decode cX6_next0 76 = .ok (.aload_n 0, 1) := dk_42 (dk_at dksX6_next0_3 6 rfl rfl)
theorem dX6_next0_77 : decode cX6_next0 77 = .ok (.aload_n 0, 1) := dk_42 (dk_at dksX6_next0_3 7 rfl rfl)
theorem dX6_next0_78 : decode cX6_next0 78 = .ok (.getfield 73, 3) := dk_180 0 73 (dk_at dksX6_next0_3 8 rfl rfl)
theorem dX6_next0_81 : decode cX6_next0 81 = .ok (.invokevirtual 138, 3) := dk_182 0 138 (dk_at dksX6_next0_3 11 rfl rfl)
theorem dX6_next0_84 : decode cX6_next0 84 = .ok (.invokestatic 145, 3) := dk_184 0 145 (dk_at dksX6_next0_3 14 rfl rfl)
theorem dX6_next0_87 : decode cX6_next0 87 = .ok (.ifCond .eq 16, 3) := dk_153 0 16 (dk_at dksX6_next0_3 17 rfl rfl)
theorem dX6_next0_90 : decode cX6_next0 90 = .ok (.aload_n 0, 1) := dk_42 (dk_at dksX6_next0_3 20 rfl rfl)
theorem dX6_next0_91 : decode cX6_next0 91 = .ok (.dup, 1) := dk_89 (dk_at dksX6_next0_3 21 rfl rfl)
theorem dX6_next0_92 : decode cX6_next0 92 = .ok (.getfield 73, 3) := dk_180 0 73 (dk_at dksX6_next0_4 0 rfl rfl)
theorem dX6_next0_95 : decode cX6_next0 95 = .ok (.iconst 1, 1) := dk_4 (dk_at dksX6_next0_4 3 rfl rfl)
theorem dX6_next0_96 : decode cX6_next0 96 = .ok (.iadd, 1) := dk_96 (dk_at dksX6_next0_4 4 rfl rfl)
theorem dX6_next0_97 : decode cX6_next0 97 = .ok (.putfield 73, 3) := dk_181 0 73 (dk_at dksX6_next0_4 5 rfl rfl)
theorem dX6_next0_100 : decode cX6_next0 100 = .ok (.goto (-24), 3) := dk_167 255 232 (dk_at dksX6_next0_4 8 rfl rfl)
theorem dX6_next0_103 : decode cX6_next0 103 = .ok (.aload_n 0, 1) := dk_42 (dk_at dksX6_next0_4 11 rfl rfl)
theorem dX6_next0_104 : decode cX6_next0 104 = .ok (.aload_n 0, 1) := dk_42 (dk_at dksX6_next0_4 12 rfl rfl)
theorem dX6_next0_105 : decode cX6_next0 105 = .ok (.invokevirtual 149, 3) := dk_182 0 149 (dk_at dksX6_next0_4 13 rfl rfl)
theorem dX6_next0_108 : decode cX6_next0 108 = .ok (.putfield 142, 3) := dk_181 0 142 (dk_at dksX6_next0_4 16 rfl rfl)
theorem dX6_next0_111 : decode cX6_next0 111 = .ok (.goto 195, 3) := dk_167 0 195 (dk_at dksX6_next0_4 19 rfl rfl)
theorem dX6_next0_114 : decode cX6_next0 114 = .ok (.iload_n 1, 1) := dk_27 (dk_at dksX6_next0_4 22 rfl rfl)
theorem dX6_next0_115 : decode cX6_next0 115 = .ok (.invokestatic 152, 3) := dk_184 0 152 (dk_at dksX6_next0_5 0 rfl rfl)
theorem dX6_next0_118 : decode cX6_next0 118 = .ok (.ifCond .eq 96, 3) := dk_153 0 96 (dk_at dksX6_next0_5 3 rfl rfl)
theorem dX6_next0_121 : decode cX6_next0 121 = .ok (.aload_n 0, 1) := dk_42 (dk_at dksX6_next0_5 6 rfl rfl)
theorem dX6_next0_122 : decode cX6_next0 122 = .ok (.iconst 0, 1) := dk_3 (dk_at dksX6_next0_5 7 rfl rfl)
theorem dX6_next0_123 : decode cX6_next0 123 = .ok (.putfield 155, 3) := dk_181 0 155 (dk_at dksX6_next0_5 8 rfl rfl)
theorem dX6_next0_126 : decode cX6_next0 126 = .ok (.aload_n 0, 1) := dk_42 (dk_at dksX6_next0_5 11 rfl rfl)
theorem dX6_next0_127 : decode cX6_next0 127 = .ok (.aload_n 0, 1) := dk_42 (dk_at dksX6_next0_5 12 rfl rfl)
theorem dX6_next0_128 : decode cX6_next0 128 = .ok (.getfield 73, 3) := dk_180 0 73 (dk_at dksX6_next0_5 13 rfl rfl)
theorem dX6_next0_131 : decode cX6_next0 131 = .ok (.invokevirtual 138, 3) := dk_182 0 138 (dk_at dksX6_next0_5 16 rfl rfl)
theorem dX6_next0_134 : decode cX6_next0 134 = .ok (.invokestatic 152, 3) := dk_184 0 152 (dk_at dksX6_next0_5 19 rfl rfl)
theorem dX6_next0_137 : decode cX6_next0 137 = .ok (.ifCond .eq 52, 3) := dk_153 0 52 (dk_at dksX6_next0_6 0 rfl rfl)
theorem dX6_next0_140 : decode cX6_next0 140 = .ok (.aload_n 0, 1) := dk_42 (dk_at dksX6_next0_6 3 rfl rfl)
theorem dX6_next0_141 : decode cX6_next0 141 = .ok (.getfield 73, 3) := dk_180 0 73 (dk_at dksX6_next0_6 4 rfl rfl)
theorem dX6_next0_144 : decode cX6_next0 144 = .ok (.aload_n 0, 1) := dk_42 (dk_at dksX6_next0_6 7 rfl rfl)
theorem dX6_next0_145 : decode cX6_next0 145 = .ok (.getfield 76, 3) := dk_180 0 76 (dk_at dksX6_next0_6 8 rfl rfl)
theorem dX6_next0_148 : decode cX6_next0 148 = .ok (.iconst 4, 1) := dk_7 (dk_at dksX6_next0_6 11 rfl rfl)
theorem dX6_next0_149 : decode cX6_next0 149 = .ok (.iadd, 1) := dk_96 (dk_at dksX6_next0_6 12 rfl rfl)
theorem dX6_next0_150 : decode cX6_next0 150 = .ok (.if_icmp .ge 26, 3) := dk_162 0 26 (dk_at dksX6_next0_6 13 rfl rfl)
theorem dX6_next0_153 : decode cX6_next0 153 = .ok (.aload_n 0, 1) := dk_42 (dk_at dksX6_next0_6 16 rfl rfl)
theorem dX6_next0_154 : decode cX6_next0 154 = .ok (.bipush 10, 2) := dk_16 10 (dk_at dksX6_next0_6 17 rfl rfl)
theorem dX6_next0_156 : decode cX6_next0 156 = .ok (.aload_n 0, 1) := dk_42 (dk_at dksX6_next0_6 19 rfl rfl)
theorem dX6_next0_157 : decode cX6_next0 157 = .ok (.getfield 155, 3) := dk_180 0 155 (dk_at dksX6_next0_6 20 rfl rfl)
theorem dX6_next0_160 : decode cX6_next0 160 = .ok (.imul, 1) := dk_104 (dk_at dksX6_next0_6 23 rfl rfl)
theorem dX6_next0_161 : decode cX6_next0 161 = .ok (.aload_n 0, 1) := dk_42 (dk_at dksX6_next0_7 0 rfl rfl)
theorem dX6_next0_162 : decode cX6_next0 162 = .ok (.aload_n 0, 1) := dk_42 (dk_at dksX6_next0_7 1 rfl rfl)
theorem dX6_next0_163 : decode cX6_next0 163 = .ok (.getfield 73, 3) := dk_180 0 73 (dk_at dksX6_next0_7 2 rfl rfl)
theorem dX6_next0_166 : decode cX6_next0 166 = .ok (.invokevirtual 138, 3) := dk_182 0 138 (dk_at dksX6_next0_7 5 rfl rfl)
theorem dX6_next0_169 : decode cX6_next0 169 = .ok (.iadd, 1) := dk_96 (dk_at dksX6_next0_7 8 rfl rfl)
theorem dX6_next0_170 : decode cX6_next0 170 = .ok (.bipush 48, 2) := dk_16 48 (dk_at dksX6_next0_7 9 rfl rfl)
theorem dX6_next0_172 : decode cX6_next0 172 = .ok (.isub, 1) := dk_100 (dk_at dksX6_next0_7 11 rfl rfl)
theorem dX6_next0_173 : decode cX6_next0 173 = .ok (.putfield 155, 3) := dk_181 0 155 (dk_at dksX6_next0_7 12 rfl rfl)
theorem dX6_next0_176 : decode cX6_next0 176 = .ok (.aload_n 0, 1) := dk_42 (dk_at dksX6_next0_7 15 rfl rfl)
theorem dX6_next0_177 : decode cX6_next0 177 = .ok (.dup, 1) := dk_89 (dk_at dksX6_next0_7 16 rfl rfl)
theorem dX6_next0_178 : decode cX6_next0 178 = .ok (.getfield 73, 3) := dk_180 0 73 (dk_at dksX6_next0_7 17 rfl rfl)
theorem dX6_next0_181 : decode cX6_next0 181 = .ok (.iconst 1, 1) := dk_4 (dk_at dksX6_next0_7 20 rfl rfl)
theorem dX6_next0_182 : decode cX6_next0 182 = .ok (.iadd, 1) := dk_96 (dk_at dksX6_next0_7 21 rfl rfl)
theorem dX6_next0_183 : decode cX6_next0 183 = .ok (.putfield 73, 3) := dk_181 0 73 (dk_at dksX6_next0_8 0 rfl rfl)
theorem dX6_next0_186 : decode cX6_next0 186 = .ok (.goto (-60), 3) := dk_167 255 196 (dk_at dksX6_next0_8 3 rfl rfl)
theorem dX6_next0_189 : decode cX6_next0 189 = .ok (.aload_n 0, 1) := dk_42 (dk_at dksX6_next0_8 6 rfl rfl)
theorem dX6_next0_190 : decode cX6_next0 190 = .ok (.aload_n 0, 1) := dk_42 (dk_at dksX6_next0_8 7 rfl rfl)
theorem dX6_next0_191 : decode cX6_next0 191 = .ok (.getfield 73, 3) := dk_180 0 73 (dk_at dksX6_next0_8 8 rfl rfl)
theorem dX6_next0_194 : decode cX6_next0 194 = .ok (.aload_n 0, 1) := dk_42 (dk_at dksX6_next0_8 11 rfl rfl)
theorem dX6_next0_195 : decode cX6_next0 195 = .ok (.getfield 76, 3) := dk_180 0 76 (dk_at dksX6_next0_8 12 rfl rfl)
theorem dX6_next0_198 : decode cX6_next0 198 = .ok (.isub, 1) := dk_100 (dk_at dksX6_next0_8 15 rfl rfl)
theorem dX6_next0_199 : decode cX6_next0 199 = .ok (.iconst 5, 1) := dk_8 (dk_at dksX6_next0_8 16 rfl rfl)
theorem dX6_next0_200 : decode cX6_next0 200 = .ok (.if_icmp .ge 7, 3) := dk_162 0 7 (dk_at dksX6_next0_8 17 rfl rfl)
theorem dX6_next0_203 : decode cX6_next0 203 = .ok (.iconst 2, 1) := dk_5 (dk_at dksX6_next0_8 20 rfl rfl)
theorem dX6_next0_204 : decode cX6_next0 204 = .ok (.goto 4, 3) := dk_167 0 4 (dk_at dksX6_next0_8 21 rfl rfl)
theorem dX6_next0_207 : decode cX6_next0 207 = .ok (.iconst 1, 1) := dk_4 (dk_at dksX6_next0_9 0 rfl rfl)
theorem dX6_next0_208 : decode cX6_next0 208 = .ok (.putfield 142, 3) := dk_181 0 142 (dk_at dksX6_next0_9 1 rfl rfl)
theorem dX6_next0_211 : decode cX6_next0 211 = .ok (.goto 95, 3) := dk_167 0 95 (dk_at dksX6_next0_9 4 rfl rfl)
theorem dX6_next0_214 : decode cX6_next0 214 = .ok (.aload_n 0, 1) := dk_42 (dk_at dksX6_next0_9 7 rfl rfl)
theorem dX6_next0_215 : decode cX6_next0 215 = .ok (.dup, 1) := dk_89 (dk_at dksX6_next0_9 8 rfl rfl)
theorem dX6_next0_216 : decode cX6_next0 216 = .ok (.getfield 73, 3) := dk_180 0 73 (dk_at dksX6_next0_9 9 rfl rfl)
theorem dX6_next0_219 : decode cX6_next0 219 = .ok (.iconst 1, 1) := dk_4 (dk_at dksX6_next0_9 12 rfl rfl)
theorem dX6_next0_220 : decode cX6_next0 220 = .ok (.iadd, 1) := dk_96 (dk_at dksX6_next0_9 13 rfl rfl)
theorem dX6_next0_221 : decode cX6_next0 221 = .ok (.putfield 73, 3) := dk_181 0 73 (dk_at dksX6_next0_9 14 rfl rfl)
theorem dX6_next0_224 : decode cX6_next0 224 = .ok (.iload_n 1, 1) := dk_27 (dk_at dksX6_next0_9 17 rfl rfl)
theorem dX6_next0_225 : decode cX6_next0 225 = .ok (.bipush 59, 2) := dk_16 59 (dk_at dksX6_next0_9 18 rfl rfl)
theorem dX6_next0_227 : decode cX6_next0 227 = .ok (.if_icmp .eq 57, 3) := dk_159 0 57 (dk_at dksX6_next0_9 20 rfl rfl)
theorem dX6_next0_230 : decode cX6_next0 230 = .ok (.iload_n 1, 1) := dk_27 (dk_at dksX6_next0_9 23 rfl rfl)
theorem dX6_next0_231 : decode cX6_next0 231 = .ok (.bipush 43, 2) := dk_16 43 (dk_at dksX6_next0_10 0 rfl rfl)
theorem dX6_next0_233 : decode cX6_next0 233 = .ok (.if_icmp .eq 51, 3) := dk_159 0 51 (dk_at dksX6_next0_10 2 rfl rfl)
theorem dX6_next0_236 : decode cX6_next0 236 = .ok (.iload_n 1, 1) := dk_27 (dk_at dksX6_next0_10 5 rfl rfl)
theorem dX6_next0_237 : decode cX6_next0 237 = .ok (.bipush 45, 2) := dk_16 45 (dk_at dksX6_next0_10 6 rfl rfl)
theorem dX6_next0_239 : decode cX6_next0 239 = .ok (.if_icmp .eq 45, 3) := dk_159 0 45 (dk_at dksX6_next0_10 8 rfl rfl)
theorem dX6_next0_242 : decode cX6_next0 242 = .ok (.iload_n 1, 1) := dk_27 (dk_at dksX6_next0_10 11 rfl rfl)
theorem dX6_next0_243 : decode cX6_next0 243 = .ok (.bipush 42, 2) := dk_16 42 (dk_at dksX6_next0_10 12 rfl rfl)
theorem dX6_next0_245 : decode cX6_next0 245 = .ok (.if_icmp .eq 39, 3) := dk_159 0 39 (dk_at dksX6_next0_10 14 rfl rfl)
theorem dX6_next0_248 : decode cX6_next0 248 = .ok (.iload_n 1, 1) := dk_27 (dk_at dksX6_next0_10 17 rfl rfl)
theorem dX6_next0_249 : decode cX6_next0 249 = .ok (.bipush 47, 2) := dk_16 47 (dk_at dksX6_next0_10 18 rfl rfl)
theorem dX6_next0_251 : decode cX6_next0 251 = .ok (.if_icmp .eq 33, 3) := dk_159 0 33 (dk_at dksX6_next0_10 20 rfl rfl)
theorem dX6_next0_254 : decode cX6_next0 254 = .ok (.iload_n 1, 1) := dk_27 (dk_at dksX6_next0_10 23 rfl rfl)
theorem dX6_next0_255 : decode cX6_next0 255 = .ok (.bipush 40, 2) := dk_16 40 (dk_at dksX6_next0_11 0 rfl rfl)
theorem dX6_next0_257 : decode cX6_next0 257 = .ok (.if_icmp .eq 27, 3) := dk_159 0 27 (dk_at dksX6_next0_11 2 rfl rfl)
theorem dX6_next0_260 : decode cX6_next0 260 = .ok (.iload_n 1, 1) := dk_27 (dk_at dksX6_next0_11 5 rfl rfl)
theorem dX6_next0_261 : decode cX6_next0 261 = .ok (.bipush 41, 2) := dk_16 41 (dk_at dksX6_next0_11 6 rfl rfl)
theorem dX6_next0_263 : decode cX6_next0 263 = .ok (.if_icmp .eq 21, 3) := dk_159 0 21 (dk_at dksX6_next0_11 8 rfl rfl)
theorem dX6_next0_266 : decode cX6_next0 266 = .ok (.iload_n 1, 1) := dk_27 (dk_at dksX6_next0_11 11 rfl rfl)
theorem dX6_next0_267 : decode cX6_next0 267 = .ok (.bipush 60, 2) := dk_16 60 (dk_at dksX6_next0_11 12 rfl rfl)
theorem dX6_next0_269 : decode cX6_next0 269 = .ok (.if_icmp .eq 15, 3) := dk_159 0 15 (dk_at dksX6_next0_11 14 rfl rfl)
theorem dX6_next0_272 : decode cX6_next0 272 = .ok (.iload_n 1, 1) := dk_27 (dk_at dksX6_next0_11 17 rfl rfl)
theorem dX6_next0_273 : decode cX6_next0 273 = .ok (.bipush 61, 2) := dk_16 61 (dk_at dksX6_next0_11 18 rfl rfl)
theorem dX6_next0_275 : decode cX6_next0 275 = .ok (.if_icmp .eq 9, 3) := dk_159 0 9 (dk_at dksX6_next0_11 20 rfl rfl)
theorem dX6_next0_278 : decode cX6_next0 278 = .ok (.iload_n 1, 1) := dk_27 (dk_at dksX6_next0_11 23 rfl rfl)
theorem dX6_next0_279 : decode cX6_next0 279 = .ok (.bipush 62, 2) := dk_16 62 (dk_at dksX6_next0_12 0 rfl rfl)
theorem dX6_next0_281 : decode cX6_next0 281 = .ok (.if_icmp .ne 7, 3) := dk_160 0 7 (dk_at dksX6_next0_12 2 rfl rfl)
theorem dX6_next0_284 : decode cX6_next0 284 = .ok (.iconst 1, 1) := dk_4 (dk_at dksX6_next0_12 5 rfl rfl)
theorem dX6_next0_285 : decode cX6_next0 285 = .ok (.goto 4, 3) := dk_167 0 4 (dk_at dksX6_next0_12 6 rfl rfl)
theorem dX6_next0_288 : decode cX6_next0 288 = .ok (.iconst 0, 1) := dk_3 (dk_at dksX6_next0_12 9 rfl rfl)
theorem dX6_next0_289 : decode cX6_next0 289 = .ok (.istore_n 2, 1) := dk_61 (dk_at dksX6_next0_12 10 rfl rfl)
theorem dX6_next0_290 : decode cX6_next0 290 = .ok (.aload_n 0, 1) := dk_42 (dk_at dksX6_next0_12 11 rfl rfl)
theorem dX6_next0_291 : decode cX6_next0 291 = .ok (.iload_n 2, 1) := dk_28 (dk_at dksX6_next0_12 12 rfl rfl)
theorem dX6_next0_292 : decode cX6_next0 292 = .ok (.ifCond .eq 10, 3) := dk_153 0 10 (dk_at dksX6_next0_12 13 rfl rfl)
theorem dX6_next0_295 : decode cX6_next0 295 = .ok (.bipush 100, 2) := dk_16 100 (dk_at dksX6_next0_12 16 rfl rfl)
theorem dX6_next0_297 : decode cX6_next0 297 = .ok (.iload_n 1, 1) := dk_27 (dk_at dksX6_next0_12 18 rfl rfl)
theorem dX6_next0_298 : decode cX6_next0 298 = .ok (.iadd, 1) := dk_96 (dk_at dksX6_next0_12 19 rfl rfl)
theorem dX6_next0_299 : decode cX6_next0 299 = .ok (.goto 4, 3) := dk_167 0 4 (dk_at dksX6_next0_12 20 rfl rfl)
theorem dX6_next0_302 : decode cX6_next0 302 = .ok (.iconst 1, 1) := dk_4 (dk_at dksX6_next0_12 23 rfl rfl)
theorem dX6_next0_303 : decode cX6_next0 303 = .ok (.putfield 142, 3) := dk_181 0 142 (dk_at dksX6_next0_13 0 rfl rfl)
theorem dX6_next0_306 : decode cX6_next0 306 = .ok (.return_, 1) := dk_177 (dk_at dksX6_next0_13 3 rfl rfl)
abbrev cX6_see : ByteArray := prog_15_method_14_code
def yX6_see : MethodName := ⟨RX6, "see", "(I)I"⟩
def dkwX6_see_0 : List UInt8 := [27, 42, 180, 0, 70, 162, 0, 12, 42, 180, 0, 28, 27, 46, 167, 0, 4, 2, 172]
abbrev dktX6_see_0 : List UInt8 := dkwX6_see_0 ++ []
theorem dksX6_see_0 : cX6_see.data.toList.drop 0 = dktX6_see_0 := by decide +kernel
theorem dX6_see_0 : decode cX6_see 0 = .ok (.iload_n 1, 1) := dk_27 (dk_at dksX6_see_0 0 rfl rfl)
theorem dX6_see_1 : decode cX6_see 1 = .ok (.aload_n 0, 1) := dk_42 (dk_at dksX6_see_0 1 rfl rfl)
theorem dX6_see_2 : decode cX6_see 2 = .ok (.getfield 70, 3) := dk_180 0 70 (dk_at dksX6_see_0 2 rfl rfl)
theorem dX6_see_5 : decode cX6_see 5 = .ok (.if_icmp .ge 12, 3) := dk_162 0 12 (dk_at dksX6_see_0 5 rfl rfl)
theorem dX6_see_8 : decode cX6_see 8 = .ok (.aload_n 0, 1) := dk_42 (dk_at dksX6_see_0 8 rfl rfl)
theorem dX6_see_9 : decode cX6_see 9 = .ok (.getfield 28, 3) := dk_180 0 28 (dk_at dksX6_see_0 9 rfl rfl)
theorem dX6_see_12 : decode cX6_see 12 = .ok (.iload_n 1, 1) := dk_27 (dk_at dksX6_see_0 12 rfl rfl)
theorem dX6_see_13 : decode cX6_see 13 = .ok (.iaload, 1) := dk_46 (dk_at dksX6_see_0 13 rfl rfl)
theorem dX6_see_14 : decode cX6_see 14 = .ok (.goto 4, 3) := dk_167 0 4 (dk_at dksX6_see_0 14 rfl rfl)
theorem dX6_see_17 : decode cX6_see 17 = .ok (.iconst (-1), 1) := dk_2 (dk_at dksX6_see_0 17 rfl rfl)
theorem dX6_see_18 : decode cX6_see 18 = .ok (.ireturn, 1) := dk_172 (dk_at dksX6_see_0 18 rfl rfl)
abbrev cX6_isLetter : ByteArray := prog_15_method_15_code
def yX6_isLetter : MethodName := ⟨RX6, "isLetter", "(I)Z"⟩
def dkwX6_isLetter_1 : List UInt8 := [167, 0, 4, 3, 172]
abbrev dktX6_isLetter_1 : List UInt8 := dkwX6_isLetter_1 ++ []
def dkwX6_isLetter_0 : List UInt8 := [26, 16, 97, 16, 122, 184, 0, 66, 154, 0, 14, 26, 16, 65, 16, 90, 184, 0, 66, 153, 0, 7, 4]
abbrev dktX6_isLetter_0 : List UInt8 := dkwX6_isLetter_0 ++ dktX6_isLetter_1
theorem dksX6_isLetter_0 : cX6_isLetter.data.toList.drop 0 = dktX6_isLetter_0 := by decide +kernel
theorem dksX6_isLetter_1 : cX6_isLetter.data.toList.drop 23 = dktX6_isLetter_1 := dk_seg dksX6_isLetter_0 23 rfl rfl
theorem dX6_isLetter_0 : decode cX6_isLetter 0 = .ok (.iload_n 0, 1) := dk_26 (dk_at dksX6_isLetter_0 0 rfl rfl)
theorem dX6_isLetter_1 : decode cX6_isLetter 1 = .ok (.bipush 97, 2) := dk_16 97 (dk_at dksX6_isLetter_0 1 rfl rfl)
theorem dX6_isLetter_3 : decode cX6_isLetter 3 = .ok (.bipush 122, 2) := dk_16 122 (dk_at dksX6_isLetter_0 3 rfl rfl)
theorem dX6_isLetter_5 : decode cX6_isLetter 5 = .ok (.invokestatic 66, 3) := dk_184 0 66 (dk_at dksX6_isLetter_0 5 rfl rfl)
theorem dX6_isLetter_8 : decode cX6_isLetter 8 = .ok (.ifCond .ne 14, 3) := dk_154 0 14 (dk_at dksX6_isLetter_0 8 rfl rfl)
theorem dX6_isLetter_11 : decode cX6_isLetter 11 = .ok (.iload_n 0, 1) := dk_26 (dk_at dksX6_isLetter_0 11 rfl rfl)
theorem dX6_isLetter_12 : decode cX6_isLetter 12 = .ok (.bipush 65, 2) := dk_16 65 (dk_at dksX6_isLetter_0 12 rfl rfl)
theorem dX6_isLetter_14 : decode cX6_isLetter 14 = .ok (.bipush 90, 2) := dk_16 90 (dk_at dksX6_isLetter_0 14 rfl rfl)
theorem dX6_isLetter_16 : decode cX6_isLetter 16 = .ok (.invokestatic 66, 3) := dk_184 0 66 (dk_at dksX6_isLetter_0 16 rfl rfl)
theorem dX6_isLetter_19 : decode cX6_isLetter 19 = .ok (.ifCond .eq 7, 3) := dk_153 0 7 (dk_at dksX6_isLetter_0 19 rfl rfl)
theorem dX6_isLetter_22 : decode cX6_isLetter 22 = .ok (.iconst 1, 1) := dk_4 (dk_at dksX6_isLetter_0 22 rfl rfl)
theorem dX6_isLetter_23 : decode cX6_isLetter 23 = .ok (.goto 4, 3) := dk_167 0 4 (dk_at dksX6_isLetter_1 0 rfl rfl)
theorem dX6_isLetter_26 : decode cX6_isLetter 26 = .ok (.iconst 0, 1) := dk_3 (dk_at dksX6_isLetter_1 3 rfl rfl)
theorem dX6_isLetter_27 : decode cX6_isLetter 27 = .ok (.ireturn, 1) := dk_172 (dk_at dksX6_isLetter_1 4 rfl rfl)
abbrev cX6_word : ByteArray := prog_15_method_20_code
def yX6_word : MethodName := ⟨RX6, "word", "()I"⟩
def dkwX6_word_3 : List UInt8 := [18, 133, 182, 0, 91, 153, 0, 8, 16, 21, 167, 0, 7, 42, 182, 0, 135, 172]
abbrev dktX6_word_3 : List UInt8 := dkwX6_word_3 ++ []
def dkwX6_word_2 : List UInt8 := [18, 129, 182, 0, 91, 153, 0, 6, 16, 6, 172, 42, 18, 131, 182, 0, 91, 153, 0, 6, 16, 20, 172, 42]
abbrev dktX6_word_2 : List UInt8 := dkwX6_word_2 ++ dktX6_word_3
def dkwX6_word_1 : List UInt8 := [42, 18, 125, 182, 0, 91, 153, 0, 5, 7, 172, 42, 18, 127, 182, 0, 91, 153, 0, 5, 8, 172, 42]
abbrev dktX6_word_1 : List UInt8 := dkwX6_word_1 ++ dktX6_word_2
def dkwX6_word_0 : List UInt8 := [42, 180, 0, 117, 6, 160, 0, 8, 42, 182, 0, 120, 172, 42, 18, 123, 182, 0, 91, 153, 0, 5, 6, 172]
abbrev dktX6_word_0 : List UInt8 := dkwX6_word_0 ++ dktX6_word_1
theorem dksX6_word_0 : cX6_word.data.toList.drop 0 = dktX6_word_0 := by decide +kernel
theorem dksX6_word_1 : cX6_word.data.toList.drop 24 = dktX6_word_1 := dk_seg dksX6_word_0 24 rfl rfl
theorem dksX6_word_2 : cX6_word.data.toList.drop 47 = dktX6_word_2 := dk_seg dksX6_word_1 23 rfl rfl
theorem dksX6_word_3 : cX6_word.data.toList.drop 71 = dktX6_word_3 := dk_seg dksX6_word_2 24 rfl rfl
theorem dX6_word_0 : decode cX6_word 0 = .ok (.aload_n 0, 1) := dk_42 (dk_at dksX6_word_0 0 rfl rfl)
theorem dX6_word_1 : decode cX6_word 1 = .ok (.getfield 117, 3) := dk_180 0 117 (dk_at dksX6_word_0 1 rfl rfl)
theorem dX6_word_4 : decode cX6_word 4 = .ok (.iconst 3, 1) := dk_6 (dk_at dksX6_word_0 4 rfl rfl)
theorem dX6_word_5 : decode cX6_word 5 = .ok (.if_icmp .ne 8, 3) := dk_160 0 8 (dk_at dksX6_word_0 5 rfl rfl)
theorem dX6_word_8 : decode cX6_word 8 = .ok (.aload_n 0, 1) := dk_42 (dk_at dksX6_word_0 8 rfl rfl)
theorem dX6_word_9 : decode cX6_word 9 = .ok (.invokevirtual 120, 3) := dk_182 0 120 (dk_at dksX6_word_0 9 rfl rfl)
theorem dX6_word_12 : decode cX6_word 12 = .ok (.ireturn, 1) := dk_172 (dk_at dksX6_word_0 12 rfl rfl)
theorem dX6_word_13 : decode cX6_word 13 = .ok (.aload_n 0, 1) := dk_42 (dk_at dksX6_word_0 13 rfl rfl)
theorem dX6_word_14 : decode cX6_word 14 = .ok (.ldc 123, 2) := dk_18 123 (dk_at dksX6_word_0 14 rfl rfl)
theorem dX6_word_16 : decode cX6_word 16 = .ok (.invokevirtual 91, 3) := dk_182 0 91 (dk_at dksX6_word_0 16 rfl rfl)
theorem dX6_word_19 : decode cX6_word 19 = .ok (.ifCond .eq 5, 3) := dk_153 0 5 (dk_at dksX6_word_0 19 rfl rfl)
theorem dX6_word_22 : decode cX6_word 22 = .ok (.iconst 3, 1) := dk_6 (dk_at dksX6_word_0 22 rfl rfl)
theorem dX6_word_23 : decode cX6_word 23 = .ok (.ireturn, 1) := dk_172 (dk_at dksX6_word_0 23 rfl rfl)
theorem dX6_word_24 : decode cX6_word 24 = .ok (.aload_n 0, 1) := dk_42 (dk_at dksX6_word_1 0 rfl rfl)
theorem dX6_word_25 : decode cX6_word 25 = .ok (.ldc 125, 2) := dk_18 125 (dk_at dksX6_word_1 1 rfl rfl)
theorem dX6_word_27 : decode cX6_word 27 = .ok (.invokevirtual 91, 3) := dk_182 0 91 (dk_at dksX6_word_1 3 rfl rfl)
theorem dX6_word_30 : decode cX6_word 30 = .ok (.ifCond .eq 5, 3) := dk_153 0 5 (dk_at dksX6_word_1 6 rfl rfl)
theorem dX6_word_33 : decode cX6_word 33 = .ok (.iconst 4, 1) := dk_7 (dk_at dksX6_word_1 9 rfl rfl)
theorem dX6_word_34 : decode cX6_word 34 = .ok (.ireturn, 1) := dk_172 (dk_at dksX6_word_1 10 rfl rfl)
theorem dX6_word_35 : decode cX6_word 35 = .ok (.aload_n 0, 1) := dk_42 (dk_at dksX6_word_1 11 rfl rfl)
theorem dX6_word_36 : decode cX6_word 36 = .ok (.ldc 127, 2) := dk_18 127 (dk_at dksX6_word_1 12 rfl rfl)
theorem dX6_word_38 : decode cX6_word 38 = .ok (.invokevirtual 91, 3) := dk_182 0 91 (dk_at dksX6_word_1 14 rfl rfl)
theorem dX6_word_41 : decode cX6_word 41 = .ok (.ifCond .eq 5, 3) := dk_153 0 5 (dk_at dksX6_word_1 17 rfl rfl)
theorem dX6_word_44 : decode cX6_word 44 = .ok (.iconst 5, 1) := dk_8 (dk_at dksX6_word_1 20 rfl rfl)
theorem dX6_word_45 : decode cX6_word 45 = .ok (.ireturn, 1) := dk_172 (dk_at dksX6_word_1 21 rfl rfl)
theorem dX6_word_46 : decode cX6_word 46 = .ok (.aload_n 0, 1) := dk_42 (dk_at dksX6_word_1 22 rfl rfl)
theorem dX6_word_47 : decode cX6_word 47 = .ok (.ldc 129, 2) := dk_18 129 (dk_at dksX6_word_2 0 rfl rfl)
theorem dX6_word_49 : decode cX6_word 49 = .ok (.invokevirtual 91, 3) := dk_182 0 91 (dk_at dksX6_word_2 2 rfl rfl)
theorem dX6_word_52 : decode cX6_word 52 = .ok (.ifCond .eq 6, 3) := dk_153 0 6 (dk_at dksX6_word_2 5 rfl rfl)
theorem dX6_word_55 : decode cX6_word 55 = .ok (.bipush 6, 2) := dk_16 6 (dk_at dksX6_word_2 8 rfl rfl)
theorem dX6_word_57 : decode cX6_word 57 = .ok (.ireturn, 1) := dk_172 (dk_at dksX6_word_2 10 rfl rfl)
theorem dX6_word_58 : decode cX6_word 58 = .ok (.aload_n 0, 1) := dk_42 (dk_at dksX6_word_2 11 rfl rfl)
theorem dX6_word_59 : decode cX6_word 59 = .ok (.ldc 131, 2) := dk_18 131 (dk_at dksX6_word_2 12 rfl rfl)
theorem dX6_word_61 : decode cX6_word 61 = .ok (.invokevirtual 91, 3) := dk_182 0 91 (dk_at dksX6_word_2 14 rfl rfl)
theorem dX6_word_64 : decode cX6_word 64 = .ok (.ifCond .eq 6, 3) := dk_153 0 6 (dk_at dksX6_word_2 17 rfl rfl)
theorem dX6_word_67 : decode cX6_word 67 = .ok (.bipush 20, 2) := dk_16 20 (dk_at dksX6_word_2 20 rfl rfl)
theorem dX6_word_69 : decode cX6_word 69 = .ok (.ireturn, 1) := dk_172 (dk_at dksX6_word_2 22 rfl rfl)
theorem dX6_word_70 : decode cX6_word 70 = .ok (.aload_n 0, 1) := dk_42 (dk_at dksX6_word_2 23 rfl rfl)
theorem dX6_word_71 : decode cX6_word 71 = .ok (.ldc 133, 2) := dk_18 133 (dk_at dksX6_word_3 0 rfl rfl)
theorem dX6_word_73 : decode cX6_word 73 = .ok (.invokevirtual 91, 3) := dk_182 0 91 (dk_at dksX6_word_3 2 rfl rfl)
theorem dX6_word_76 : decode cX6_word 76 = .ok (.ifCond .eq 8, 3) := dk_153 0 8 (dk_at dksX6_word_3 5 rfl rfl)
theorem dX6_word_79 : decode cX6_word 79 = .ok (.bipush 21, 2) := dk_16 21 (dk_at dksX6_word_3 8 rfl rfl)
theorem dX6_word_81 : decode cX6_word 81 = .ok (.goto 7, 3) := dk_167 0 7 (dk_at dksX6_word_3 10 rfl rfl)
theorem dX6_word_84 : decode cX6_word 84 = .ok (.aload_n 0, 1) := dk_42 (dk_at dksX6_word_3 13 rfl rfl)
theorem dX6_word_85 : decode cX6_word 85 = .ok (.invokevirtual 135, 3) := dk_182 0 135 (dk_at dksX6_word_3 14 rfl rfl)
theorem dX6_word_88 : decode cX6_word 88 = .ok (.ireturn, 1) := dk_172 (dk_at dksX6_word_3 17 rfl rfl)
abbrev cX6_towerWord : ByteArray := prog_15_method_18_code
def yX6_towerWord : MethodName := ⟨RX6, "towerWord", "()I"⟩
def dkwX6_towerWord_1 : List UInt8 := [42, 18, 97, 182, 0, 91, 153, 0, 8, 16, 32, 167, 0, 4, 4, 172]
abbrev dktX6_towerWord_1 : List UInt8 := dkwX6_towerWord_1 ++ []
def dkwX6_towerWord_0 : List UInt8 := [42, 18, 89, 182, 0, 91, 153, 0, 6, 16, 30, 172, 42, 18, 95, 182, 0, 91, 153, 0, 6, 16, 31, 172]
abbrev dktX6_towerWord_0 : List UInt8 := dkwX6_towerWord_0 ++ dktX6_towerWord_1
theorem dksX6_towerWord_0 : cX6_towerWord.data.toList.drop 0 = dktX6_towerWord_0 := by decide +kernel
theorem dksX6_towerWord_1 : cX6_towerWord.data.toList.drop 24 = dktX6_towerWord_1 := dk_seg dksX6_towerWord_0 24 rfl rfl
theorem dX6_towerWord_0 : decode cX6_towerWord 0 = .ok (.aload_n 0, 1) := dk_42 (dk_at dksX6_towerWord_0 0 rfl rfl)
theorem dX6_towerWord_1 : decode cX6_towerWord 1 = .ok (.ldc 89, 2) := dk_18 89 (dk_at dksX6_towerWord_0 1 rfl rfl)
theorem dX6_towerWord_3 : decode cX6_towerWord 3 = .ok (.invokevirtual 91, 3) := dk_182 0 91 (dk_at dksX6_towerWord_0 3 rfl rfl)
theorem dX6_towerWord_6 : decode cX6_towerWord 6 = .ok (.ifCond .eq 6, 3) := dk_153 0 6 (dk_at dksX6_towerWord_0 6 rfl rfl)
theorem dX6_towerWord_9 : decode cX6_towerWord 9 = .ok (.bipush 30, 2) := dk_16 30 (dk_at dksX6_towerWord_0 9 rfl rfl)
theorem dX6_towerWord_11 : decode cX6_towerWord 11 = .ok (.ireturn, 1) := dk_172 (dk_at dksX6_towerWord_0 11 rfl rfl)
theorem dX6_towerWord_12 : decode cX6_towerWord 12 = .ok (.aload_n 0, 1) := dk_42 (dk_at dksX6_towerWord_0 12 rfl rfl)
theorem dX6_towerWord_13 : decode cX6_towerWord 13 = .ok (.ldc 95, 2) := dk_18 95 (dk_at dksX6_towerWord_0 13 rfl rfl)
theorem dX6_towerWord_15 : decode cX6_towerWord 15 = .ok (.invokevirtual 91, 3) := dk_182 0 91 (dk_at dksX6_towerWord_0 15 rfl rfl)
theorem dX6_towerWord_18 : decode cX6_towerWord 18 = .ok (.ifCond .eq 6, 3) := dk_153 0 6 (dk_at dksX6_towerWord_0 18 rfl rfl)
theorem dX6_towerWord_21 : decode cX6_towerWord 21 = .ok (.bipush 31, 2) := dk_16 31 (dk_at dksX6_towerWord_0 21 rfl rfl)
theorem dX6_towerWord_23 : decode cX6_towerWord 23 = .ok (.ireturn, 1) := dk_172 (dk_at dksX6_towerWord_0 23 rfl rfl)
theorem dX6_towerWord_24 : decode cX6_towerWord 24 = .ok (.aload_n 0, 1) := dk_42 (dk_at dksX6_towerWord_1 0 rfl rfl)
theorem dX6_towerWord_25 : decode cX6_towerWord 25 = .ok (.ldc 97, 2) := dk_18 97 (dk_at dksX6_towerWord_1 1 rfl rfl)
theorem dX6_towerWord_27 : decode cX6_towerWord 27 = .ok (.invokevirtual 91, 3) := dk_182 0 91 (dk_at dksX6_towerWord_1 3 rfl rfl)
theorem dX6_towerWord_30 : decode cX6_towerWord 30 = .ok (.ifCond .eq 8, 3) := dk_153 0 8 (dk_at dksX6_towerWord_1 6 rfl rfl)
theorem dX6_towerWord_33 : decode cX6_towerWord 33 = .ok (.bipush 32, 2) := dk_16 32 (dk_at dksX6_towerWord_1 9 rfl rfl)
theorem dX6_towerWord_35 : decode cX6_towerWord 35 = .ok (.goto 4, 3) := dk_167 0 4 (dk_at dksX6_towerWord_1 11 rfl rfl)
theorem dX6_towerWord_38 : decode cX6_towerWord 38 = .ok (.iconst 1, 1) := dk_4 (dk_at dksX6_towerWord_1 14 rfl rfl)
theorem dX6_towerWord_39 : decode cX6_towerWord 39 = .ok (.ireturn, 1) := dk_172 (dk_at dksX6_towerWord_1 15 rfl rfl)
abbrev cX6_is : ByteArray := prog_15_method_17_code
def yX6_is : MethodName := ⟨RX6, "is", "(Ljava/lang/String;)Z"⟩
def dkwX6_is_2 : List UInt8 := [29, 182, 0, 85, 160, 0, 7, 4, 167, 0, 4, 3, 61, 132, 3, 1, 167, 255, 216, 28, 172]
abbrev dktX6_is_2 : List UInt8 := dkwX6_is_2 ++ []
def dkwX6_is_1 : List UInt8 := [29, 43, 182, 0, 79, 162, 0, 38, 28, 153, 0, 34, 42, 180, 0, 28, 42, 180, 0, 76, 29, 96, 46, 43]
abbrev dktX6_is_1 : List UInt8 := dkwX6_is_1 ++ dktX6_is_2
def dkwX6_is_0 : List UInt8 := [42, 180, 0, 73, 42, 180, 0, 76, 100, 43, 182, 0, 79, 160, 0, 7, 4, 167, 0, 4, 3, 61, 3, 62]
abbrev dktX6_is_0 : List UInt8 := dkwX6_is_0 ++ dktX6_is_1
theorem dksX6_is_0 : cX6_is.data.toList.drop 0 = dktX6_is_0 := by decide +kernel
theorem dksX6_is_1 : cX6_is.data.toList.drop 24 = dktX6_is_1 := dk_seg dksX6_is_0 24 rfl rfl
theorem dksX6_is_2 : cX6_is.data.toList.drop 48 = dktX6_is_2 := dk_seg dksX6_is_1 24 rfl rfl
theorem dX6_is_0 : decode cX6_is 0 = .ok (.aload_n 0, 1) := dk_42 (dk_at dksX6_is_0 0 rfl rfl)
theorem dX6_is_1 : decode cX6_is 1 = .ok (.getfield 73, 3) := dk_180 0 73 (dk_at dksX6_is_0 1 rfl rfl)
theorem dX6_is_4 : decode cX6_is 4 = .ok (.aload_n 0, 1) := dk_42 (dk_at dksX6_is_0 4 rfl rfl)
theorem dX6_is_5 : decode cX6_is 5 = .ok (.getfield 76, 3) := dk_180 0 76 (dk_at dksX6_is_0 5 rfl rfl)
theorem dX6_is_8 : decode cX6_is 8 = .ok (.isub, 1) := dk_100 (dk_at dksX6_is_0 8 rfl rfl)
theorem dX6_is_9 : decode cX6_is 9 = .ok (.aload_n 1, 1) := dk_43 (dk_at dksX6_is_0 9 rfl rfl)
theorem dX6_is_10 : decode cX6_is 10 = .ok (.invokevirtual 79, 3) := dk_182 0 79 (dk_at dksX6_is_0 10 rfl rfl)
theorem dX6_is_13 : decode cX6_is 13 = .ok (.if_icmp .ne 7, 3) := dk_160 0 7 (dk_at dksX6_is_0 13 rfl rfl)
theorem dX6_is_16 : decode cX6_is 16 = .ok (.iconst 1, 1) := dk_4 (dk_at dksX6_is_0 16 rfl rfl)
theorem dX6_is_17 : decode cX6_is 17 = .ok (.goto 4, 3) := dk_167 0 4 (dk_at dksX6_is_0 17 rfl rfl)
theorem dX6_is_20 : decode cX6_is 20 = .ok (.iconst 0, 1) := dk_3 (dk_at dksX6_is_0 20 rfl rfl)
theorem dX6_is_21 : decode cX6_is 21 = .ok (.istore_n 2, 1) := dk_61 (dk_at dksX6_is_0 21 rfl rfl)
theorem dX6_is_22 : decode cX6_is 22 = .ok (.iconst 0, 1) := dk_3 (dk_at dksX6_is_0 22 rfl rfl)
theorem dX6_is_23 : decode cX6_is 23 = .ok (.istore_n 3, 1) := dk_62 (dk_at dksX6_is_0 23 rfl rfl)
theorem dX6_is_24 : decode cX6_is 24 = .ok (.iload_n 3, 1) := dk_29 (dk_at dksX6_is_1 0 rfl rfl)
theorem dX6_is_25 : decode cX6_is 25 = .ok (.aload_n 1, 1) := dk_43 (dk_at dksX6_is_1 1 rfl rfl)
theorem dX6_is_26 : decode cX6_is 26 = .ok (.invokevirtual 79, 3) := dk_182 0 79 (dk_at dksX6_is_1 2 rfl rfl)
theorem dX6_is_29 : decode cX6_is 29 = .ok (.if_icmp .ge 38, 3) := dk_162 0 38 (dk_at dksX6_is_1 5 rfl rfl)
theorem dX6_is_32 : decode cX6_is 32 = .ok (.iload_n 2, 1) := dk_28 (dk_at dksX6_is_1 8 rfl rfl)
theorem dX6_is_33 : decode cX6_is 33 = .ok (.ifCond .eq 34, 3) := dk_153 0 34 (dk_at dksX6_is_1 9 rfl rfl)
theorem dX6_is_36 : decode cX6_is 36 = .ok (.aload_n 0, 1) := dk_42 (dk_at dksX6_is_1 12 rfl rfl)
theorem dX6_is_37 : decode cX6_is 37 = .ok (.getfield 28, 3) := dk_180 0 28 (dk_at dksX6_is_1 13 rfl rfl)
theorem dX6_is_40 : decode cX6_is 40 = .ok (.aload_n 0, 1) := dk_42 (dk_at dksX6_is_1 16 rfl rfl)
theorem dX6_is_41 : decode cX6_is 41 = .ok (.getfield 76, 3) := dk_180 0 76 (dk_at dksX6_is_1 17 rfl rfl)
theorem dX6_is_44 : decode cX6_is 44 = .ok (.iload_n 3, 1) := dk_29 (dk_at dksX6_is_1 20 rfl rfl)
theorem dX6_is_45 : decode cX6_is 45 = .ok (.iadd, 1) := dk_96 (dk_at dksX6_is_1 21 rfl rfl)
theorem dX6_is_46 : decode cX6_is 46 = .ok (.iaload, 1) := dk_46 (dk_at dksX6_is_1 22 rfl rfl)
theorem dX6_is_47 : decode cX6_is 47 = .ok (.aload_n 1, 1) := dk_43 (dk_at dksX6_is_1 23 rfl rfl)
theorem dX6_is_48 : decode cX6_is 48 = .ok (.iload_n 3, 1) := dk_29 (dk_at dksX6_is_2 0 rfl rfl)
theorem dX6_is_49 : decode cX6_is 49 = .ok (.invokevirtual 85, 3) := dk_182 0 85 (dk_at dksX6_is_2 1 rfl rfl)
theorem dX6_is_52 : decode cX6_is 52 = .ok (.if_icmp .ne 7, 3) := dk_160 0 7 (dk_at dksX6_is_2 4 rfl rfl)
theorem dX6_is_55 : decode cX6_is 55 = .ok (.iconst 1, 1) := dk_4 (dk_at dksX6_is_2 7 rfl rfl)
theorem dX6_is_56 : decode cX6_is 56 = .ok (.goto 4, 3) := dk_167 0 4 (dk_at dksX6_is_2 8 rfl rfl)
theorem dX6_is_59 : decode cX6_is 59 = .ok (.iconst 0, 1) := dk_3 (dk_at dksX6_is_2 11 rfl rfl)
theorem dX6_is_60 : decode cX6_is 60 = .ok (.istore_n 2, 1) := dk_61 (dk_at dksX6_is_2 12 rfl rfl)
theorem dX6_is_61 : decode cX6_is 61 = .ok (.iinc 3 1, 3) := dk_132 3 1 (dk_at dksX6_is_2 13 rfl rfl)
theorem dX6_is_64 : decode cX6_is 64 = .ok (.goto (-40), 3) := dk_167 255 216 (dk_at dksX6_is_2 16 rfl rfl)
theorem dX6_is_67 : decode cX6_is 67 = .ok (.iload_n 2, 1) := dk_28 (dk_at dksX6_is_2 19 rfl rfl)
theorem dX6_is_68 : decode cX6_is 68 = .ok (.ireturn, 1) := dk_172 (dk_at dksX6_is_2 20 rfl rfl)
abbrev cX6_nameWord : ByteArray := prog_15_method_19_code
def yX6_nameWord : MethodName := ⟨RX6, "nameWord", "()I"⟩
def dkwX6_nameWord_5 : List UInt8 := [167, 0, 4, 4, 172]
abbrev dktX6_nameWord_5 : List UInt8 := dkwX6_nameWord_5 ++ []
def dkwX6_nameWord_4 : List UInt8 := [42, 18, 115, 182, 0, 91, 153, 0, 6, 16, 49, 172, 42, 18, 95, 182, 0, 91, 153, 0, 8, 16, 50]
abbrev dktX6_nameWord_4 : List UInt8 := dkwX6_nameWord_4 ++ dktX6_nameWord_5
def dkwX6_nameWord_3 : List UInt8 := [42, 18, 111, 182, 0, 91, 153, 0, 6, 16, 47, 172, 42, 18, 113, 182, 0, 91, 153, 0, 6, 16, 48, 172]
abbrev dktX6_nameWord_3 : List UInt8 := dkwX6_nameWord_3 ++ dktX6_nameWord_4
def dkwX6_nameWord_2 : List UInt8 := [42, 18, 107, 182, 0, 91, 153, 0, 6, 16, 45, 172, 42, 18, 109, 182, 0, 91, 153, 0, 6, 16, 46, 172]
abbrev dktX6_nameWord_2 : List UInt8 := dkwX6_nameWord_2 ++ dktX6_nameWord_3
def dkwX6_nameWord_1 : List UInt8 := [42, 18, 103, 182, 0, 91, 153, 0, 6, 16, 43, 172, 42, 18, 105, 182, 0, 91, 153, 0, 6, 16, 44, 172]
abbrev dktX6_nameWord_1 : List UInt8 := dkwX6_nameWord_1 ++ dktX6_nameWord_2
def dkwX6_nameWord_0 : List UInt8 := [42, 18, 99, 182, 0, 91, 153, 0, 6, 16, 41, 172, 42, 18, 101, 182, 0, 91, 153, 0, 6, 16, 42, 172]
abbrev dktX6_nameWord_0 : List UInt8 := dkwX6_nameWord_0 ++ dktX6_nameWord_1
theorem dksX6_nameWord_0 : cX6_nameWord.data.toList.drop 0 = dktX6_nameWord_0 := by decide +kernel
theorem dksX6_nameWord_1 : cX6_nameWord.data.toList.drop 24 = dktX6_nameWord_1 := dk_seg dksX6_nameWord_0 24 rfl rfl
theorem dksX6_nameWord_2 : cX6_nameWord.data.toList.drop 48 = dktX6_nameWord_2 := dk_seg dksX6_nameWord_1 24 rfl rfl
theorem dksX6_nameWord_3 : cX6_nameWord.data.toList.drop 72 = dktX6_nameWord_3 := dk_seg dksX6_nameWord_2 24 rfl rfl
theorem dksX6_nameWord_4 : cX6_nameWord.data.toList.drop 96 = dktX6_nameWord_4 := dk_seg dksX6_nameWord_3 24 rfl rfl
theorem dksX6_nameWord_5 : cX6_nameWord.data.toList.drop 119 = dktX6_nameWord_5 := dk_seg dksX6_nameWord_4 23 rfl rfl
theorem dX6_nameWord_0 : decode cX6_nameWord 0 = .ok (.aload_n 0, 1) := dk_42 (dk_at dksX6_nameWord_0 0 rfl rfl)
theorem dX6_nameWord_1 : decode cX6_nameWord 1 = .ok (.ldc 99, 2) := dk_18 99 (dk_at dksX6_nameWord_0 1 rfl rfl)
theorem dX6_nameWord_3 : decode cX6_nameWord 3 = .ok (.invokevirtual 91, 3) := dk_182 0 91 (dk_at dksX6_nameWord_0 3 rfl rfl)
theorem dX6_nameWord_6 : decode cX6_nameWord 6 = .ok (.ifCond .eq 6, 3) := dk_153 0 6 (dk_at dksX6_nameWord_0 6 rfl rfl)
theorem dX6_nameWord_9 : decode cX6_nameWord 9 = .ok (.bipush 41, 2) := dk_16 41 (dk_at dksX6_nameWord_0 9 rfl rfl)
theorem dX6_nameWord_11 : decode cX6_nameWord 11 = .ok (.ireturn, 1) := dk_172 (dk_at dksX6_nameWord_0 11 rfl rfl)
theorem dX6_nameWord_12 : decode cX6_nameWord 12 = .ok (.aload_n 0, 1) := dk_42 (dk_at dksX6_nameWord_0 12 rfl rfl)
theorem dX6_nameWord_13 : decode cX6_nameWord 13 = .ok (.ldc 101, 2) := dk_18 101 (dk_at dksX6_nameWord_0 13 rfl rfl)
theorem dX6_nameWord_15 : decode cX6_nameWord 15 = .ok (.invokevirtual 91, 3) := dk_182 0 91 (dk_at dksX6_nameWord_0 15 rfl rfl)
theorem dX6_nameWord_18 : decode cX6_nameWord 18 = .ok (.ifCond .eq 6, 3) := dk_153 0 6 (dk_at dksX6_nameWord_0 18 rfl rfl)
theorem dX6_nameWord_21 : decode cX6_nameWord 21 = .ok (.bipush 42, 2) := dk_16 42 (dk_at dksX6_nameWord_0 21 rfl rfl)
theorem dX6_nameWord_23 : decode cX6_nameWord 23 = .ok (.ireturn, 1) := dk_172 (dk_at dksX6_nameWord_0 23 rfl rfl)
theorem dX6_nameWord_24 : decode cX6_nameWord 24 = .ok (.aload_n 0, 1) := dk_42 (dk_at dksX6_nameWord_1 0 rfl rfl)
theorem dX6_nameWord_25 : decode cX6_nameWord 25 = .ok (.ldc 103, 2) := dk_18 103 (dk_at dksX6_nameWord_1 1 rfl rfl)
theorem dX6_nameWord_27 : decode cX6_nameWord 27 = .ok (.invokevirtual 91, 3) := dk_182 0 91 (dk_at dksX6_nameWord_1 3 rfl rfl)
theorem dX6_nameWord_30 : decode cX6_nameWord 30 = .ok (.ifCond .eq 6, 3) := dk_153 0 6 (dk_at dksX6_nameWord_1 6 rfl rfl)
theorem dX6_nameWord_33 : decode cX6_nameWord 33 = .ok (.bipush 43, 2) := dk_16 43 (dk_at dksX6_nameWord_1 9 rfl rfl)
theorem dX6_nameWord_35 : decode cX6_nameWord 35 = .ok (.ireturn, 1) := dk_172 (dk_at dksX6_nameWord_1 11 rfl rfl)
theorem dX6_nameWord_36 : decode cX6_nameWord 36 = .ok (.aload_n 0, 1) := dk_42 (dk_at dksX6_nameWord_1 12 rfl rfl)
theorem dX6_nameWord_37 : decode cX6_nameWord 37 = .ok (.ldc 105, 2) := dk_18 105 (dk_at dksX6_nameWord_1 13 rfl rfl)
theorem dX6_nameWord_39 : decode cX6_nameWord 39 = .ok (.invokevirtual 91, 3) := dk_182 0 91 (dk_at dksX6_nameWord_1 15 rfl rfl)
theorem dX6_nameWord_42 : decode cX6_nameWord 42 = .ok (.ifCond .eq 6, 3) := dk_153 0 6 (dk_at dksX6_nameWord_1 18 rfl rfl)
theorem dX6_nameWord_45 : decode cX6_nameWord 45 = .ok (.bipush 44, 2) := dk_16 44 (dk_at dksX6_nameWord_1 21 rfl rfl)
theorem dX6_nameWord_47 : decode cX6_nameWord 47 = .ok (.ireturn, 1) := dk_172 (dk_at dksX6_nameWord_1 23 rfl rfl)
theorem dX6_nameWord_48 : decode cX6_nameWord 48 = .ok (.aload_n 0, 1) := dk_42 (dk_at dksX6_nameWord_2 0 rfl rfl)
theorem dX6_nameWord_49 : decode cX6_nameWord 49 = .ok (.ldc 107, 2) := dk_18 107 (dk_at dksX6_nameWord_2 1 rfl rfl)
theorem dX6_nameWord_51 : decode cX6_nameWord 51 = .ok (.invokevirtual 91, 3) := dk_182 0 91 (dk_at dksX6_nameWord_2 3 rfl rfl)
theorem dX6_nameWord_54 : decode cX6_nameWord 54 = .ok (.ifCond .eq 6, 3) := dk_153 0 6 (dk_at dksX6_nameWord_2 6 rfl rfl)
theorem dX6_nameWord_57 : decode cX6_nameWord 57 = .ok (.bipush 45, 2) := dk_16 45 (dk_at dksX6_nameWord_2 9 rfl rfl)
theorem dX6_nameWord_59 : decode cX6_nameWord 59 = .ok (.ireturn, 1) := dk_172 (dk_at dksX6_nameWord_2 11 rfl rfl)
theorem dX6_nameWord_60 : decode cX6_nameWord 60 = .ok (.aload_n 0, 1) := dk_42 (dk_at dksX6_nameWord_2 12 rfl rfl)
theorem dX6_nameWord_61 : decode cX6_nameWord 61 = .ok (.ldc 109, 2) := dk_18 109 (dk_at dksX6_nameWord_2 13 rfl rfl)
theorem dX6_nameWord_63 : decode cX6_nameWord 63 = .ok (.invokevirtual 91, 3) := dk_182 0 91 (dk_at dksX6_nameWord_2 15 rfl rfl)
theorem dX6_nameWord_66 : decode cX6_nameWord 66 = .ok (.ifCond .eq 6, 3) := dk_153 0 6 (dk_at dksX6_nameWord_2 18 rfl rfl)
theorem dX6_nameWord_69 : decode cX6_nameWord 69 = .ok (.bipush 46, 2) := dk_16 46 (dk_at dksX6_nameWord_2 21 rfl rfl)
theorem dX6_nameWord_71 : decode cX6_nameWord 71 = .ok (.ireturn, 1) := dk_172 (dk_at dksX6_nameWord_2 23 rfl rfl)
theorem dX6_nameWord_72 : decode cX6_nameWord 72 = .ok (.aload_n 0, 1) := dk_42 (dk_at dksX6_nameWord_3 0 rfl rfl)
theorem dX6_nameWord_73 : decode cX6_nameWord 73 = .ok (.ldc 111, 2) := dk_18 111 (dk_at dksX6_nameWord_3 1 rfl rfl)
theorem dX6_nameWord_75 : decode cX6_nameWord 75 = .ok (.invokevirtual 91, 3) := dk_182 0 91 (dk_at dksX6_nameWord_3 3 rfl rfl)
theorem dX6_nameWord_78 : decode cX6_nameWord 78 = .ok (.ifCond .eq 6, 3) := dk_153 0 6 (dk_at dksX6_nameWord_3 6 rfl rfl)
theorem dX6_nameWord_81 : decode cX6_nameWord 81 = .ok (.bipush 47, 2) := dk_16 47 (dk_at dksX6_nameWord_3 9 rfl rfl)
theorem dX6_nameWord_83 : decode cX6_nameWord 83 = .ok (.ireturn, 1) := dk_172 (dk_at dksX6_nameWord_3 11 rfl rfl)
theorem dX6_nameWord_84 : decode cX6_nameWord 84 = .ok (.aload_n 0, 1) := dk_42 (dk_at dksX6_nameWord_3 12 rfl rfl)
theorem dX6_nameWord_85 : decode cX6_nameWord 85 = .ok (.ldc 113, 2) := dk_18 113 (dk_at dksX6_nameWord_3 13 rfl rfl)
theorem dX6_nameWord_87 : decode cX6_nameWord 87 = .ok (.invokevirtual 91, 3) := dk_182 0 91 (dk_at dksX6_nameWord_3 15 rfl rfl)
theorem dX6_nameWord_90 : decode cX6_nameWord 90 = .ok (.ifCond .eq 6, 3) := dk_153 0 6 (dk_at dksX6_nameWord_3 18 rfl rfl)
theorem dX6_nameWord_93 : decode cX6_nameWord 93 = .ok (.bipush 48, 2) := dk_16 48 (dk_at dksX6_nameWord_3 21 rfl rfl)
theorem dX6_nameWord_95 : decode cX6_nameWord 95 = .ok (.ireturn, 1) := dk_172 (dk_at dksX6_nameWord_3 23 rfl rfl)
theorem dX6_nameWord_96 : decode cX6_nameWord 96 = .ok (.aload_n 0, 1) := dk_42 (dk_at dksX6_nameWord_4 0 rfl rfl)
theorem dX6_nameWord_97 : decode cX6_nameWord 97 = .ok (.ldc 115, 2) := dk_18 115 (dk_at dksX6_nameWord_4 1 rfl rfl)
theorem dX6_nameWord_99 : decode cX6_nameWord 99 = .ok (.invokevirtual 91, 3) := dk_182 0 91 (dk_at dksX6_nameWord_4 3 rfl rfl)
theorem dX6_nameWord_102 : decode cX6_nameWord 102 = .ok (.ifCond .eq 6, 3) := dk_153 0 6 (dk_at dksX6_nameWord_4 6 rfl rfl)
theorem dX6_nameWord_105 : decode cX6_nameWord 105 = .ok (.bipush 49, 2) := dk_16 49 (dk_at dksX6_nameWord_4 9 rfl rfl)
theorem dX6_nameWord_107 : decode cX6_nameWord 107 = .ok (.ireturn, 1) := dk_172 (dk_at dksX6_nameWord_4 11 rfl rfl)
theorem dX6_nameWord_108 : decode cX6_nameWord 108 = .ok (.aload_n 0, 1) := dk_42 (dk_at dksX6_nameWord_4 12 rfl rfl)
theorem dX6_nameWord_109 : decode cX6_nameWord 109 = .ok (.ldc 95, 2) := dk_18 95 (dk_at dksX6_nameWord_4 13 rfl rfl)
theorem dX6_nameWord_111 : decode cX6_nameWord 111 = .ok (.invokevirtual 91, 3) := dk_182 0 91 (dk_at dksX6_nameWord_4 15 rfl rfl)
theorem dX6_nameWord_114 : decode cX6_nameWord 114 = .ok (.ifCond .eq 8, 3) := dk_153 0 8 (dk_at dksX6_nameWord_4 18 rfl rfl)
theorem dX6_nameWord_117 : decode cX6_nameWord 117 = .ok (.bipush 50, 2) := dk_16 50 (dk_at dksX6_nameWord_4 21 rfl rfl)
theorem dX6_nameWord_119 : decode cX6_nameWord 119 = .ok (.goto 4, 3) := dk_167 0 4 (dk_at dksX6_nameWord_5 0 rfl rfl)
theorem dX6_nameWord_122 : decode cX6_nameWord 122 = .ok (.iconst 1, 1) := dk_4 (dk_at dksX6_nameWord_5 3 rfl rfl)
theorem dX6_nameWord_123 : decode cX6_nameWord 123 = .ok (.ireturn, 1) := dk_172 (dk_at dksX6_nameWord_5 4 rfl rfl)
abbrev cX6_isDigit : ByteArray := prog_15_method_16_code
def yX6_isDigit : MethodName := ⟨RX6, "isDigit", "(I)Z"⟩
def dkwX6_isDigit_0 : List UInt8 := [26, 16, 48, 16, 57, 184, 0, 66, 172]
abbrev dktX6_isDigit_0 : List UInt8 := dkwX6_isDigit_0 ++ []
theorem dksX6_isDigit_0 : cX6_isDigit.data.toList.drop 0 = dktX6_isDigit_0 := by decide +kernel
theorem dX6_isDigit_0 : decode cX6_isDigit 0 = .ok (.iload_n 0, 1) := dk_26 (dk_at dksX6_isDigit_0 0 rfl rfl)
theorem dX6_isDigit_1 : decode cX6_isDigit 1 = .ok (.bipush 48, 2) := dk_16 48 (dk_at dksX6_isDigit_0 1 rfl rfl)
theorem dX6_isDigit_3 : decode cX6_isDigit 3 = .ok (.bipush 57, 2) := dk_16 57 (dk_at dksX6_isDigit_0 3 rfl rfl)
theorem dX6_isDigit_5 : decode cX6_isDigit 5 = .ok (.invokestatic 66, 3) := dk_184 0 66 (dk_at dksX6_isDigit_0 5 rfl rfl)
theorem dX6_isDigit_8 : decode cX6_isDigit 8 = .ok (.ireturn, 1) := dk_172 (dk_at dksX6_isDigit_0 8 rfl rfl)
abbrev cX6_aLine : ByteArray := prog_15_method_33_code
def yX6_aLine : MethodName := ⟨RX6, "aLine", "()Z"⟩
def dkwX6_aLine_7 : List UInt8 := [17, 0, 159, 182, 0, 199, 172]
abbrev dktX6_aLine_7 : List UInt8 := dkwX6_aLine_7 ++ []
def dkwX6_aLine_6 : List UInt8 := [154, 0, 5, 3, 172, 42, 180, 0, 19, 7, 42, 180, 0, 205, 104, 6, 96, 42, 180, 0, 170, 79, 42]
abbrev dktX6_aLine_6 : List UInt8 := dkwX6_aLine_6 ++ dktX6_aLine_7
def dkwX6_aLine_5 : List UInt8 := [96, 42, 180, 0, 170, 79, 42, 180, 0, 142, 6, 160, 0, 16, 42, 182, 0, 167, 42, 182, 0, 196]
abbrev dktX6_aLine_5 : List UInt8 := dkwX6_aLine_5 ++ dktX6_aLine_6
def dkwX6_aLine_4 : List UInt8 := [27, 153, 0, 12, 42, 182, 0, 202, 154, 0, 5, 3, 172, 42, 180, 0, 19, 7, 42, 180, 0, 205, 104, 5]
abbrev dktX6_aLine_4 : List UInt8 := dkwX6_aLine_4 ++ dktX6_aLine_5
def dkwX6_aLine_3 : List UInt8 := [181, 0, 173, 42, 182, 0, 167, 42, 180, 0, 19, 7, 42, 180, 0, 205, 104, 4, 96, 42, 180, 0, 170, 79]
abbrev dktX6_aLine_3 : List UInt8 := dkwX6_aLine_3 ++ dktX6_aLine_4
def dkwX6_aLine_2 : List UInt8 := [3, 60, 42, 180, 0, 19, 7, 42, 180, 0, 205, 104, 42, 180, 0, 142, 16, 20, 100, 79, 42, 3]
abbrev dktX6_aLine_2 : List UInt8 := dkwX6_aLine_2 ++ dktX6_aLine_3
def dkwX6_aLine_1 : List UInt8 := [16, 16, 160, 0, 9, 42, 6, 182, 0, 164, 172, 42, 180, 0, 142, 16, 20, 160, 0, 7, 4, 167, 0, 4]
abbrev dktX6_aLine_1 : List UInt8 := dkwX6_aLine_1 ++ dktX6_aLine_2
def dkwX6_aLine_0 : List UInt8 := [42, 180, 0, 142, 16, 20, 16, 21, 184, 0, 66, 154, 0, 9, 42, 4, 182, 0, 164, 172, 42, 180, 0, 205]
abbrev dktX6_aLine_0 : List UInt8 := dkwX6_aLine_0 ++ dktX6_aLine_1
theorem dksX6_aLine_0 : cX6_aLine.data.toList.drop 0 = dktX6_aLine_0 := by decide +kernel
theorem dksX6_aLine_1 : cX6_aLine.data.toList.drop 24 = dktX6_aLine_1 := dk_seg dksX6_aLine_0 24 rfl rfl
theorem dksX6_aLine_2 : cX6_aLine.data.toList.drop 48 = dktX6_aLine_2 := dk_seg dksX6_aLine_1 24 rfl rfl
theorem dksX6_aLine_3 : cX6_aLine.data.toList.drop 70 = dktX6_aLine_3 := dk_seg dksX6_aLine_2 22 rfl rfl
theorem dksX6_aLine_4 : cX6_aLine.data.toList.drop 94 = dktX6_aLine_4 := dk_seg dksX6_aLine_3 24 rfl rfl
theorem dksX6_aLine_5 : cX6_aLine.data.toList.drop 118 = dktX6_aLine_5 := dk_seg dksX6_aLine_4 24 rfl rfl
theorem dksX6_aLine_6 : cX6_aLine.data.toList.drop 140 = dktX6_aLine_6 := dk_seg dksX6_aLine_5 22 rfl rfl
theorem dksX6_aLine_7 : cX6_aLine.data.toList.drop 163 = dktX6_aLine_7 := dk_seg dksX6_aLine_6 23 rfl rfl
theorem dX6_aLine_0 : decode cX6_aLine 0 = .ok (.aload_n 0, 1) := dk_42 (dk_at dksX6_aLine_0 0 rfl rfl)
theorem dX6_aLine_1 : decode cX6_aLine 1 = .ok (.getfield 142, 3) := dk_180 0 142 (dk_at dksX6_aLine_0 1 rfl rfl)
theorem dX6_aLine_4 : decode cX6_aLine 4 = .ok (.bipush 20, 2) := dk_16 20 (dk_at dksX6_aLine_0 4 rfl rfl)
theorem dX6_aLine_6 : decode cX6_aLine 6 = .ok (.bipush 21, 2) := dk_16 21 (dk_at dksX6_aLine_0 6 rfl rfl)
theorem dX6_aLine_8 : decode cX6_aLine 8 = .ok (.invokestatic 66, 3) := dk_184 0 66 (dk_at dksX6_aLine_0 8 rfl rfl)
theorem dX6_aLine_11 : decode cX6_aLine 11 = .ok (.ifCond .ne 9, 3) := dk_154 0 9 (dk_at dksX6_aLine_0 11 rfl rfl)
theorem dX6_aLine_14 : decode cX6_aLine 14 = .ok (.aload_n 0, 1) := dk_42 (dk_at dksX6_aLine_0 14 rfl rfl)
theorem dX6_aLine_15 : decode cX6_aLine 15 = .ok (.iconst 1, 1) := dk_4 (dk_at dksX6_aLine_0 15 rfl rfl)
theorem dX6_aLine_16 : decode cX6_aLine 16 = .ok (.invokevirtual 164, 3) := dk_182 0 164 (dk_at dksX6_aLine_0 16 rfl rfl)
theorem dX6_aLine_19 : decode cX6_aLine 19 = .ok (.ireturn, 1) := dk_172 (dk_at dksX6_aLine_0 19 rfl rfl)
theorem dX6_aLine_20 : decode cX6_aLine 20 = .ok (.aload_n 0, 1) := dk_42 (dk_at dksX6_aLine_0 20 rfl rfl)
theorem dX6_aLine_21 : decode cX6_aLine 21 = .ok (.getfield 205, 3) := dk_180 0 205 (dk_at dksX6_aLine_0 21 rfl rfl)
theorem dX6_aLine_24 : decode cX6_aLine 24 = .ok (.bipush 16, 2) := dk_16 16 (dk_at dksX6_aLine_1 0 rfl rfl)
theorem dX6_aLine_26 : decode cX6_aLine 26 = .ok (.if_icmp .ne 9, 3) := dk_160 0 9 (dk_at dksX6_aLine_1 2 rfl rfl)
theorem dX6_aLine_29 : decode cX6_aLine 29 = .ok (.aload_n 0, 1) := dk_42 (dk_at dksX6_aLine_1 5 rfl rfl)
theorem dX6_aLine_30 : decode cX6_aLine 30 = .ok (.iconst 3, 1) := dk_6 (dk_at dksX6_aLine_1 6 rfl rfl)
theorem dX6_aLine_31 : decode cX6_aLine 31 = .ok (.invokevirtual 164, 3) := dk_182 0 164 (dk_at dksX6_aLine_1 7 rfl rfl)
theorem dX6_aLine_34 : decode cX6_aLine 34 = .ok (.ireturn, 1) := dk_172 (dk_at dksX6_aLine_1 10 rfl rfl)
theorem dX6_aLine_35 : decode cX6_aLine 35 = .ok (.aload_n 0, 1) := dk_42 (dk_at dksX6_aLine_1 11 rfl rfl)
theorem dX6_aLine_36 : decode cX6_aLine 36 = .ok (.getfield 142, 3) := dk_180 0 142 (dk_at dksX6_aLine_1 12 rfl rfl)
theorem dX6_aLine_39 : decode cX6_aLine 39 = .ok (.bipush 20, 2) := dk_16 20 (dk_at dksX6_aLine_1 15 rfl rfl)
theorem dX6_aLine_41 : decode cX6_aLine 41 = .ok (.if_icmp .ne 7, 3) := dk_160 0 7 (dk_at dksX6_aLine_1 17 rfl rfl)
theorem dX6_aLine_44 : decode cX6_aLine 44 = .ok (.iconst 1, 1) := dk_4 (dk_at dksX6_aLine_1 20 rfl rfl)
theorem dX6_aLine_45 : decode cX6_aLine 45 = .ok (.goto 4, 3) := dk_167 0 4 (dk_at dksX6_aLine_1 21 rfl rfl)
theorem dX6_aLine_48 : decode cX6_aLine 48 = .ok (.iconst 0, 1) := dk_3 (dk_at dksX6_aLine_2 0 rfl rfl)
theorem dX6_aLine_49 : decode cX6_aLine 49 = .ok (.istore_n 1, 1) := dk_60 (dk_at dksX6_aLine_2 1 rfl rfl)
theorem dX6_aLine_50 : decode cX6_aLine 50 = .ok (.aload_n 0, 1) := dk_42 (dk_at dksX6_aLine_2 2 rfl rfl)
theorem dX6_aLine_51 : decode cX6_aLine 51 = .ok (.getfield 19, 3) := dk_180 0 19 (dk_at dksX6_aLine_2 3 rfl rfl)
theorem dX6_aLine_54 : decode cX6_aLine 54 = .ok (.iconst 4, 1) := dk_7 (dk_at dksX6_aLine_2 6 rfl rfl)
theorem dX6_aLine_55 : decode cX6_aLine 55 = .ok (.aload_n 0, 1) := dk_42 (dk_at dksX6_aLine_2 7 rfl rfl)
theorem dX6_aLine_56 : decode cX6_aLine 56 = .ok (.getfield 205, 3) := dk_180 0 205 (dk_at dksX6_aLine_2 8 rfl rfl)
theorem dX6_aLine_59 : decode cX6_aLine 59 = .ok (.imul, 1) := dk_104 (dk_at dksX6_aLine_2 11 rfl rfl)
theorem dX6_aLine_60 : decode cX6_aLine 60 = .ok (.aload_n 0, 1) := dk_42 (dk_at dksX6_aLine_2 12 rfl rfl)
theorem dX6_aLine_61 : decode cX6_aLine 61 = .ok (.getfield 142, 3) := dk_180 0 142 (dk_at dksX6_aLine_2 13 rfl rfl)
theorem dX6_aLine_64 : decode cX6_aLine 64 = .ok (.bipush 20, 2) := dk_16 20 (dk_at dksX6_aLine_2 16 rfl rfl)
theorem dX6_aLine_66 : decode cX6_aLine 66 = .ok (.isub, 1) := dk_100 (dk_at dksX6_aLine_2 18 rfl rfl)
theorem dX6_aLine_67 : decode cX6_aLine 67 = .ok (.iastore, 1) := dk_79 (dk_at dksX6_aLine_2 19 rfl rfl)
theorem dX6_aLine_68 : decode cX6_aLine 68 = .ok (.aload_n 0, 1) := dk_42 (dk_at dksX6_aLine_2 20 rfl rfl)
theorem dX6_aLine_69 : decode cX6_aLine 69 = .ok (.iconst 0, 1) := dk_3 (dk_at dksX6_aLine_2 21 rfl rfl)
theorem dX6_aLine_70 : decode cX6_aLine 70 = .ok (.putfield 173, 3) := dk_181 0 173 (dk_at dksX6_aLine_3 0 rfl rfl)
theorem dX6_aLine_73 : decode cX6_aLine 73 = .ok (.aload_n 0, 1) := dk_42 (dk_at dksX6_aLine_3 3 rfl rfl)
theorem dX6_aLine_74 : decode cX6_aLine 74 = .ok (.invokevirtual 167, 3) := dk_182 0 167 (dk_at dksX6_aLine_3 4 rfl rfl)
theorem dX6_aLine_77 : decode cX6_aLine 77 = .ok (.aload_n 0, 1) := dk_42 (dk_at dksX6_aLine_3 7 rfl rfl)
theorem dX6_aLine_78 : decode cX6_aLine 78 = .ok (.getfield 19, 3) := dk_180 0 19 (dk_at dksX6_aLine_3 8 rfl rfl)
theorem dX6_aLine_81 : decode cX6_aLine 81 = .ok (.iconst 4, 1) := dk_7 (dk_at dksX6_aLine_3 11 rfl rfl)
theorem dX6_aLine_82 : decode cX6_aLine 82 = .ok (.aload_n 0, 1) := dk_42 (dk_at dksX6_aLine_3 12 rfl rfl)
theorem dX6_aLine_83 : decode cX6_aLine 83 = .ok (.getfield 205, 3) := dk_180 0 205 (dk_at dksX6_aLine_3 13 rfl rfl)
theorem dX6_aLine_86 : decode cX6_aLine 86 = .ok (.imul, 1) := dk_104 (dk_at dksX6_aLine_3 16 rfl rfl)
theorem dX6_aLine_87 : decode cX6_aLine 87 = .ok (.iconst 1, 1) := dk_4 (dk_at dksX6_aLine_3 17 rfl rfl)
theorem dX6_aLine_88 : decode cX6_aLine 88 = .ok (.iadd, 1) := dk_96 (dk_at dksX6_aLine_3 18 rfl rfl)
theorem dX6_aLine_89 : decode cX6_aLine 89 = .ok (.aload_n 0, 1) := dk_42 (dk_at dksX6_aLine_3 19 rfl rfl)
theorem dX6_aLine_90 : decode cX6_aLine 90 = .ok (.getfield 170, 3) := dk_180 0 170 (dk_at dksX6_aLine_3 20 rfl rfl)
theorem dX6_aLine_93 : decode cX6_aLine 93 = .ok (.iastore, 1) := dk_79 (dk_at dksX6_aLine_3 23 rfl rfl)
theorem dX6_aLine_94 : decode cX6_aLine 94 = .ok (.iload_n 1, 1) := dk_27 (dk_at dksX6_aLine_4 0 rfl rfl)
theorem dX6_aLine_95 : decode cX6_aLine 95 = .ok (.ifCond .eq 12, 3) := dk_153 0 12 (dk_at dksX6_aLine_4 1 rfl rfl)
theorem dX6_aLine_98 : decode cX6_aLine 98 = .ok (.aload_n 0, 1) := dk_42 (dk_at dksX6_aLine_4 4 rfl rfl)
theorem dX6_aLine_99 : decode cX6_aLine 99 = .ok (.invokevirtual 202, 3) := dk_182 0 202 (dk_at dksX6_aLine_4 5 rfl rfl)
theorem dX6_aLine_102 : decode cX6_aLine 102 = .ok (.ifCond .ne 5, 3) := dk_154 0 5 (dk_at dksX6_aLine_4 8 rfl rfl)
theorem dX6_aLine_105 : decode cX6_aLine 105 = .ok (.iconst 0, 1) := dk_3 (dk_at dksX6_aLine_4 11 rfl rfl)
theorem dX6_aLine_106 : decode cX6_aLine 106 = .ok (.ireturn, 1) := dk_172 (dk_at dksX6_aLine_4 12 rfl rfl)
theorem dX6_aLine_107 : decode cX6_aLine 107 = .ok (.aload_n 0, 1) := dk_42 (dk_at dksX6_aLine_4 13 rfl rfl)
theorem dX6_aLine_108 : decode cX6_aLine 108 = .ok (.getfield 19, 3) := dk_180 0 19 (dk_at dksX6_aLine_4 14 rfl rfl)
theorem dX6_aLine_111 : decode cX6_aLine 111 = .ok (.iconst 4, 1) := dk_7 (dk_at dksX6_aLine_4 17 rfl rfl)
theorem dX6_aLine_112 : decode cX6_aLine 112 = .ok (.aload_n 0, 1) := dk_42 (dk_at dksX6_aLine_4 18 rfl rfl)
theorem dX6_aLine_113 : decode cX6_aLine 113 = .ok (.getfield 205, 3) := dk_180 0 205 (dk_at dksX6_aLine_4 19 rfl rfl)
theorem dX6_aLine_116 : decode cX6_aLine 116 = .ok (.imul, 1) := dk_104 (dk_at dksX6_aLine_4 22 rfl rfl)
theorem dX6_aLine_117 : decode cX6_aLine 117 = .ok (.iconst 2, 1) := dk_5 (dk_at dksX6_aLine_4 23 rfl rfl)
theorem dX6_aLine_118 : decode cX6_aLine 118 = .ok (.iadd, 1) := dk_96 (dk_at dksX6_aLine_5 0 rfl rfl)
theorem dX6_aLine_119 : decode cX6_aLine 119 = .ok (.aload_n 0, 1) := dk_42 (dk_at dksX6_aLine_5 1 rfl rfl)
theorem dX6_aLine_120 : decode cX6_aLine 120 = .ok (.getfield 170, 3) := dk_180 0 170 (dk_at dksX6_aLine_5 2 rfl rfl)
theorem dX6_aLine_123 : decode cX6_aLine 123 = .ok (.iastore, 1) := dk_79 (dk_at dksX6_aLine_5 5 rfl rfl)
theorem dX6_aLine_124 : decode cX6_aLine 124 = .ok (.aload_n 0, 1) := dk_42 (dk_at dksX6_aLine_5 6 rfl rfl)
theorem dX6_aLine_125 : decode cX6_aLine 125 = .ok (.getfield 142, 3) := dk_180 0 142 (dk_at dksX6_aLine_5 7 rfl rfl)
theorem dX6_aLine_128 : decode cX6_aLine 128 = .ok (.iconst 3, 1) := dk_6 (dk_at dksX6_aLine_5 10 rfl rfl)
theorem dX6_aLine_129 : decode cX6_aLine 129 = .ok (.if_icmp .ne 16, 3) := dk_160 0 16 (dk_at dksX6_aLine_5 11 rfl rfl)
theorem dX6_aLine_132 : decode cX6_aLine 132 = .ok (.aload_n 0, 1) := dk_42 (dk_at dksX6_aLine_5 14 rfl rfl)
theorem dX6_aLine_133 : decode cX6_aLine 133 = .ok (.invokevirtual 167, 3) := dk_182 0 167 (dk_at dksX6_aLine_5 15 rfl rfl)
