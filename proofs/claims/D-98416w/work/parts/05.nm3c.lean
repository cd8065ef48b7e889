set_option maxRecDepth 100000
theorem q109 : (Jvm.Cond.initialized "SealCasts") ∈ lw_all := lw_g (lw_at lw_m1 1 rfl) rfl
theorem q145 : (Jvm.Cond.instantiable "SealCasts" (31 : Nat)) ∈ lw_all := lw_g (lw_at lw_m1 37 rfl) rfl
theorem q147 : (Jvm.Cond.instanceMethod ({ cls := "SealCasts", name := "<init>", desc := "()V" } : Jvm.MethodName)) ∈ lw_all := lw_g (lw_at lw_m1 39 rfl) rfl
theorem q148 : (Jvm.Cond.code ({ cls := "SealCasts", name := "<init>", desc := "()V" } : Jvm.MethodName) prog_1_method_2_code (2 : Nat) (Option.none : Option Jvm.ClassFile.FieldType)) ∈ lw_all := lw_g (lw_at lw_m1 40 rfl) rfl
theorem q149 : (Jvm.Cond.methodLink "SealCasts" (3 : Nat) ({ cls := "java/lang/Object", name := "<init>", desc := "()V" } : Jvm.MethodName)) ∈ lw_all := lw_g (lw_at lw_m1 41 rfl) rfl
theorem q152 : (Jvm.Cond.classLink "SealCasts" (17 : Nat) "SealCasts$Book") ∈ lw_all := lw_g (lw_at lw_m1 44 rfl) rfl
theorem q154 : (Jvm.Cond.methodLinkNest "SealCasts" (19 : Nat) ({ cls := "SealCasts$Book", name := "<init>", desc := "()V" } : Jvm.MethodName) "SealCasts") ∈ lw_tbl := lw_at lw_m1 46 rfl
theorem q227 : (Jvm.Cond.fieldLink "SealCasts" (142 : Nat) "SealCasts$Book" "hands" "Ljava/util/ArrayList;") ∈ lw_all := lw_g (lw_at lw_m1 119 rfl) rfl
theorem q231 : (Jvm.Cond.fieldLink "SealCasts" (147 : Nat) "SealCasts$Book" "width" "I") ∈ lw_all := lw_g (lw_at lw_m1 123 rfl) rfl
theorem q241 : (Jvm.Cond.fieldLink "SealCasts" (395 : Nat) "SealCasts$Book" "units" "I") ∈ lw_all := lw_g (lw_at lw_m1 133 rfl) rfl
theorem q257 : (Jvm.Cond.classLink "SealCasts" (24 : Nat) "SealCasts$Chest") ∈ lw_all := lw_g (lw_at lw_m1 149 rfl) rfl
theorem q259 : (Jvm.Cond.methodLinkNest "SealCasts" (26 : Nat) ({ cls := "SealCasts$Chest", name := "<init>", desc := "()V" } : Jvm.MethodName) "SealCasts") ∈ lw_tbl := lw_at lw_m1 151 rfl
theorem q265 : (Jvm.Cond.fieldLink "SealCasts" (164 : Nat) "SealCasts$Chest" "row" "[I") ∈ lw_all := lw_g (lw_at lw_m1 157 rfl) rfl
theorem q267 : (Jvm.Cond.fieldLink "SealCasts" (167 : Nat) "SealCasts$Chest" "parent" "[I") ∈ lw_all := lw_g (lw_at lw_m1 159 rfl) rfl
theorem q269 : (Jvm.Cond.fieldLink "SealCasts" (170 : Nat) "SealCasts$Chest" "hand" "[I") ∈ lw_all := lw_g (lw_at lw_m1 161 rfl) rfl
theorem q272 : (Jvm.Cond.fieldLink "SealCasts" (173 : Nat) "SealCasts$Chest" "born" "[I") ∈ lw_all := lw_g (lw_at lw_m1 164 rfl) rfl
theorem q274 : (Jvm.Cond.fieldLink "SealCasts" (183 : Nat) "SealCasts$Chest" "printed" "[I") ∈ lw_all := lw_g (lw_at lw_m1 166 rfl) rfl
theorem q276 : (Jvm.Cond.fieldLink "SealCasts" (186 : Nat) "SealCasts$Chest" "printOf" "[I") ∈ lw_all := lw_g (lw_at lw_m1 168 rfl) rfl
theorem q278 : (Jvm.Cond.fieldLink "SealCasts" (189 : Nat) "SealCasts$Chest" "printYear" "[I") ∈ lw_all := lw_g (lw_at lw_m1 170 rfl) rfl
theorem q281 : (Jvm.Cond.fieldLink "SealCasts" (154 : Nat) "SealCasts$Chest" "seals" "I") ∈ lw_all := lw_g (lw_at lw_m1 173 rfl) rfl
theorem q283 : (Jvm.Cond.fieldLink "SealCasts" (180 : Nat) "SealCasts$Chest" "prints" "I") ∈ lw_all := lw_g (lw_at lw_m1 175 rfl) rfl
theorem q285 : (Jvm.Cond.fieldLink "SealCasts" (220 : Nat) "SealCasts$Chest" "wax" "I") ∈ lw_all := lw_g (lw_at lw_m1 177 rfl) rfl
theorem q287 : (Jvm.Cond.fieldLink "SealCasts" (197 : Nat) "SealCasts$Chest" "year" "I") ∈ lw_all := lw_g (lw_at lw_m1 179 rfl) rfl
theorem q289 : (Jvm.Cond.fieldLink "SealCasts" (226 : Nat) "SealCasts$Chest" "seed" "I") ∈ lw_all := lw_g (lw_at lw_m1 181 rfl) rfl
theorem q316 : (Jvm.Cond.methodLink "SealCasts" (27 : Nat) ({ cls := "SealCasts$Chest", name := "begin", desc := "(LSealCasts$Book;)LSealCasts$Chest;" } : Jvm.MethodName)) ∈ lw_all := lw_g (lw_at lw_m1 208 rfl) rfl
theorem q321 : (Jvm.Cond.classLink "SealCasts" (61 : Nat) "[[I") ∈ lw_all := lw_g (lw_at lw_m1 213 rfl) rfl
theorem q323 : (Jvm.Cond.classLink "SealCasts" (69 : Nat) "java/util/ArrayList") ∈ lw_all := lw_g (lw_at lw_m1 215 rfl) rfl
theorem q324 : (Jvm.Cond.methodLink "SealCasts" (71 : Nat) ({ cls := "java/util/ArrayList", name := "<init>", desc := "(I)V" } : Jvm.MethodName)) ∈ lw_all := lw_g (lw_at lw_m1 216 rfl) rfl
theorem q325 : (Jvm.Cond.classLink "SealCasts" (78 : Nat) "SealCasts$Sample") ∈ lw_all := lw_g (lw_at lw_m1 217 rfl) rfl
theorem q327 : (Jvm.Cond.fieldLink "SealCasts" (9 : Nat) "SealCasts" "tape" "[B") ∈ lw_all := lw_g (lw_at lw_m1 219 rfl) rfl
theorem q330 : (Jvm.Cond.fieldLink "SealCasts" (103 : Nat) "SealCasts" "taped" "I") ∈ lw_all := lw_g (lw_at lw_m1 222 rfl) rfl
theorem q331 : (Jvm.Cond.fieldLink "SealCasts" (132 : Nat) "SealCasts" "faultKind" "I") ∈ lw_all := lw_g (lw_at lw_m1 223 rfl) rfl
theorem q332 : (Jvm.Cond.fieldLink "SealCasts" (13 : Nat) "SealCasts" "faultPlace" "I") ∈ lw_all := lw_g (lw_at lw_m1 224 rfl) rfl
theorem q334 : (Jvm.Cond.fieldLink "SealCasts" (20 : Nat) "SealCasts" "book" "LSealCasts$Book;") ∈ lw_all := lw_g (lw_at lw_m1 226 rfl) rfl
theorem q336 : (Jvm.Cond.fieldLink "SealCasts" (31 : Nat) "SealCasts" "now" "LSealCasts$Chest;") ∈ lw_all := lw_g (lw_at lw_m1 228 rfl) rfl
theorem q337 : (Jvm.Cond.fieldLink "SealCasts" (35 : Nat) "SealCasts" "spare" "LSealCasts$Chest;") ∈ lw_all := lw_g (lw_at lw_m1 229 rfl) rfl
theorem q338 : (Jvm.Cond.fieldLink "SealCasts" (286 : Nat) "SealCasts" "time" "I") ∈ lw_all := lw_g (lw_at lw_m1 230 rfl) rfl
theorem q339 : (Jvm.Cond.fieldLink "SealCasts" (38 : Nat) "SealCasts" "were" "[LSealCasts$Chest;") ∈ lw_all := lw_g (lw_at lw_m1 231 rfl) rfl
theorem q340 : (Jvm.Cond.fieldLink "SealCasts" (115 : Nat) "SealCasts" "acts" "I") ∈ lw_all := lw_g (lw_at lw_m1 232 rfl) rfl
theorem q341 : (Jvm.Cond.fieldLink "SealCasts" (118 : Nat) "SealCasts" "undone" "I") ∈ lw_all := lw_g (lw_at lw_m1 233 rfl) rfl
theorem q342 : (Jvm.Cond.fieldLink "SealCasts" (42 : Nat) "SealCasts" "given" "[I") ∈ lw_all := lw_g (lw_at lw_m1 234 rfl) rfl
theorem q343 : (Jvm.Cond.fieldLink "SealCasts" (46 : Nat) "SealCasts" "own" "[I") ∈ lw_all := lw_g (lw_at lw_m1 235 rfl) rfl
theorem q344 : (Jvm.Cond.fieldLink "SealCasts" (49 : Nat) "SealCasts" "part" "[I") ∈ lw_all := lw_g (lw_at lw_m1 236 rfl) rfl
theorem q345 : (Jvm.Cond.fieldLink "SealCasts" (52 : Nat) "SealCasts" "over" "[I") ∈ lw_all := lw_g (lw_at lw_m1 237 rfl) rfl
theorem q346 : (Jvm.Cond.fieldLink "SealCasts" (55 : Nat) "SealCasts" "lies" "[I") ∈ lw_all := lw_g (lw_at lw_m1 238 rfl) rfl
theorem q347 : (Jvm.Cond.fieldLink "SealCasts" (121 : Nat) "SealCasts" "lain" "I") ∈ lw_all := lw_g (lw_at lw_m1 239 rfl) rfl
theorem q348 : (Jvm.Cond.fieldLink "SealCasts" (58 : Nat) "SealCasts" "cameAt" "[I") ∈ lw_all := lw_g (lw_at lw_m2 0 rfl) rfl
theorem q349 : (Jvm.Cond.fieldLink "SealCasts" (63 : Nat) "SealCasts" "gets" "[[I") ∈ lw_all := lw_g (lw_at lw_m2 1 rfl) rfl
theorem q350 : (Jvm.Cond.fieldLink "SealCasts" (66 : Nat) "SealCasts" "least" "[[I") ∈ lw_all := lw_g (lw_at lw_m2 2 rfl) rfl
theorem q351 : (Jvm.Cond.fieldLink "SealCasts" (74 : Nat) "SealCasts" "facts" "Ljava/util/ArrayList;") ∈ lw_all := lw_g (lw_at lw_m2 3 rfl) rfl
theorem q352 : (Jvm.Cond.fieldLink "SealCasts" (80 : Nat) "SealCasts" "known" "[LSealCasts$Sample;") ∈ lw_all := lw_g (lw_at lw_m2 4 rfl) rfl
theorem q353 : (Jvm.Cond.fieldLink "SealCasts" (84 : Nat) "SealCasts" "from" "[I") ∈ lw_all := lw_g (lw_at lw_m2 5 rfl) rfl
theorem q354 : (Jvm.Cond.fieldLink "SealCasts" (87 : Nat) "SealCasts" "first" "[I") ∈ lw_all := lw_g (lw_at lw_m2 6 rfl) rfl
theorem q355 : (Jvm.Cond.fieldLink "SealCasts" (321 : Nat) "SealCasts" "samples" "I") ∈ lw_all := lw_g (lw_at lw_m2 7 rfl) rfl
theorem q356 : (Jvm.Cond.fieldLink "SealCasts" (332 : Nat) "SealCasts" "treeChanges" "I") ∈ lw_all := lw_g (lw_at lw_m2 8 rfl) rfl
theorem q357 : (Jvm.Cond.fieldLink "SealCasts" (335 : Nat) "SealCasts" "treeMany" "I") ∈ lw_all := lw_g (lw_at lw_m2 9 rfl) rfl
theorem q358 : (Jvm.Cond.fieldLink "SealCasts" (90 : Nat) "SealCasts" "with" "[I") ∈ lw_all := lw_g (lw_at lw_m2 10 rfl) rfl
theorem q359 : (Jvm.Cond.fieldLink "SealCasts" (93 : Nat) "SealCasts" "turn" "[I") ∈ lw_all := lw_g (lw_at lw_m2 11 rfl) rfl
theorem q360 : (Jvm.Cond.fieldLink "SealCasts" (96 : Nat) "SealCasts" "boxes" "[LSealCasts$Chest;") ∈ lw_all := lw_g (lw_at lw_m2 12 rfl) rfl
theorem q361 : (Jvm.Cond.fieldLink "SealCasts" (99 : Nat) "SealCasts" "isThere" "[Z") ∈ lw_all := lw_g (lw_at lw_m2 13 rfl) rfl
theorem q362 : (Jvm.Cond.laysFinal "SealCasts" "SealCasts" "tape" "[B") ∈ lw_all := lw_g (lw_at lw_m2 14 rfl) rfl
theorem q363 : (Jvm.Cond.soleField "SealCasts" "tape") ∈ lw_all := lw_g (lw_at lw_m2 15 rfl) rfl
theorem q364 : (Jvm.Cond.lays "SealCasts" "SealCasts" "taped" "I") ∈ lw_all := lw_g (lw_at lw_m2 16 rfl) rfl
theorem q365 : (Jvm.Cond.soleField "SealCasts" "taped") ∈ lw_all := lw_g (lw_at lw_m2 17 rfl) rfl
theorem q366 : (Jvm.Cond.lays "SealCasts" "SealCasts" "faultKind" "I") ∈ lw_all := lw_g (lw_at lw_m2 18 rfl) rfl
theorem q367 : (Jvm.Cond.soleField "SealCasts" "faultKind") ∈ lw_all := lw_g (lw_at lw_m2 19 rfl) rfl
theorem q368 : (Jvm.Cond.lays "SealCasts" "SealCasts" "faultPlace" "I") ∈ lw_all := lw_g (lw_at lw_m2 20 rfl) rfl
theorem q369 : (Jvm.Cond.soleField "SealCasts" "faultPlace") ∈ lw_all := lw_g (lw_at lw_m2 21 rfl) rfl
theorem q370 : (Jvm.Cond.lays "SealCasts" "SealCasts" "book" "LSealCasts$Book;") ∈ lw_all := lw_g (lw_at lw_m2 22 rfl) rfl
theorem q371 : (Jvm.Cond.soleField "SealCasts" "book") ∈ lw_all := lw_g (lw_at lw_m2 23 rfl) rfl
theorem q372 : (Jvm.Cond.laysFinal "SealCasts" "SealCasts" "now" "LSealCasts$Chest;") ∈ lw_all := lw_g (lw_at lw_m2 24 rfl) rfl
theorem q373 : (Jvm.Cond.soleField "SealCasts" "now") ∈ lw_all := lw_g (lw_at lw_m2 25 rfl) rfl
theorem q374 : (Jvm.Cond.laysFinal "SealCasts" "SealCasts" "spare" "LSealCasts$Chest;") ∈ lw_all := lw_g (lw_at lw_m2 26 rfl) rfl
theorem q375 : (Jvm.Cond.soleField "SealCasts" "spare") ∈ lw_all := lw_g (lw_at lw_m2 27 rfl) rfl
theorem q376 : (Jvm.Cond.lays "SealCasts" "SealCasts" "time" "I") ∈ lw_all := lw_g (lw_at lw_m2 28 rfl) rfl
theorem q377 : (Jvm.Cond.soleField "SealCasts" "time") ∈ lw_all := lw_g (lw_at lw_m2 29 rfl) rfl
theorem q378 : (Jvm.Cond.laysFinal "SealCasts" "SealCasts" "were" "[LSealCasts$Chest;") ∈ lw_all := lw_g (lw_at lw_m2 30 rfl) rfl
theorem q379 : (Jvm.Cond.soleField "SealCasts" "were") ∈ lw_all := lw_g (lw_at lw_m2 31 rfl) rfl
theorem q380 : (Jvm.Cond.lays "SealCasts" "SealCasts" "acts" "I") ∈ lw_all := lw_g (lw_at lw_m2 32 rfl) rfl
theorem q381 : (Jvm.Cond.soleField "SealCasts" "acts") ∈ lw_all := lw_g (lw_at lw_m2 33 rfl) rfl
theorem q382 : (Jvm.Cond.lays "SealCasts" "SealCasts" "undone" "I") ∈ lw_all := lw_g (lw_at lw_m2 34 rfl) rfl
theorem q383 : (Jvm.Cond.soleField "SealCasts" "undone") ∈ lw_all := lw_g (lw_at lw_m2 35 rfl) rfl
theorem q384 : (Jvm.Cond.laysFinal "SealCasts" "SealCasts" "given" "[I") ∈ lw_all := lw_g (lw_at lw_m2 36 rfl) rfl
theorem q385 : (Jvm.Cond.soleField "SealCasts" "given") ∈ lw_all := lw_g (lw_at lw_m2 37 rfl) rfl
theorem q386 : (Jvm.Cond.laysFinal "SealCasts" "SealCasts" "own" "[I") ∈ lw_all := lw_g (lw_at lw_m2 38 rfl) rfl
theorem q387 : (Jvm.Cond.soleField "SealCasts" "own") ∈ lw_all := lw_g (lw_at lw_m2 39 rfl) rfl
theorem q388 : (Jvm.Cond.laysFinal "SealCasts" "SealCasts" "part" "[I") ∈ lw_all := lw_g (lw_at lw_m2 40 rfl) rfl
theorem q389 : (Jvm.Cond.soleField "SealCasts" "part") ∈ lw_all := lw_g (lw_at lw_m2 41 rfl) rfl
theorem q390 : (Jvm.Cond.laysFinal "SealCasts" "SealCasts" "over" "[I") ∈ lw_all := lw_g (lw_at lw_m2 42 rfl) rfl
theorem q391 : (Jvm.Cond.soleField "SealCasts" "over") ∈ lw_all := lw_g (lw_at lw_m2 43 rfl) rfl
theorem q392 : (Jvm.Cond.laysFinal "SealCasts" "SealCasts" "lies" "[I") ∈ lw_all := lw_g (lw_at lw_m2 44 rfl) rfl
theorem q393 : (Jvm.Cond.soleField "SealCasts" "lies") ∈ lw_all := lw_g (lw_at lw_m2 45 rfl) rfl
theorem q394 : (Jvm.Cond.lays "SealCasts" "SealCasts" "lain" "I") ∈ lw_all := lw_g (lw_at lw_m2 46 rfl) rfl
theorem q395 : (Jvm.Cond.soleField "SealCasts" "lain") ∈ lw_all := lw_g (lw_at lw_m2 47 rfl) rfl
theorem q396 : (Jvm.Cond.laysFinal "SealCasts" "SealCasts" "cameAt" "[I") ∈ lw_all := lw_g (lw_at lw_m2 48 rfl) rfl
theorem q397 : (Jvm.Cond.soleField "SealCasts" "cameAt") ∈ lw_all := lw_g (lw_at lw_m2 49 rfl) rfl
theorem q398 : (Jvm.Cond.laysFinal "SealCasts" "SealCasts" "gets" "[[I") ∈ lw_all := lw_g (lw_at lw_m2 50 rfl) rfl
theorem q399 : (Jvm.Cond.soleField "SealCasts" "gets") ∈ lw_all := lw_g (lw_at lw_m2 51 rfl) rfl
theorem q400 : (Jvm.Cond.laysFinal "SealCasts" "SealCasts" "least" "[[I") ∈ lw_all := lw_g (lw_at lw_m2 52 rfl) rfl
theorem q401 : (Jvm.Cond.soleField "SealCasts" "least") ∈ lw_all := lw_g (lw_at lw_m2 53 rfl) rfl
theorem q402 : (Jvm.Cond.laysFinal "SealCasts" "SealCasts" "facts" "Ljava/util/ArrayList;") ∈ lw_all := lw_g (lw_at lw_m2 54 rfl) rfl
theorem q403 : (Jvm.Cond.soleField "SealCasts" "facts") ∈ lw_all := lw_g (lw_at lw_m2 55 rfl) rfl
theorem q404 : (Jvm.Cond.laysFinal "SealCasts" "SealCasts" "known" "[LSealCasts$Sample;") ∈ lw_all := lw_g (lw_at lw_m2 56 rfl) rfl
theorem q405 : (Jvm.Cond.soleField "SealCasts" "known") ∈ lw_all := lw_g (lw_at lw_m2 57 rfl) rfl
theorem q406 : (Jvm.Cond.laysFinal "SealCasts" "SealCasts" "from" "[I") ∈ lw_all := lw_g (lw_at lw_m2 58 rfl) rfl
theorem q407 : (Jvm.Cond.soleField "SealCasts" "from") ∈ lw_all := lw_g (lw_at lw_m2 59 rfl) rfl
theorem q408 : (Jvm.Cond.laysFinal "SealCasts" "SealCasts" "first" "[I") ∈ lw_all := lw_g (lw_at lw_m2 60 rfl) rfl
theorem q409 : (Jvm.Cond.soleField "SealCasts" "first") ∈ lw_all := lw_g (lw_at lw_m2 61 rfl) rfl
theorem q410 : (Jvm.Cond.lays "SealCasts" "SealCasts" "samples" "I") ∈ lw_all := lw_g (lw_at lw_m2 62 rfl) rfl
theorem q411 : (Jvm.Cond.soleField "SealCasts" "samples") ∈ lw_all := lw_g (lw_at lw_m2 63 rfl) rfl
theorem q412 : (Jvm.Cond.lays "SealCasts" "SealCasts" "treeChanges" "I") ∈ lw_all := lw_g (lw_at lw_m2 64 rfl) rfl
theorem q413 : (Jvm.Cond.soleField "SealCasts" "treeChanges") ∈ lw_all := lw_g (lw_at lw_m2 65 rfl) rfl
theorem q414 : (Jvm.Cond.lays "SealCasts" "SealCasts" "treeMany" "I") ∈ lw_all := lw_g (lw_at lw_m2 66 rfl) rfl
theorem q415 : (Jvm.Cond.soleField "SealCasts" "treeMany") ∈ lw_all := lw_g (lw_at lw_m2 67 rfl) rfl
theorem q416 : (Jvm.Cond.laysFinal "SealCasts" "SealCasts" "with" "[I") ∈ lw_all := lw_g (lw_at lw_m2 68 rfl) rfl
theorem q417 : (Jvm.Cond.soleField "SealCasts" "with") ∈ lw_all := lw_g (lw_at lw_m2 69 rfl) rfl
theorem q418 : (Jvm.Cond.laysFinal "SealCasts" "SealCasts" "turn" "[I") ∈ lw_all := lw_g (lw_at lw_m2 70 rfl) rfl
theorem q419 : (Jvm.Cond.soleField "SealCasts" "turn") ∈ lw_all := lw_g (lw_at lw_m2 71 rfl) rfl
theorem q420 : (Jvm.Cond.laysFinal "SealCasts" "SealCasts" "boxes" "[LSealCasts$Chest;") ∈ lw_all := lw_g (lw_at lw_m2 72 rfl) rfl
theorem q421 : (Jvm.Cond.soleField "SealCasts" "boxes") ∈ lw_all := lw_g (lw_at lw_m2 73 rfl) rfl
theorem q422 : (Jvm.Cond.laysFinal "SealCasts" "SealCasts" "isThere" "[Z") ∈ lw_all := lw_g (lw_at lw_m2 74 rfl) rfl
theorem q423 : (Jvm.Cond.soleField "SealCasts" "isThere") ∈ lw_all := lw_g (lw_at lw_m2 75 rfl) rfl
theorem q424 : (Jvm.Cond.superclass "SealCasts" "java/lang/Object") ∈ lw_all := lw_g (lw_at lw_m2 76 rfl) rfl
theorem q427 : (Jvm.Cond.instanceMethod ({ cls := "SealCasts", name := "feed", desc := "(IIIII)I" } : Jvm.MethodName)) ∈ lw_all := lw_g (lw_at lw_m2 79 rfl) rfl
theorem q428 : (Jvm.Cond.selects "SealCasts" ({ cls := "SealCasts", name := "feed", desc := "(IIIII)I" } : Jvm.MethodName) ({ cls := "SealCasts", name := "feed", desc := "(IIIII)I" } : Jvm.MethodName)) ∈ lw_all := lw_g (lw_at lw_m2 80 rfl) rfl
theorem q429 : (Jvm.Cond.code ({ cls := "SealCasts", name := "feed", desc := "(IIIII)I" } : Jvm.MethodName) prog_1_method_3_code (12 : Nat) (Option.some Jvm.ClassFile.FieldType.int)) ∈ lw_all := lw_g (lw_at lw_m2 81 rfl) rfl
theorem q431 : (Jvm.Cond.instanceMethod ({ cls := "SealCasts", name := "end", desc := "(I)I" } : Jvm.MethodName)) ∈ lw_all := lw_g (lw_at lw_m2 83 rfl) rfl
theorem q432 : (Jvm.Cond.selects "SealCasts" ({ cls := "SealCasts", name := "end", desc := "(I)I" } : Jvm.MethodName) ({ cls := "SealCasts", name := "end", desc := "(I)I" } : Jvm.MethodName)) ∈ lw_all := lw_g (lw_at lw_m2 84 rfl) rfl
theorem q433 : (Jvm.Cond.code ({ cls := "SealCasts", name := "end", desc := "(I)I" } : Jvm.MethodName) prog_1_method_4_code (2 : Nat) (Option.some Jvm.ClassFile.FieldType.int)) ∈ lw_all := lw_g (lw_at lw_m2 85 rfl) rfl
theorem q435 : (Jvm.Cond.instanceMethod ({ cls := "SealCasts", name := "chancery", desc := "()I" } : Jvm.MethodName)) ∈ lw_all := lw_g (lw_at lw_m2 87 rfl) rfl
theorem q436 : (Jvm.Cond.selects "SealCasts" ({ cls := "SealCasts", name := "chancery", desc := "()I" } : Jvm.MethodName) ({ cls := "SealCasts", name := "chancery", desc := "()I" } : Jvm.MethodName)) ∈ lw_all := lw_g (lw_at lw_m2 88 rfl) rfl
theorem q437 : (Jvm.Cond.codeWith ({ cls := "SealCasts", name := "chancery", desc := "()I" } : Jvm.MethodName) prog_1_method_5_code (3 : Nat) (Option.some Jvm.ClassFile.FieldType.int) [((2 : Nat), (71 : Nat), (74 : Nat), (127 : Nat))]) ∈ lw_all := lw_g (lw_at lw_m2 89 rfl) rfl
theorem q438 : (Jvm.Cond.classLink "SealCasts" (127 : Nat) "SealCasts$Wrong") ∈ lw_all := lw_g (lw_at lw_m2 90 rfl) rfl
theorem q439 : (Jvm.Cond.classLink "SealCasts" (106 : Nat) "SealCasts$Reader") ∈ lw_all := lw_g (lw_at lw_m2 91 rfl) rfl
theorem q441 : (Jvm.Cond.methodLinkNest "SealCasts" (108 : Nat) ({ cls := "SealCasts$Reader", name := "<init>", desc := "(LSealCasts;)V" } : Jvm.MethodName) "SealCasts") ∈ lw_tbl := lw_at lw_m2 93 rfl
theorem q488 : (Jvm.Cond.methodLink "SealCasts" (111 : Nat) ({ cls := "SealCasts$Reader", name := "text", desc := "()LSealCasts$Book;" } : Jvm.MethodName)) ∈ lw_all := lw_g (lw_at lw_m2 140 rfl) rfl
theorem q776 : (Jvm.Cond.fieldLink "SealCasts" (129 : Nat) "SealCasts$Wrong" "kind" "I") ∈ lw_all := lw_g (lw_at lw_m3 188 rfl) rfl
theorem q778 : (Jvm.Cond.fieldLink "SealCasts" (135 : Nat) "SealCasts$Wrong" "place" "I") ∈ lw_all := lw_g (lw_at lw_m3 190 rfl) rfl
theorem q1036 : (Jvm.Cond.selects "SealCasts" ({ cls := "java/lang/Object", name := "getClass", desc := "()Ljava/lang/Class;" } : Jvm.MethodName) ({ cls := "java/lang/Object", name := "getClass", desc := "()Ljava/lang/Class;" } : Jvm.MethodName)) ∈ lw_all := lw_g (lw_at lw_m4 208 rfl) rfl
theorem q1078 : (Jvm.Cond.methodLink "SealCasts" (124 : Nat) ({ cls := "java/util/ArrayList", name := "clear", desc := "()V" } : Jvm.MethodName)) ∈ lw_all := lw_g (lw_at lw_m5 10 rfl) rfl
theorem q1082 : (Jvm.Cond.methodLink "SealCasts" (138 : Nat) ({ cls := "SealCasts", name := "hands", desc := "()I" } : Jvm.MethodName)) ∈ lw_all := lw_g (lw_at lw_m5 14 rfl) rfl
theorem q1083 : (Jvm.Cond.privateMethod ({ cls := "SealCasts", name := "hands", desc := "()I" } : Jvm.MethodName)) ∈ lw_tbl := lw_at lw_m5 15 rfl
theorem q1084 : (Jvm.Cond.instanceMethod ({ cls := "SealCasts", name := "hands", desc := "()I" } : Jvm.MethodName)) ∈ lw_all := lw_g (lw_at lw_m5 16 rfl) rfl
theorem q1085 : (Jvm.Cond.code ({ cls := "SealCasts", name := "hands", desc := "()I" } : Jvm.MethodName) prog_1_method_7_code (1 : Nat) (Option.some Jvm.ClassFile.FieldType.int)) ∈ lw_all := lw_g (lw_at lw_m5 17 rfl) rfl
theorem q1086 : (Jvm.Cond.methodLink "SealCasts" (144 : Nat) ({ cls := "java/util/ArrayList", name := "size", desc := "()I" } : Jvm.MethodName)) ∈ lw_all := lw_g (lw_at lw_m5 18 rfl) rfl
theorem q1088 : (Jvm.Cond.instanceMethod ({ cls := "SealCasts", name := "fault", desc := "(I)I" } : Jvm.MethodName)) ∈ lw_all := lw_g (lw_at lw_m5 20 rfl) rfl
theorem q1089 : (Jvm.Cond.selects "SealCasts" ({ cls := "SealCasts", name := "fault", desc := "(I)I" } : Jvm.MethodName) ({ cls := "SealCasts", name := "fault", desc := "(I)I" } : Jvm.MethodName)) ∈ lw_all := lw_g (lw_at lw_m5 21 rfl) rfl
theorem q1090 : (Jvm.Cond.code ({ cls := "SealCasts", name := "fault", desc := "(I)I" } : Jvm.MethodName) prog_1_method_6_code (2 : Nat) (Option.some Jvm.ClassFile.FieldType.int)) ∈ lw_all := lw_g (lw_at lw_m5 22 rfl) rfl
theorem q1092 : (Jvm.Cond.instanceMethod ({ cls := "SealCasts", name := "seal", desc := "(II)I" } : Jvm.MethodName)) ∈ lw_all := lw_g (lw_at lw_m5 24 rfl) rfl
theorem q1093 : (Jvm.Cond.selects "SealCasts" ({ cls := "SealCasts", name := "seal", desc := "(II)I" } : Jvm.MethodName) ({ cls := "SealCasts", name := "seal", desc := "(II)I" } : Jvm.MethodName)) ∈ lw_all := lw_g (lw_at lw_m5 25 rfl) rfl
theorem q1094 : (Jvm.Cond.code ({ cls := "SealCasts", name := "seal", desc := "(II)I" } : Jvm.MethodName) prog_1_method_14_code (3 : Nat) (Option.some Jvm.ClassFile.FieldType.int)) ∈ lw_all := lw_g (lw_at lw_m5 26 rfl) rfl
theorem q1095 : (Jvm.Cond.methodLink "SealCasts" (160 : Nat) ({ cls := "SealCasts", name := "isSeal", desc := "(I)Z" } : Jvm.MethodName)) ∈ lw_all := lw_g (lw_at lw_m5 27 rfl) rfl
theorem q1096 : (Jvm.Cond.privateMethod ({ cls := "SealCasts", name := "isSeal", desc := "(I)Z" } : Jvm.MethodName)) ∈ lw_tbl := lw_at lw_m5 28 rfl
theorem q1097 : (Jvm.Cond.instanceMethod ({ cls := "SealCasts", name := "isSeal", desc := "(I)Z" } : Jvm.MethodName)) ∈ lw_all := lw_g (lw_at lw_m5 29 rfl) rfl
theorem q1098 : (Jvm.Cond.code ({ cls := "SealCasts", name := "isSeal", desc := "(I)Z" } : Jvm.MethodName) prog_1_method_10_code (2 : Nat) (Option.some Jvm.ClassFile.FieldType.boolean)) ∈ lw_all := lw_g (lw_at lw_m5 30 rfl) rfl
theorem q1099 : (Jvm.Cond.methodLink "SealCasts" (150 : Nat) ({ cls := "SealCasts", name := "isIn", desc := "(III)Z" } : Jvm.MethodName)) ∈ lw_all := lw_g (lw_at lw_m5 31 rfl) rfl
theorem q1100 : (Jvm.Cond.static ({ cls := "SealCasts", name := "isIn", desc := "(III)Z" } : Jvm.MethodName)) ∈ lw_all := lw_g (lw_at lw_m5 32 rfl) rfl
theorem q1101 : (Jvm.Cond.code ({ cls := "SealCasts", name := "isIn", desc := "(III)Z" } : Jvm.MethodName) prog_1_method_1_code (3 : Nat) (Option.some Jvm.ClassFile.FieldType.boolean)) ∈ lw_all := lw_g (lw_at lw_m5 33 rfl) rfl
theorem q1102 : (Jvm.Cond.methodLink "SealCasts" (176 : Nat) ({ cls := "SealCasts$Chest", name := "castsFrom", desc := "(I)I" } : Jvm.MethodName)) ∈ lw_all := lw_g (lw_at lw_m5 34 rfl) rfl
theorem q1107 : (Jvm.Cond.instanceMethod ({ cls := "SealCasts", name := "shown", desc := "(II)I" } : Jvm.MethodName)) ∈ lw_all := lw_g (lw_at lw_m5 39 rfl) rfl
theorem q1108 : (Jvm.Cond.selects "SealCasts" ({ cls := "SealCasts", name := "shown", desc := "(II)I" } : Jvm.MethodName) ({ cls := "SealCasts", name := "shown", desc := "(II)I" } : Jvm.MethodName)) ∈ lw_all := lw_g (lw_at lw_m5 40 rfl) rfl
theorem q1109 : (Jvm.Cond.code ({ cls := "SealCasts", name := "shown", desc := "(II)I" } : Jvm.MethodName) prog_1_method_15_code (3 : Nat) (Option.some Jvm.ClassFile.FieldType.int)) ∈ lw_all := lw_g (lw_at lw_m5 41 rfl) rfl
theorem q1111 : (Jvm.Cond.instanceMethod ({ cls := "SealCasts", name := "prints", desc := "(II)I" } : Jvm.MethodName)) ∈ lw_all := lw_g (lw_at lw_m5 43 rfl) rfl
theorem q1112 : (Jvm.Cond.selects "SealCasts" ({ cls := "SealCasts", name := "prints", desc := "(II)I" } : Jvm.MethodName) ({ cls := "SealCasts", name := "prints", desc := "(II)I" } : Jvm.MethodName)) ∈ lw_all := lw_g (lw_at lw_m5 44 rfl) rfl
theorem q1113 : (Jvm.Cond.code ({ cls := "SealCasts", name := "prints", desc := "(II)I" } : Jvm.MethodName) prog_1_method_16_code (7 : Nat) (Option.some Jvm.ClassFile.FieldType.int)) ∈ lw_all := lw_g (lw_at lw_m5 45 rfl) rfl
theorem q1114 : (Jvm.Cond.methodLink "SealCasts" (192 : Nat) ({ cls := "SealCasts", name := "isRow", desc := "(I)Z" } : Jvm.MethodName)) ∈ lw_all := lw_g (lw_at lw_m5 46 rfl) rfl
theorem q1115 : (Jvm.Cond.privateMethod ({ cls := "SealCasts", name := "isRow", desc := "(I)Z" } : Jvm.MethodName)) ∈ lw_tbl := lw_at lw_m5 47 rfl
theorem q1116 : (Jvm.Cond.instanceMethod ({ cls := "SealCasts", name := "isRow", desc := "(I)Z" } : Jvm.MethodName)) ∈ lw_all := lw_g (lw_at lw_m5 48 rfl) rfl
theorem q1117 : (Jvm.Cond.code ({ cls := "SealCasts", name := "isRow", desc := "(I)Z" } : Jvm.MethodName) prog_1_method_11_code (2 : Nat) (Option.some Jvm.ClassFile.FieldType.boolean)) ∈ lw_all := lw_g (lw_at lw_m5 49 rfl) rfl
theorem q1118 : (Jvm.Cond.methodLink "SealCasts" (157 : Nat) ({ cls := "SealCasts", name := "rows", desc := "()I" } : Jvm.MethodName)) ∈ lw_all := lw_g (lw_at lw_m5 50 rfl) rfl
theorem q1119 : (Jvm.Cond.privateMethod ({ cls := "SealCasts", name := "rows", desc := "()I" } : Jvm.MethodName)) ∈ lw_tbl := lw_at lw_m5 51 rfl
theorem q1120 : (Jvm.Cond.instanceMethod ({ cls := "SealCasts", name := "rows", desc := "()I" } : Jvm.MethodName)) ∈ lw_all := lw_g (lw_at lw_m5 52 rfl) rfl
theorem q1121 : (Jvm.Cond.code ({ cls := "SealCasts", name := "rows", desc := "()I" } : Jvm.MethodName) prog_1_method_8_code (1 : Nat) (Option.some Jvm.ClassFile.FieldType.int)) ∈ lw_all := lw_g (lw_at lw_m5 53 rfl) rfl
theorem q1123 : (Jvm.Cond.instanceMethod ({ cls := "SealCasts", name := "turned", desc := "(I)I" } : Jvm.MethodName)) ∈ lw_all := lw_g (lw_at lw_m5 55 rfl) rfl
theorem q1124 : (Jvm.Cond.selects "SealCasts" ({ cls := "SealCasts", name := "turned", desc := "(I)I" } : Jvm.MethodName) ({ cls := "SealCasts", name := "turned", desc := "(I)I" } : Jvm.MethodName)) ∈ lw_all := lw_g (lw_at lw_m5 56 rfl) rfl
theorem q1125 : (Jvm.Cond.code ({ cls := "SealCasts", name := "turned", desc := "(I)I" } : Jvm.MethodName) prog_1_method_17_code (2 : Nat) (Option.some Jvm.ClassFile.FieldType.int)) ∈ lw_all := lw_g (lw_at lw_m5 57 rfl) rfl
theorem q1126 : (Jvm.Cond.methodLink "SealCasts" (195 : Nat) ({ cls := "SealCasts$Book", name := "turn", desc := "(I)I" } : Jvm.MethodName)) ∈ lw_all := lw_g (lw_at lw_m5 58 rfl) rfl
theorem q1131 : (Jvm.Cond.instanceMethod ({ cls := "SealCasts", name := "would", desc := "(IIII)I" } : Jvm.MethodName)) ∈ lw_all := lw_g (lw_at lw_m5 63 rfl) rfl
theorem q1132 : (Jvm.Cond.selects "SealCasts" ({ cls := "SealCasts", name := "would", desc := "(IIII)I" } : Jvm.MethodName) ({ cls := "SealCasts", name := "would", desc := "(IIII)I" } : Jvm.MethodName)) ∈ lw_all := lw_g (lw_at lw_m5 64 rfl) rfl
theorem q1133 : (Jvm.Cond.code ({ cls := "SealCasts", name := "would", desc := "(IIII)I" } : Jvm.MethodName) prog_1_method_19_code (5 : Nat) (Option.some Jvm.ClassFile.FieldType.int)) ∈ lw_all := lw_g (lw_at lw_m5 65 rfl) rfl
theorem q1134 : (Jvm.Cond.methodLink "SealCasts" (204 : Nat) ({ cls := "SealCasts", name := "isHand", desc := "(I)Z" } : Jvm.MethodName)) ∈ lw_all := lw_g (lw_at lw_m5 66 rfl) rfl
theorem q1135 : (Jvm.Cond.privateMethod ({ cls := "SealCasts", name := "isHand", desc := "(I)Z" } : Jvm.MethodName)) ∈ lw_tbl := lw_at lw_m5 67 rfl
theorem q1136 : (Jvm.Cond.instanceMethod ({ cls := "SealCasts", name := "isHand", desc := "(I)Z" } : Jvm.MethodName)) ∈ lw_all := lw_g (lw_at lw_m5 68 rfl) rfl
theorem q1137 : (Jvm.Cond.code ({ cls := "SealCasts", name := "isHand", desc := "(I)Z" } : Jvm.MethodName) prog_1_method_9_code (2 : Nat) (Option.some Jvm.ClassFile.FieldType.boolean)) ∈ lw_all := lw_g (lw_at lw_m5 69 rfl) rfl
theorem q1138 : (Jvm.Cond.methodLink "SealCasts" (207 : Nat) ({ cls := "SealCasts", name := "isHeat", desc := "(I)Z" } : Jvm.MethodName)) ∈ lw_all := lw_g (lw_at lw_m5 70 rfl) rfl
theorem q1139 : (Jvm.Cond.static ({ cls := "SealCasts", name := "isHeat", desc := "(I)Z" } : Jvm.MethodName)) ∈ lw_all := lw_g (lw_at lw_m5 71 rfl) rfl
theorem q1140 : (Jvm.Cond.code ({ cls := "SealCasts", name := "isHeat", desc := "(I)Z" } : Jvm.MethodName) prog_1_method_13_code (1 : Nat) (Option.some Jvm.ClassFile.FieldType.boolean)) ∈ lw_all := lw_g (lw_at lw_m5 72 rfl) rfl
theorem q1141 : (Jvm.Cond.methodLink "SealCasts" (200 : Nat) ({ cls := "SealCasts$Book", name := "cast", desc := "(IIIII)I" } : Jvm.MethodName)) ∈ lw_all := lw_g (lw_at lw_m5 73 rfl) rfl
theorem q1227 : (Jvm.Cond.instanceMethod ({ cls := "SealCasts", name := "cast", desc := "(III)I" } : Jvm.MethodName)) ∈ lw_all := lw_g (lw_at lw_m5 159 rfl) rfl
theorem q1228 : (Jvm.Cond.selects "SealCasts" ({ cls := "SealCasts", name := "cast", desc := "(III)I" } : Jvm.MethodName) ({ cls := "SealCasts", name := "cast", desc := "(III)I" } : Jvm.MethodName)) ∈ lw_all := lw_g (lw_at lw_m5 160 rfl) rfl
theorem q1229 : (Jvm.Cond.code ({ cls := "SealCasts", name := "cast", desc := "(III)I" } : Jvm.MethodName) prog_1_method_22_code (5 : Nat) (Option.some Jvm.ClassFile.FieldType.int)) ∈ lw_all := lw_g (lw_at lw_m5 161 rfl) rfl
theorem q1230 : (Jvm.Cond.methodLink "SealCasts" (223 : Nat) ({ cls := "SealCasts", name := "act", desc := "()V" } : Jvm.MethodName)) ∈ lw_all := lw_g (lw_at lw_m5 162 rfl) rfl
theorem q1231 : (Jvm.Cond.privateMethod ({ cls := "SealCasts", name := "act", desc := "()V" } : Jvm.MethodName)) ∈ lw_tbl := lw_at lw_m5 163 rfl
theorem q1232 : (Jvm.Cond.instanceMethod ({ cls := "SealCasts", name := "act", desc := "()V" } : Jvm.MethodName)) ∈ lw_all := lw_g (lw_at lw_m5 164 rfl) rfl
theorem q1233 : (Jvm.Cond.code ({ cls := "SealCasts", name := "act", desc := "()V" } : Jvm.MethodName) prog_1_method_20_code (2 : Nat) (Option.none : Option Jvm.ClassFile.FieldType)) ∈ lw_all := lw_g (lw_at lw_m5 165 rfl) rfl
theorem q1234 : (Jvm.Cond.methodLink "SealCasts" (210 : Nat) ({ cls := "java/lang/System", name := "arraycopy", desc := "(Ljava/lang/Object;ILjava/lang/Object;II)V" } : Jvm.MethodName)) ∈ lw_all := lw_g (lw_at lw_m5 166 rfl) rfl
theorem q1235 : (Jvm.Cond.methodLink "SealCasts" (216 : Nat) ({ cls := "SealCasts$Chest", name := "copy", desc := "(LSealCasts$Chest;)LSealCasts$Chest;" } : Jvm.MethodName)) ∈ lw_all := lw_g (lw_at lw_m5 167 rfl) rfl
theorem q1241 : (Jvm.Cond.instanceMethod ({ cls := "SealCasts", name := "print", desc := "(I)I" } : Jvm.MethodName)) ∈ lw_all := lw_g (lw_at lw_m5 173 rfl) rfl
theorem q1242 : (Jvm.Cond.selects "SealCasts" ({ cls := "SealCasts", name := "print", desc := "(I)I" } : Jvm.MethodName) ({ cls := "SealCasts", name := "print", desc := "(I)I" } : Jvm.MethodName)) ∈ lw_all := lw_g (lw_at lw_m5 174 rfl) rfl
theorem q1243 : (Jvm.Cond.code ({ cls := "SealCasts", name := "print", desc := "(I)I" } : Jvm.MethodName) prog_1_method_23_code (3 : Nat) (Option.some Jvm.ClassFile.FieldType.int)) ∈ lw_all := lw_g (lw_at lw_m5 175 rfl) rfl
theorem q1245 : (Jvm.Cond.instanceMethod ({ cls := "SealCasts", name := "crack", desc := "(II)Z" } : Jvm.MethodName)) ∈ lw_all := lw_g (lw_at lw_m5 177 rfl) rfl
theorem q1246 : (Jvm.Cond.selects "SealCasts" ({ cls := "SealCasts", name := "crack", desc := "(II)Z" } : Jvm.MethodName) ({ cls := "SealCasts", name := "crack", desc := "(II)Z" } : Jvm.MethodName)) ∈ lw_all := lw_g (lw_at lw_m5 178 rfl) rfl
theorem q1247 : (Jvm.Cond.code ({ cls := "SealCasts", name := "crack", desc := "(II)Z" } : Jvm.MethodName) prog_1_method_24_code (3 : Nat) (Option.some Jvm.ClassFile.FieldType.boolean)) ∈ lw_all := lw_g (lw_at lw_m5 179 rfl) rfl
theorem q1248 : (Jvm.Cond.methodLink "SealCasts" (229 : Nat) ({ cls := "SealCasts", name := "isMark", desc := "(I)Z" } : Jvm.MethodName)) ∈ lw_all := lw_g (lw_at lw_m5 180 rfl) rfl
theorem q1249 : (Jvm.Cond.privateMethod ({ cls := "SealCasts", name := "isMark", desc := "(I)Z" } : Jvm.MethodName)) ∈ lw_tbl := lw_at lw_m5 181 rfl
theorem q1250 : (Jvm.Cond.instanceMethod ({ cls := "SealCasts", name := "isMark", desc := "(I)Z" } : Jvm.MethodName)) ∈ lw_all := lw_g (lw_at lw_m5 182 rfl) rfl
theorem q1251 : (Jvm.Cond.code ({ cls := "SealCasts", name := "isMark", desc := "(I)Z" } : Jvm.MethodName) prog_1_method_12_code (2 : Nat) (Option.some Jvm.ClassFile.FieldType.boolean)) ∈ lw_all := lw_g (lw_at lw_m5 183 rfl) rfl
theorem q1253 : (Jvm.Cond.instanceMethod ({ cls := "SealCasts", name := "year", desc := "()I" } : Jvm.MethodName)) ∈ lw_all := lw_g (lw_at lw_m5 185 rfl) rfl
theorem q1254 : (Jvm.Cond.selects "SealCasts" ({ cls := "SealCasts", name := "year", desc := "()I" } : Jvm.MethodName) ({ cls := "SealCasts", name := "year", desc := "()I" } : Jvm.MethodName)) ∈ lw_all := lw_g (lw_at lw_m5 186 rfl) rfl
theorem q1255 : (Jvm.Cond.code ({ cls := "SealCasts", name := "year", desc := "()I" } : Jvm.MethodName) prog_1_method_25_code (1 : Nat) (Option.some Jvm.ClassFile.FieldType.int)) ∈ lw_all := lw_g (lw_at lw_m5 187 rfl) rfl
theorem q1257 : (Jvm.Cond.instanceMethod ({ cls := "SealCasts", name := "undo", desc := "()Z" } : Jvm.MethodName)) ∈ lw_all := lw_g (lw_at lw_m5 189 rfl) rfl
theorem q1258 : (Jvm.Cond.selects "SealCasts" ({ cls := "SealCasts", name := "undo", desc := "()Z" } : Jvm.MethodName) ({ cls := "SealCasts", name := "undo", desc := "()Z" } : Jvm.MethodName)) ∈ lw_all := lw_g (lw_at lw_m5 190 rfl) rfl
theorem q1259 : (Jvm.Cond.code ({ cls := "SealCasts", name := "undo", desc := "()Z" } : Jvm.MethodName) prog_1_method_26_code (1 : Nat) (Option.some Jvm.ClassFile.FieldType.boolean)) ∈ lw_all := lw_g (lw_at lw_m5 191 rfl) rfl
theorem q1260 : (Jvm.Cond.methodLink "SealCasts" (232 : Nat) ({ cls := "SealCasts", name := "exchange", desc := "(LSealCasts$Chest;)V" } : Jvm.MethodName)) ∈ lw_all := lw_g (lw_at lw_m5 192 rfl) rfl
theorem q1261 : (Jvm.Cond.privateMethod ({ cls := "SealCasts", name := "exchange", desc := "(LSealCasts$Chest;)V" } : Jvm.MethodName)) ∈ lw_tbl := lw_at lw_m5 193 rfl
theorem q1262 : (Jvm.Cond.instanceMethod ({ cls := "SealCasts", name := "exchange", desc := "(LSealCasts$Chest;)V" } : Jvm.MethodName)) ∈ lw_all := lw_g (lw_at lw_m5 194 rfl) rfl
theorem q1263 : (Jvm.Cond.code ({ cls := "SealCasts", name := "exchange", desc := "(LSealCasts$Chest;)V" } : Jvm.MethodName) prog_1_method_21_code (2 : Nat) (Option.none : Option Jvm.ClassFile.FieldType)) ∈ lw_all := lw_g (lw_at lw_m5 195 rfl) rfl
theorem q1265 : (Jvm.Cond.instanceMethod ({ cls := "SealCasts", name := "redo", desc := "()Z" } : Jvm.MethodName)) ∈ lw_all := lw_g (lw_at lw_m5 197 rfl) rfl
theorem q1266 : (Jvm.Cond.selects "SealCasts" ({ cls := "SealCasts", name := "redo", desc := "()Z" } : Jvm.MethodName) ({ cls := "SealCasts", name := "redo", desc := "()Z" } : Jvm.MethodName)) ∈ lw_all := lw_g (lw_at lw_m5 198 rfl) rfl
theorem q1267 : (Jvm.Cond.code ({ cls := "SealCasts", name := "redo", desc := "()Z" } : Jvm.MethodName) prog_1_method_27_code (1 : Nat) (Option.some Jvm.ClassFile.FieldType.boolean)) ∈ lw_all := lw_g (lw_at lw_m5 199 rfl) rfl
theorem q1269 : (Jvm.Cond.instanceMethod ({ cls := "SealCasts", name := "whose", desc := "(III)I" } : Jvm.MethodName)) ∈ lw_all := lw_g (lw_at lw_m5 201 rfl) rfl
theorem q1270 : (Jvm.Cond.selects "SealCasts" ({ cls := "SealCasts", name := "whose", desc := "(III)I" } : Jvm.MethodName) ({ cls := "SealCasts", name := "whose", desc := "(III)I" } : Jvm.MethodName)) ∈ lw_all := lw_g (lw_at lw_m5 202 rfl) rfl
theorem q1271 : (Jvm.Cond.code ({ cls := "SealCasts", name := "whose", desc := "(III)I" } : Jvm.MethodName) prog_1_method_28_code (6 : Nat) (Option.some Jvm.ClassFile.FieldType.int)) ∈ lw_all := lw_g (lw_at lw_m5 203 rfl) rfl
theorem q1272 : (Jvm.Cond.methodLink "SealCasts" (236 : Nat) ({ cls := "SealCasts", name := "castOf", desc := "(III)I" } : Jvm.MethodName)) ∈ lw_all := lw_g (lw_at lw_m5 204 rfl) rfl
theorem q1273 : (Jvm.Cond.privateMethod ({ cls := "SealCasts", name := "castOf", desc := "(III)I" } : Jvm.MethodName)) ∈ lw_tbl := lw_at lw_m5 205 rfl
theorem q1274 : (Jvm.Cond.instanceMethod ({ cls := "SealCasts", name := "castOf", desc := "(III)I" } : Jvm.MethodName)) ∈ lw_all := lw_g (lw_at lw_m5 206 rfl) rfl
theorem q1275 : (Jvm.Cond.code ({ cls := "SealCasts", name := "castOf", desc := "(III)I" } : Jvm.MethodName) prog_1_method_18_code (4 : Nat) (Option.some Jvm.ClassFile.FieldType.int)) ∈ lw_all := lw_g (lw_at lw_m5 207 rfl) rfl
theorem q1277 : (Jvm.Cond.instanceMethod ({ cls := "SealCasts", name := "made", desc := "(II)I" } : Jvm.MethodName)) ∈ lw_all := lw_g (lw_at lw_m5 209 rfl) rfl
theorem q1278 : (Jvm.Cond.selects "SealCasts" ({ cls := "SealCasts", name := "made", desc := "(II)I" } : Jvm.MethodName) ({ cls := "SealCasts", name := "made", desc := "(II)I" } : Jvm.MethodName)) ∈ lw_all := lw_g (lw_at lw_m5 210 rfl) rfl
theorem q1279 : (Jvm.Cond.code ({ cls := "SealCasts", name := "made", desc := "(II)I" } : Jvm.MethodName) prog_1_method_29_code (6 : Nat) (Option.some Jvm.ClassFile.FieldType.int)) ∈ lw_all := lw_g (lw_at lw_m5 211 rfl) rfl
theorem q1280 : (Jvm.Cond.methodLink "SealCasts" (240 : Nat) ({ cls := "java/lang/Integer", name := "bitCount", desc := "(I)I" } : Jvm.MethodName)) ∈ lw_all := lw_g (lw_at lw_m5 212 rfl) rfl
theorem q1282 : (Jvm.Cond.instanceMethod ({ cls := "SealCasts", name := "apart", desc := "(IIZ)I" } : Jvm.MethodName)) ∈ lw_all := lw_g (lw_at lw_m5 214 rfl) rfl
theorem q1283 : (Jvm.Cond.selects "SealCasts" ({ cls := "SealCasts", name := "apart", desc := "(IIZ)I" } : Jvm.MethodName) ({ cls := "SealCasts", name := "apart", desc := "(IIZ)I" } : Jvm.MethodName)) ∈ lw_all := lw_g (lw_at lw_m5 215 rfl) rfl
theorem q1284 : (Jvm.Cond.code ({ cls := "SealCasts", name := "apart", desc := "(IIZ)I" } : Jvm.MethodName) prog_1_method_30_code (4 : Nat) (Option.some Jvm.ClassFile.FieldType.int)) ∈ lw_all := lw_g (lw_at lw_m5 216 rfl) rfl
theorem q1286 : (Jvm.Cond.instanceMethod ({ cls := "SealCasts", name := "heats", desc := "(III)I" } : Jvm.MethodName)) ∈ lw_all := lw_g (lw_at lw_m5 218 rfl) rfl
theorem q1287 : (Jvm.Cond.selects "SealCasts" ({ cls := "SealCasts", name := "heats", desc := "(III)I" } : Jvm.MethodName) ({ cls := "SealCasts", name := "heats", desc := "(III)I" } : Jvm.MethodName)) ∈ lw_all := lw_g (lw_at lw_m5 219 rfl) rfl
theorem q1288 : (Jvm.Cond.code ({ cls := "SealCasts", name := "heats", desc := "(III)I" } : Jvm.MethodName) prog_1_method_31_code (6 : Nat) (Option.some Jvm.ClassFile.FieldType.int)) ∈ lw_all := lw_g (lw_at lw_m5 220 rfl) rfl
theorem q1290 : (Jvm.Cond.instanceMethod ({ cls := "SealCasts", name := "luck", desc := "(IIII)I" } : Jvm.MethodName)) ∈ lw_all := lw_g (lw_at lw_m5 222 rfl) rfl
theorem q1291 : (Jvm.Cond.selects "SealCasts" ({ cls := "SealCasts", name := "luck", desc := "(IIII)I" } : Jvm.MethodName) ({ cls := "SealCasts", name := "luck", desc := "(IIII)I" } : Jvm.MethodName)) ∈ lw_all := lw_g (lw_at lw_m5 223 rfl) rfl
theorem q1292 : (Jvm.Cond.code ({ cls := "SealCasts", name := "luck", desc := "(IIII)I" } : Jvm.MethodName) prog_1_method_34_code (5 : Nat) (Option.some Jvm.ClassFile.FieldType.int)) ∈ lw_all := lw_g (lw_at lw_m5 224 rfl) rfl
theorem q1293 : (Jvm.Cond.methodLink "SealCasts" (245 : Nat) ({ cls := "SealCasts", name := "layGiven", desc := "(III)Z" } : Jvm.MethodName)) ∈ lw_all := lw_g (lw_at lw_m5 225 rfl) rfl
theorem q1294 : (Jvm.Cond.privateMethod ({ cls := "SealCasts", name := "layGiven", desc := "(III)Z" } : Jvm.MethodName)) ∈ lw_tbl := lw_at lw_m5 226 rfl
theorem q1295 : (Jvm.Cond.instanceMethod ({ cls := "SealCasts", name := "layGiven", desc := "(III)Z" } : Jvm.MethodName)) ∈ lw_all := lw_g (lw_at lw_m5 227 rfl) rfl
theorem q1296 : (Jvm.Cond.code ({ cls := "SealCasts", name := "layGiven", desc := "(III)Z" } : Jvm.MethodName) prog_1_method_32_code (5 : Nat) (Option.some Jvm.ClassFile.FieldType.boolean)) ∈ lw_all := lw_g (lw_at lw_m5 228 rfl) rfl
theorem q1297 : (Jvm.Cond.methodLink "SealCasts" (248 : Nat) ({ cls := "SealCasts", name := "drawsOf", desc := "(I)I" } : Jvm.MethodName)) ∈ lw_all := lw_g (lw_at lw_m5 229 rfl) rfl
theorem q1298 : (Jvm.Cond.privateMethod ({ cls := "SealCasts", name := "drawsOf", desc := "(I)I" } : Jvm.MethodName)) ∈ lw_tbl := lw_at lw_m5 230 rfl
theorem q1299 : (Jvm.Cond.instanceMethod ({ cls := "SealCasts", name := "drawsOf", desc := "(I)I" } : Jvm.MethodName)) ∈ lw_all := lw_g (lw_at lw_m5 231 rfl) rfl
theorem q1300 : (Jvm.Cond.code ({ cls := "SealCasts", name := "drawsOf", desc := "(I)I" } : Jvm.MethodName) prog_1_method_33_code (4 : Nat) (Option.some Jvm.ClassFile.FieldType.int)) ∈ lw_all := lw_g (lw_at lw_m5 232 rfl) rfl
theorem q1302 : (Jvm.Cond.instanceMethod ({ cls := "SealCasts", name := "likely", desc := "(IIII)I" } : Jvm.MethodName)) ∈ lw_all := lw_g (lw_at lw_m5 234 rfl) rfl
theorem q1303 : (Jvm.Cond.selects "SealCasts" ({ cls := "SealCasts", name := "likely", desc := "(IIII)I" } : Jvm.MethodName) ({ cls := "SealCasts", name := "likely", desc := "(IIII)I" } : Jvm.MethodName)) ∈ lw_all := lw_g (lw_at lw_m5 235 rfl) rfl
theorem q1304 : (Jvm.Cond.code ({ cls := "SealCasts", name := "likely", desc := "(IIII)I" } : Jvm.MethodName) prog_1_method_35_code (8 : Nat) (Option.some Jvm.ClassFile.FieldType.int)) ∈ lw_all := lw_g (lw_at lw_m5 236 rfl) rfl
theorem q1306 : (Jvm.Cond.instanceMethod ({ cls := "SealCasts", name := "fades", desc := "(III)I" } : Jvm.MethodName)) ∈ lw_all := lw_g (lw_at lw_m5 238 rfl) rfl
theorem q1307 : (Jvm.Cond.selects "SealCasts" ({ cls := "SealCasts", name := "fades", desc := "(III)I" } : Jvm.MethodName) ({ cls := "SealCasts", name := "fades", desc := "(III)I" } : Jvm.MethodName)) ∈ lw_all := lw_g (lw_at lw_m5 239 rfl) rfl
theorem q1308 : (Jvm.Cond.code ({ cls := "SealCasts", name := "fades", desc := "(III)I" } : Jvm.MethodName) prog_1_method_36_code (6 : Nat) (Option.some Jvm.ClassFile.FieldType.int)) ∈ lw_all := lw_g (lw_at lw_m6 0 rfl) rfl
theorem q1310 : (Jvm.Cond.instanceMethod ({ cls := "SealCasts", name := "kin", desc := "(III)I" } : Jvm.MethodName)) ∈ lw_all := lw_g (lw_at lw_m6 2 rfl) rfl
theorem q1311 : (Jvm.Cond.selects "SealCasts" ({ cls := "SealCasts", name := "kin", desc := "(III)I" } : Jvm.MethodName) ({ cls := "SealCasts", name := "kin", desc := "(III)I" } : Jvm.MethodName)) ∈ lw_all := lw_g (lw_at lw_m6 3 rfl) rfl
theorem q1312 : (Jvm.Cond.code ({ cls := "SealCasts", name := "kin", desc := "(III)I" } : Jvm.MethodName) prog_1_method_38_code (5 : Nat) (Option.some Jvm.ClassFile.FieldType.int)) ∈ lw_all := lw_g (lw_at lw_m6 4 rfl) rfl
theorem q1313 : (Jvm.Cond.methodLink "SealCasts" (251 : Nat) ({ cls := "SealCasts", name := "kinOf", desc := "(II)I" } : Jvm.MethodName)) ∈ lw_all := lw_g (lw_at lw_m6 5 rfl) rfl
theorem q1314 : (Jvm.Cond.privateMethod ({ cls := "SealCasts", name := "kinOf", desc := "(II)I" } : Jvm.MethodName)) ∈ lw_tbl := lw_at lw_m6 6 rfl
theorem q1315 : (Jvm.Cond.instanceMethod ({ cls := "SealCasts", name := "kinOf", desc := "(II)I" } : Jvm.MethodName)) ∈ lw_all := lw_g (lw_at lw_m6 7 rfl) rfl
theorem q1316 : (Jvm.Cond.code ({ cls := "SealCasts", name := "kinOf", desc := "(II)I" } : Jvm.MethodName) prog_1_method_37_code (5 : Nat) (Option.some Jvm.ClassFile.FieldType.int)) ∈ lw_all := lw_g (lw_at lw_m6 8 rfl) rfl
theorem q1318 : (Jvm.Cond.instanceMethod ({ cls := "SealCasts", name := "thumb", desc := "(II)I" } : Jvm.MethodName)) ∈ lw_all := lw_g (lw_at lw_m6 10 rfl) rfl
theorem q1319 : (Jvm.Cond.selects "SealCasts" ({ cls := "SealCasts", name := "thumb", desc := "(II)I" } : Jvm.MethodName) ({ cls := "SealCasts", name := "thumb", desc := "(II)I" } : Jvm.MethodName)) ∈ lw_all := lw_g (lw_at lw_m6 11 rfl) rfl
theorem q1320 : (Jvm.Cond.code ({ cls := "SealCasts", name := "thumb", desc := "(II)I" } : Jvm.MethodName) prog_1_method_40_code (5 : Nat) (Option.some Jvm.ClassFile.FieldType.int)) ∈ lw_all := lw_g (lw_at lw_m6 12 rfl) rfl
theorem q1321 : (Jvm.Cond.methodLink "SealCasts" (255 : Nat) ({ cls := "SealCasts", name := "hasMark", desc := "(II)Z" } : Jvm.MethodName)) ∈ lw_all := lw_g (lw_at lw_m6 13 rfl) rfl
theorem q1322 : (Jvm.Cond.privateMethod ({ cls := "SealCasts", name := "hasMark", desc := "(II)Z" } : Jvm.MethodName)) ∈ lw_tbl := lw_at lw_m6 14 rfl
theorem q1323 : (Jvm.Cond.instanceMethod ({ cls := "SealCasts", name := "hasMark", desc := "(II)Z" } : Jvm.MethodName)) ∈ lw_all := lw_g (lw_at lw_m6 15 rfl) rfl
theorem q1324 : (Jvm.Cond.code ({ cls := "SealCasts", name := "hasMark", desc := "(II)Z" } : Jvm.MethodName) prog_1_method_39_code (3 : Nat) (Option.some Jvm.ClassFile.FieldType.boolean)) ∈ lw_all := lw_g (lw_at lw_m6 16 rfl) rfl
theorem q1326 : (Jvm.Cond.instanceMethod ({ cls := "SealCasts", name := "share", desc := "(III)I" } : Jvm.MethodName)) ∈ lw_all := lw_g (lw_at lw_m6 18 rfl) rfl
theorem q1327 : (Jvm.Cond.selects "SealCasts" ({ cls := "SealCasts", name := "share", desc := "(III)I" } : Jvm.MethodName) ({ cls := "SealCasts", name := "share", desc := "(III)I" } : Jvm.MethodName)) ∈ lw_all := lw_g (lw_at lw_m6 19 rfl) rfl
theorem q1328 : (Jvm.Cond.code ({ cls := "SealCasts", name := "share", desc := "(III)I" } : Jvm.MethodName) prog_1_method_42_code (4 : Nat) (Option.some Jvm.ClassFile.FieldType.int)) ∈ lw_all := lw_g (lw_at lw_m6 20 rfl) rfl
theorem q1329 : (Jvm.Cond.methodLink "SealCasts" (259 : Nat) ({ cls := "SealCasts", name := "layShares", desc := "(II)V" } : Jvm.MethodName)) ∈ lw_all := lw_g (lw_at lw_m6 21 rfl) rfl
theorem q1330 : (Jvm.Cond.privateMethod ({ cls := "SealCasts", name := "layShares", desc := "(II)V" } : Jvm.MethodName)) ∈ lw_tbl := lw_at lw_m6 22 rfl
theorem q1331 : (Jvm.Cond.instanceMethod ({ cls := "SealCasts", name := "layShares", desc := "(II)V" } : Jvm.MethodName)) ∈ lw_all := lw_g (lw_at lw_m6 23 rfl) rfl
theorem q1332 : (Jvm.Cond.code ({ cls := "SealCasts", name := "layShares", desc := "(II)V" } : Jvm.MethodName) prog_1_method_41_code (7 : Nat) (Option.none : Option Jvm.ClassFile.FieldType)) ∈ lw_all := lw_g (lw_at lw_m6 24 rfl) rfl
theorem q1334 : (Jvm.Cond.instanceMethod ({ cls := "SealCasts", name := "forge", desc := "(IIIII)I" } : Jvm.MethodName)) ∈ lw_all := lw_g (lw_at lw_m6 26 rfl) rfl
theorem q1335 : (Jvm.Cond.selects "SealCasts" ({ cls := "SealCasts", name := "forge", desc := "(IIIII)I" } : Jvm.MethodName) ({ cls := "SealCasts", name := "forge", desc := "(IIIII)I" } : Jvm.MethodName)) ∈ lw_all := lw_g (lw_at lw_m6 27 rfl) rfl
theorem q1336 : (Jvm.Cond.code ({ cls := "SealCasts", name := "forge", desc := "(IIIII)I" } : Jvm.MethodName) prog_1_method_43_code (10 : Nat) (Option.some Jvm.ClassFile.FieldType.int)) ∈ lw_all := lw_g (lw_at lw_m6 28 rfl) rfl
theorem q1337 : (Jvm.Cond.constant "SealCasts" (263 : Nat) (1000000 : Int32)) ∈ lw_all := lw_g (lw_at lw_m6 29 rfl) rfl
theorem q1339 : (Jvm.Cond.instanceMethod ({ cls := "SealCasts", name := "nearest", desc := "(II)I" } : Jvm.MethodName)) ∈ lw_all := lw_g (lw_at lw_m6 31 rfl) rfl
theorem q1340 : (Jvm.Cond.selects "SealCasts" ({ cls := "SealCasts", name := "nearest", desc := "(II)I" } : Jvm.MethodName) ({ cls := "SealCasts", name := "nearest", desc := "(II)I" } : Jvm.MethodName)) ∈ lw_all := lw_g (lw_at lw_m6 32 rfl) rfl
theorem q1341 : (Jvm.Cond.code ({ cls := "SealCasts", name := "nearest", desc := "(II)I" } : Jvm.MethodName) prog_1_method_44_code (8 : Nat) (Option.some Jvm.ClassFile.FieldType.int)) ∈ lw_all := lw_g (lw_at lw_m6 33 rfl) rfl
theorem q1343 : (Jvm.Cond.instanceMethod ({ cls := "SealCasts", name := "common", desc := "(I)I" } : Jvm.MethodName)) ∈ lw_all := lw_g (lw_at lw_m6 35 rfl) rfl
theorem q1344 : (Jvm.Cond.selects "SealCasts" ({ cls := "SealCasts", name := "common", desc := "(I)I" } : Jvm.MethodName) ({ cls := "SealCasts", name := "common", desc := "(I)I" } : Jvm.MethodName)) ∈ lw_all := lw_g (lw_at lw_m6 36 rfl) rfl
theorem q1345 : (Jvm.Cond.code ({ cls := "SealCasts", name := "common", desc := "(I)I" } : Jvm.MethodName) prog_1_method_45_code (6 : Nat) (Option.some Jvm.ClassFile.FieldType.int)) ∈ lw_all := lw_g (lw_at lw_m6 37 rfl) rfl
theorem q1347 : (Jvm.Cond.instanceMethod ({ cls := "SealCasts", name := "alike", desc := "(IZ)I" } : Jvm.MethodName)) ∈ lw_all := lw_g (lw_at lw_m6 39 rfl) rfl
theorem q1348 : (Jvm.Cond.selects "SealCasts" ({ cls := "SealCasts", name := "alike", desc := "(IZ)I" } : Jvm.MethodName) ({ cls := "SealCasts", name := "alike", desc := "(IZ)I" } : Jvm.MethodName)) ∈ lw_all := lw_g (lw_at lw_m6 40 rfl) rfl
theorem q1349 : (Jvm.Cond.code ({ cls := "SealCasts", name := "alike", desc := "(IZ)I" } : Jvm.MethodName) prog_1_method_46_code (5 : Nat) (Option.some Jvm.ClassFile.FieldType.int)) ∈ lw_all := lw_g (lw_at lw_m6 41 rfl) rfl
theorem q1351 : (Jvm.Cond.instanceMethod ({ cls := "SealCasts", name := "tell", desc := "()I" } : Jvm.MethodName)) ∈ lw_all := lw_g (lw_at lw_m6 43 rfl) rfl
theorem q1352 : (Jvm.Cond.selects "SealCasts" ({ cls := "SealCasts", name := "tell", desc := "()I" } : Jvm.MethodName) ({ cls := "SealCasts", name := "tell", desc := "()I" } : Jvm.MethodName)) ∈ lw_all := lw_g (lw_at lw_m6 44 rfl) rfl
theorem q1353 : (Jvm.Cond.code ({ cls := "SealCasts", name := "tell", desc := "()I" } : Jvm.MethodName) prog_1_method_49_code (3 : Nat) (Option.some Jvm.ClassFile.FieldType.int)) ∈ lw_all := lw_g (lw_at lw_m6 45 rfl) rfl
theorem q1354 : (Jvm.Cond.methodLink "SealCasts" (264 : Nat) ({ cls := "SealCasts", name := "tells", desc := "(I)Z" } : Jvm.MethodName)) ∈ lw_all := lw_g (lw_at lw_m6 46 rfl) rfl
theorem q1355 : (Jvm.Cond.privateMethod ({ cls := "SealCasts", name := "tells", desc := "(I)Z" } : Jvm.MethodName)) ∈ lw_tbl := lw_at lw_m6 47 rfl
theorem q1356 : (Jvm.Cond.instanceMethod ({ cls := "SealCasts", name := "tells", desc := "(I)Z" } : Jvm.MethodName)) ∈ lw_all := lw_g (lw_at lw_m6 48 rfl) rfl
theorem q1357 : (Jvm.Cond.code ({ cls := "SealCasts", name := "tells", desc := "(I)Z" } : Jvm.MethodName) prog_1_method_47_code (5 : Nat) (Option.some Jvm.ClassFile.FieldType.boolean)) ∈ lw_all := lw_g (lw_at lw_m6 49 rfl) rfl
theorem q1358 : (Jvm.Cond.methodLink "SealCasts" (267 : Nat) ({ cls := "SealCasts", name := "put", desc := "(I)V" } : Jvm.MethodName)) ∈ lw_all := lw_g (lw_at lw_m6 50 rfl) rfl
theorem q1359 : (Jvm.Cond.privateMethod ({ cls := "SealCasts", name := "put", desc := "(I)V" } : Jvm.MethodName)) ∈ lw_tbl := lw_at lw_m6 51 rfl
theorem q1360 : (Jvm.Cond.instanceMethod ({ cls := "SealCasts", name := "put", desc := "(I)V" } : Jvm.MethodName)) ∈ lw_all := lw_g (lw_at lw_m6 52 rfl) rfl
theorem q1361 : (Jvm.Cond.code ({ cls := "SealCasts", name := "put", desc := "(I)V" } : Jvm.MethodName) prog_1_method_48_code (2 : Nat) (Option.none : Option Jvm.ClassFile.FieldType)) ∈ lw_all := lw_g (lw_at lw_m6 53 rfl) rfl
theorem q1363 : (Jvm.Cond.instanceMethod ({ cls := "SealCasts", name := "round", desc := "(IIII)I" } : Jvm.MethodName)) ∈ lw_all := lw_g (lw_at lw_m6 55 rfl) rfl
theorem q1364 : (Jvm.Cond.selects "SealCasts" ({ cls := "SealCasts", name := "round", desc := "(IIII)I" } : Jvm.MethodName) ({ cls := "SealCasts", name := "round", desc := "(IIII)I" } : Jvm.MethodName)) ∈ lw_all := lw_g (lw_at lw_m6 56 rfl) rfl
theorem q1365 : (Jvm.Cond.code ({ cls := "SealCasts", name := "round", desc := "(IIII)I" } : Jvm.MethodName) prog_1_method_50_code (7 : Nat) (Option.some Jvm.ClassFile.FieldType.int)) ∈ lw_all := lw_g (lw_at lw_m6 57 rfl) rfl
theorem q1367 : (Jvm.Cond.instanceMethod ({ cls := "SealCasts", name := "steady", desc := "(III)I" } : Jvm.MethodName)) ∈ lw_all := lw_g (lw_at lw_m6 59 rfl) rfl
theorem q1368 : (Jvm.Cond.selects "SealCasts" ({ cls := "SealCasts", name := "steady", desc := "(III)I" } : Jvm.MethodName) ({ cls := "SealCasts", name := "steady", desc := "(III)I" } : Jvm.MethodName)) ∈ lw_all := lw_g (lw_at lw_m6 60 rfl) rfl
theorem q1369 : (Jvm.Cond.code ({ cls := "SealCasts", name := "steady", desc := "(III)I" } : Jvm.MethodName) prog_1_method_51_code (7 : Nat) (Option.some Jvm.ClassFile.FieldType.int)) ∈ lw_all := lw_g (lw_at lw_m6 61 rfl) rfl
theorem q1371 : (Jvm.Cond.instanceMethod ({ cls := "SealCasts", name := "against", desc := "(III)I" } : Jvm.MethodName)) ∈ lw_all := lw_g (lw_at lw_m6 63 rfl) rfl
theorem q1372 : (Jvm.Cond.selects "SealCasts" ({ cls := "SealCasts", name := "against", desc := "(III)I" } : Jvm.MethodName) ({ cls := "SealCasts", name := "against", desc := "(III)I" } : Jvm.MethodName)) ∈ lw_all := lw_g (lw_at lw_m6 64 rfl) rfl
theorem q1373 : (Jvm.Cond.code ({ cls := "SealCasts", name := "against", desc := "(III)I" } : Jvm.MethodName) prog_1_method_52_code (6 : Nat) (Option.some Jvm.ClassFile.FieldType.int)) ∈ lw_all := lw_g (lw_at lw_m6 65 rfl) rfl
theorem q1375 : (Jvm.Cond.instanceMethod ({ cls := "SealCasts", name := "wax", desc := "(I)I" } : Jvm.MethodName)) ∈ lw_all := lw_g (lw_at lw_m6 67 rfl) rfl
theorem q1376 : (Jvm.Cond.selects "SealCasts" ({ cls := "SealCasts", name := "wax", desc := "(I)I" } : Jvm.MethodName) ({ cls := "SealCasts", name := "wax", desc := "(I)I" } : Jvm.MethodName)) ∈ lw_all := lw_g (lw_at lw_m6 68 rfl) rfl
theorem q1377 : (Jvm.Cond.code ({ cls := "SealCasts", name := "wax", desc := "(I)I" } : Jvm.MethodName) prog_1_method_54_code (7 : Nat) (Option.some Jvm.ClassFile.FieldType.int)) ∈ lw_all := lw_g (lw_at lw_m6 69 rfl) rfl
theorem q1378 : (Jvm.Cond.methodLink "SealCasts" (275 : Nat) ({ cls := "SealCasts", name := "layLeast", desc := "(I)V" } : Jvm.MethodName)) ∈ lw_all := lw_g (lw_at lw_m6 70 rfl) rfl
theorem q1379 : (Jvm.Cond.privateMethod ({ cls := "SealCasts", name := "layLeast", desc := "(I)V" } : Jvm.MethodName)) ∈ lw_tbl := lw_at lw_m6 71 rfl
theorem q1380 : (Jvm.Cond.instanceMethod ({ cls := "SealCasts", name := "layLeast", desc := "(I)V" } : Jvm.MethodName)) ∈ lw_all := lw_g (lw_at lw_m6 72 rfl) rfl
theorem q1381 : (Jvm.Cond.code ({ cls := "SealCasts", name := "layLeast", desc := "(I)V" } : Jvm.MethodName) prog_1_method_53_code (6 : Nat) (Option.none : Option Jvm.ClassFile.FieldType)) ∈ lw_all := lw_g (lw_at lw_m6 73 rfl) rfl
theorem q1382 : (Jvm.Cond.methodLink "SealCasts" (270 : Nat) ({ cls := "java/lang/Math", name := "min", desc := "(II)I" } : Jvm.MethodName)) ∈ lw_all := lw_g (lw_at lw_m6 74 rfl) rfl
theorem q1384 : (Jvm.Cond.instanceMethod ({ cls := "SealCasts", name := "sample", desc := "(IZ)I" } : Jvm.MethodName)) ∈ lw_all := lw_g (lw_at lw_m6 76 rfl) rfl
theorem q1385 : (Jvm.Cond.selects "SealCasts" ({ cls := "SealCasts", name := "sample", desc := "(IZ)I" } : Jvm.MethodName) ({ cls := "SealCasts", name := "sample", desc := "(IZ)I" } : Jvm.MethodName)) ∈ lw_all := lw_g (lw_at lw_m6 77 rfl) rfl
theorem q1386 : (Jvm.Cond.code ({ cls := "SealCasts", name := "sample", desc := "(IZ)I" } : Jvm.MethodName) prog_1_method_57_code (3 : Nat) (Option.some Jvm.ClassFile.FieldType.int)) ∈ lw_all := lw_g (lw_at lw_m6 78 rfl) rfl
theorem q1387 : (Jvm.Cond.methodLink "SealCasts" (282 : Nat) ({ cls := "SealCasts", name := "isFull", desc := "()Z" } : Jvm.MethodName)) ∈ lw_all := lw_g (lw_at lw_m6 79 rfl) rfl
theorem q1388 : (Jvm.Cond.privateMethod ({ cls := "SealCasts", name := "isFull", desc := "()Z" } : Jvm.MethodName)) ∈ lw_tbl := lw_at lw_m6 80 rfl
theorem q1389 : (Jvm.Cond.instanceMethod ({ cls := "SealCasts", name := "isFull", desc := "()Z" } : Jvm.MethodName)) ∈ lw_all := lw_g (lw_at lw_m6 81 rfl) rfl
theorem q1390 : (Jvm.Cond.code ({ cls := "SealCasts", name := "isFull", desc := "()Z" } : Jvm.MethodName) prog_1_method_55_code (1 : Nat) (Option.some Jvm.ClassFile.FieldType.boolean)) ∈ lw_all := lw_g (lw_at lw_m6 82 rfl) rfl
theorem q1392 : (Jvm.Cond.methodLink "SealCasts" (289 : Nat) ({ cls := "SealCasts$Sample", name := "<init>", desc := "(IZI)V" } : Jvm.MethodName)) ∈ lw_all := lw_g (lw_at lw_m6 84 rfl) rfl
theorem q1400 : (Jvm.Cond.fieldLink "SealCasts" (327 : Nat) "SealCasts$Sample" "row" "I") ∈ lw_all := lw_g (lw_at lw_m6 92 rfl) rfl
theorem q1402 : (Jvm.Cond.fieldLink "SealCasts" (362 : Nat) "SealCasts$Sample" "isBackward" "Z") ∈ lw_all := lw_g (lw_at lw_m6 94 rfl) rfl
theorem q1414 : (Jvm.Cond.methodLink "SealCasts" (292 : Nat) ({ cls := "SealCasts", name := "add", desc := "(LSealCasts$Fact;)I" } : Jvm.MethodName)) ∈ lw_all := lw_g (lw_at lw_m6 106 rfl) rfl
theorem q1415 : (Jvm.Cond.privateMethod ({ cls := "SealCasts", name := "add", desc := "(LSealCasts$Fact;)I" } : Jvm.MethodName)) ∈ lw_tbl := lw_at lw_m6 107 rfl
theorem q1416 : (Jvm.Cond.instanceMethod ({ cls := "SealCasts", name := "add", desc := "(LSealCasts$Fact;)I" } : Jvm.MethodName)) ∈ lw_all := lw_g (lw_at lw_m6 108 rfl) rfl
theorem q1417 : (Jvm.Cond.code ({ cls := "SealCasts", name := "add", desc := "(LSealCasts$Fact;)I" } : Jvm.MethodName) prog_1_method_56_code (2 : Nat) (Option.some Jvm.ClassFile.FieldType.int)) ∈ lw_all := lw_g (lw_at lw_m6 109 rfl) rfl
theorem q1418 : (Jvm.Cond.methodLink "SealCasts" (278 : Nat) ({ cls := "java/util/ArrayList", name := "add", desc := "(Ljava/lang/Object;)Z" } : Jvm.MethodName)) ∈ lw_all := lw_g (lw_at lw_m6 110 rfl) rfl
theorem q1420 : (Jvm.Cond.instanceMethod ({ cls := "SealCasts", name := "claim", desc := "(III)I" } : Jvm.MethodName)) ∈ lw_all := lw_g (lw_at lw_m6 112 rfl) rfl
theorem q1421 : (Jvm.Cond.selects "SealCasts" ({ cls := "SealCasts", name := "claim", desc := "(III)I" } : Jvm.MethodName) ({ cls := "SealCasts", name := "claim", desc := "(III)I" } : Jvm.MethodName)) ∈ lw_all := lw_g (lw_at lw_m6 113 rfl) rfl
theorem q1422 : (Jvm.Cond.code ({ cls := "SealCasts", name := "claim", desc := "(III)I" } : Jvm.MethodName) prog_1_method_58_code (4 : Nat) (Option.some Jvm.ClassFile.FieldType.int)) ∈ lw_all := lw_g (lw_at lw_m6 114 rfl) rfl
theorem q1423 : (Jvm.Cond.classLink "SealCasts" (295 : Nat) "SealCasts$Claim") ∈ lw_all := lw_g (lw_at lw_m6 115 rfl) rfl
theorem q1425 : (Jvm.Cond.methodLink "SealCasts" (297 : Nat) ({ cls := "SealCasts$Claim", name := "<init>", desc := "(IIII)V" } : Jvm.MethodName)) ∈ lw_all := lw_g (lw_at lw_m6 117 rfl) rfl
theorem q1442 : (Jvm.Cond.instanceMethod ({ cls := "SealCasts", name := "saw", desc := "(IIZ)I" } : Jvm.MethodName)) ∈ lw_all := lw_g (lw_at lw_m6 134 rfl) rfl
theorem q1443 : (Jvm.Cond.selects "SealCasts" ({ cls := "SealCasts", name := "saw", desc := "(IIZ)I" } : Jvm.MethodName) ({ cls := "SealCasts", name := "saw", desc := "(IIZ)I" } : Jvm.MethodName)) ∈ lw_all := lw_g (lw_at lw_m6 135 rfl) rfl
theorem q1444 : (Jvm.Cond.code ({ cls := "SealCasts", name := "saw", desc := "(IIZ)I" } : Jvm.MethodName) prog_1_method_59_code (4 : Nat) (Option.some Jvm.ClassFile.FieldType.int)) ∈ lw_all := lw_g (lw_at lw_m6 136 rfl) rfl
theorem q1445 : (Jvm.Cond.classLink "SealCasts" (300 : Nat) "SealCasts$Sight") ∈ lw_all := lw_g (lw_at lw_m6 137 rfl) rfl
theorem q1447 : (Jvm.Cond.methodLink "SealCasts" (302 : Nat) ({ cls := "SealCasts$Sight", name := "<init>", desc := "(IIZI)V" } : Jvm.MethodName)) ∈ lw_all := lw_g (lw_at lw_m6 139 rfl) rfl
theorem q1452 : (Jvm.Cond.fieldLink "SealCasts" (370 : Nat) "SealCasts$Sight" "mark" "I") ∈ lw_all := lw_g (lw_at lw_m6 144 rfl) rfl
theorem q1454 : (Jvm.Cond.fieldLink "SealCasts" (376 : Nat) "SealCasts$Sight" "year" "I") ∈ lw_all := lw_g (lw_at lw_m6 146 rfl) rfl
theorem q1456 : (Jvm.Cond.fieldLink "SealCasts" (373 : Nat) "SealCasts$Sight" "is" "Z") ∈ lw_all := lw_g (lw_at lw_m6 148 rfl) rfl
theorem q1467 : (Jvm.Cond.instanceMethod ({ cls := "SealCasts", name := "link", desc := "(IIZ)I" } : Jvm.MethodName)) ∈ lw_all := lw_g (lw_at lw_m6 159 rfl) rfl
theorem q1468 : (Jvm.Cond.selects "SealCasts" ({ cls := "SealCasts", name := "link", desc := "(IIZ)I" } : Jvm.MethodName) ({ cls := "SealCasts", name := "link", desc := "(IIZ)I" } : Jvm.MethodName)) ∈ lw_all := lw_g (lw_at lw_m6 160 rfl) rfl
theorem q1469 : (Jvm.Cond.code ({ cls := "SealCasts", name := "link", desc := "(IIZ)I" } : Jvm.MethodName) prog_1_method_61_code (4 : Nat) (Option.some Jvm.ClassFile.FieldType.int)) ∈ lw_all := lw_g (lw_at lw_m6 161 rfl) rfl
theorem q1470 : (Jvm.Cond.methodLink "SealCasts" (305 : Nat) ({ cls := "SealCasts", name := "isPaper", desc := "(I)Z" } : Jvm.MethodName)) ∈ lw_all := lw_g (lw_at lw_m6 162 rfl) rfl
theorem q1471 : (Jvm.Cond.static ({ cls := "SealCasts", name := "isPaper", desc := "(I)Z" } : Jvm.MethodName)) ∈ lw_all := lw_g (lw_at lw_m6 163 rfl) rfl
theorem q1472 : (Jvm.Cond.code ({ cls := "SealCasts", name := "isPaper", desc := "(I)Z" } : Jvm.MethodName) prog_1_method_60_code (1 : Nat) (Option.some Jvm.ClassFile.FieldType.boolean)) ∈ lw_all := lw_g (lw_at lw_m6 164 rfl) rfl
theorem q1473 : (Jvm.Cond.classLink "SealCasts" (308 : Nat) "SealCasts$Link") ∈ lw_all := lw_g (lw_at lw_m6 165 rfl) rfl
theorem q1475 : (Jvm.Cond.methodLink "SealCasts" (310 : Nat) ({ cls := "SealCasts$Link", name := "<init>", desc := "(IIII)V" } : Jvm.MethodName)) ∈ lw_all := lw_g (lw_at lw_m6 167 rfl) rfl
theorem q1480 : (Jvm.Cond.fieldLink "SealCasts" (377 : Nat) "SealCasts$Link" "paper" "I") ∈ lw_all := lw_g (lw_at lw_m6 172 rfl) rfl
theorem q1482 : (Jvm.Cond.fieldLink "SealCasts" (380 : Nat) "SealCasts$Link" "other" "I") ∈ lw_all := lw_g (lw_at lw_m6 174 rfl) rfl
theorem q1484 : (Jvm.Cond.fieldLink "SealCasts" (383 : Nat) "SealCasts$Link" "turn" "I") ∈ lw_all := lw_g (lw_at lw_m6 176 rfl) rfl
theorem q1495 : (Jvm.Cond.instanceMethod ({ cls := "SealCasts", name := "untell", desc := "(I)Z" } : Jvm.MethodName)) ∈ lw_all := lw_g (lw_at lw_m6 187 rfl) rfl
theorem q1496 : (Jvm.Cond.selects "SealCasts" ({ cls := "SealCasts", name := "untell", desc := "(I)Z" } : Jvm.MethodName) ({ cls := "SealCasts", name := "untell", desc := "(I)Z" } : Jvm.MethodName)) ∈ lw_all := lw_g (lw_at lw_m6 188 rfl) rfl
theorem q1497 : (Jvm.Cond.code ({ cls := "SealCasts", name := "untell", desc := "(I)Z" } : Jvm.MethodName) prog_1_method_62_code (2 : Nat) (Option.some Jvm.ClassFile.FieldType.boolean)) ∈ lw_all := lw_g (lw_at lw_m6 189 rfl) rfl
theorem q1498 : (Jvm.Cond.methodLink "SealCasts" (311 : Nat) ({ cls := "java/util/ArrayList", name := "get", desc := "(I)Ljava/lang/Object;" } : Jvm.MethodName)) ∈ lw_all := lw_g (lw_at lw_m6 190 rfl) rfl
theorem q1499 : (Jvm.Cond.classLink "SealCasts" (315 : Nat) "SealCasts$Fact") ∈ lw_all := lw_g (lw_at lw_m6 191 rfl) rfl
theorem q1500 : (Jvm.Cond.methodLink "SealCasts" (317 : Nat) ({ cls := "SealCasts$Fact", name := "untell", desc := "(I)Z" } : Jvm.MethodName)) ∈ lw_all := lw_g (lw_at lw_m6 192 rfl) rfl
theorem q1509 : (Jvm.Cond.instanceMethod ({ cls := "SealCasts", name := "later", desc := "(I)I" } : Jvm.MethodName)) ∈ lw_all := lw_g (lw_at lw_m6 201 rfl) rfl
theorem q1510 : (Jvm.Cond.selects "SealCasts" ({ cls := "SealCasts", name := "later", desc := "(I)I" } : Jvm.MethodName) ({ cls := "SealCasts", name := "later", desc := "(I)I" } : Jvm.MethodName)) ∈ lw_all := lw_g (lw_at lw_m6 202 rfl) rfl
theorem q1511 : (Jvm.Cond.code ({ cls := "SealCasts", name := "later", desc := "(I)I" } : Jvm.MethodName) prog_1_method_63_code (2 : Nat) (Option.some Jvm.ClassFile.FieldType.int)) ∈ lw_all := lw_g (lw_at lw_m6 203 rfl) rfl
theorem q1512 : (Jvm.Cond.constant "SealCasts" (320 : Nat) (100000 : Int32)) ∈ lw_all := lw_g (lw_at lw_m6 204 rfl) rfl
theorem q1514 : (Jvm.Cond.instanceMethod ({ cls := "SealCasts", name := "tree", desc := "(III)I" } : Jvm.MethodName)) ∈ lw_all := lw_g (lw_at lw_m6 206 rfl) rfl
theorem q1515 : (Jvm.Cond.selects "SealCasts" ({ cls := "SealCasts", name := "tree", desc := "(III)I" } : Jvm.MethodName) ({ cls := "SealCasts", name := "tree", desc := "(III)I" } : Jvm.MethodName)) ∈ lw_all := lw_g (lw_at lw_m6 207 rfl) rfl
theorem q1516 : (Jvm.Cond.code ({ cls := "SealCasts", name := "tree", desc := "(III)I" } : Jvm.MethodName) prog_1_method_70_code (5 : Nat) (Option.some Jvm.ClassFile.FieldType.int)) ∈ lw_all := lw_g (lw_at lw_m6 208 rfl) rfl
theorem q1517 : (Jvm.Cond.methodLink "SealCasts" (347 : Nat) ({ cls := "SealCasts", name := "laySamples", desc := "(I)V" } : Jvm.MethodName)) ∈ lw_all := lw_g (lw_at lw_m6 209 rfl) rfl
theorem q1518 : (Jvm.Cond.privateMethod ({ cls := "SealCasts", name := "laySamples", desc := "(I)V" } : Jvm.MethodName)) ∈ lw_tbl := lw_at lw_m6 210 rfl
theorem q1519 : (Jvm.Cond.instanceMethod ({ cls := "SealCasts", name := "laySamples", desc := "(I)V" } : Jvm.MethodName)) ∈ lw_all := lw_g (lw_at lw_m6 211 rfl) rfl
theorem q1520 : (Jvm.Cond.code ({ cls := "SealCasts", name := "laySamples", desc := "(I)V" } : Jvm.MethodName) prog_1_method_64_code (3 : Nat) (Option.none : Option Jvm.ClassFile.FieldType)) ∈ lw_all := lw_g (lw_at lw_m6 212 rfl) rfl
theorem q1521 : (Jvm.Cond.methodLink "SealCasts" (324 : Nat) ({ cls := "SealCasts$Fact", name := "isKnown", desc := "(I)Z" } : Jvm.MethodName)) ∈ lw_all := lw_g (lw_at lw_m6 213 rfl) rfl
theorem q1529 : (Jvm.Cond.methodLink "SealCasts" (350 : Nat) ({ cls := "SealCasts", name := "layTrees", desc := "(I)V" } : Jvm.MethodName)) ∈ lw_all := lw_g (lw_at lw_m6 221 rfl) rfl
theorem q1530 : (Jvm.Cond.privateMethod ({ cls := "SealCasts", name := "layTrees", desc := "(I)V" } : Jvm.MethodName)) ∈ lw_tbl := lw_at lw_m6 222 rfl
theorem q1531 : (Jvm.Cond.instanceMethod ({ cls := "SealCasts", name := "layTrees", desc := "(I)V" } : Jvm.MethodName)) ∈ lw_all := lw_g (lw_at lw_m6 223 rfl) rfl
theorem q1532 : (Jvm.Cond.code ({ cls := "SealCasts", name := "layTrees", desc := "(I)V" } : Jvm.MethodName) prog_1_method_69_code (5 : Nat) (Option.none : Option Jvm.ClassFile.FieldType)) ∈ lw_all := lw_g (lw_at lw_m6 224 rfl) rfl
theorem q1533 : (Jvm.Cond.methodLink "SealCasts" (338 : Nat) ({ cls := "SealCasts", name := "layFrom", desc := "(II)Z" } : Jvm.MethodName)) ∈ lw_all := lw_g (lw_at lw_m6 225 rfl) rfl
theorem q1534 : (Jvm.Cond.privateMethod ({ cls := "SealCasts", name := "layFrom", desc := "(II)Z" } : Jvm.MethodName)) ∈ lw_tbl := lw_at lw_m6 226 rfl
theorem q1535 : (Jvm.Cond.instanceMethod ({ cls := "SealCasts", name := "layFrom", desc := "(II)Z" } : Jvm.MethodName)) ∈ lw_all := lw_g (lw_at lw_m6 227 rfl) rfl
theorem q1536 : (Jvm.Cond.code ({ cls := "SealCasts", name := "layFrom", desc := "(II)Z" } : Jvm.MethodName) prog_1_method_67_code (6 : Nat) (Option.some Jvm.ClassFile.FieldType.boolean)) ∈ lw_all := lw_g (lw_at lw_m6 228 rfl) rfl
theorem q1537 : (Jvm.Cond.methodLink "SealCasts" (341 : Nat) ({ cls := "SealCasts", name := "isTree", desc := "(I)Z" } : Jvm.MethodName)) ∈ lw_all := lw_g (lw_at lw_m6 229 rfl) rfl
theorem q1538 : (Jvm.Cond.privateMethod ({ cls := "SealCasts", name := "isTree", desc := "(I)Z" } : Jvm.MethodName)) ∈ lw_tbl := lw_at lw_m6 230 rfl
theorem q1539 : (Jvm.Cond.instanceMethod ({ cls := "SealCasts", name := "isTree", desc := "(I)Z" } : Jvm.MethodName)) ∈ lw_all := lw_g (lw_at lw_m6 231 rfl) rfl
theorem q1540 : (Jvm.Cond.code ({ cls := "SealCasts", name := "isTree", desc := "(I)Z" } : Jvm.MethodName) prog_1_method_66_code (6 : Nat) (Option.some Jvm.ClassFile.FieldType.boolean)) ∈ lw_all := lw_g (lw_at lw_m6 232 rfl) rfl
theorem q1541 : (Jvm.Cond.methodLink "SealCasts" (344 : Nat) ({ cls := "SealCasts", name := "allChanges", desc := "(I)I" } : Jvm.MethodName)) ∈ lw_all := lw_g (lw_at lw_m6 233 rfl) rfl
theorem q1542 : (Jvm.Cond.privateMethod ({ cls := "SealCasts", name := "allChanges", desc := "(I)I" } : Jvm.MethodName)) ∈ lw_tbl := lw_at lw_m6 234 rfl
theorem q1543 : (Jvm.Cond.instanceMethod ({ cls := "SealCasts", name := "allChanges", desc := "(I)I" } : Jvm.MethodName)) ∈ lw_all := lw_g (lw_at lw_m6 235 rfl) rfl
theorem q1544 : (Jvm.Cond.code ({ cls := "SealCasts", name := "allChanges", desc := "(I)I" } : Jvm.MethodName) prog_1_method_68_code (4 : Nat) (Option.some Jvm.ClassFile.FieldType.int)) ∈ lw_all := lw_g (lw_at lw_m6 236 rfl) rfl
theorem q1545 : (Jvm.Cond.methodLink "SealCasts" (329 : Nat) ({ cls := "SealCasts", name := "changes", desc := "(II)I" } : Jvm.MethodName)) ∈ lw_all := lw_g (lw_at lw_m6 237 rfl) rfl
theorem q1546 : (Jvm.Cond.privateMethod ({ cls := "SealCasts", name := "changes", desc := "(II)I" } : Jvm.MethodName)) ∈ lw_tbl := lw_at lw_m6 238 rfl
theorem q1547 : (Jvm.Cond.instanceMethod ({ cls := "SealCasts", name := "changes", desc := "(II)I" } : Jvm.MethodName)) ∈ lw_all := lw_g (lw_at lw_m6 239 rfl) rfl
theorem q1548 : (Jvm.Cond.code ({ cls := "SealCasts", name := "changes", desc := "(II)I" } : Jvm.MethodName) prog_1_method_65_code (5 : Nat) (Option.some Jvm.ClassFile.FieldType.int)) ∈ lw_all := lw_g (lw_at lw_m7 0 rfl) rfl
theorem q1550 : (Jvm.Cond.instanceMethod ({ cls := "SealCasts", name := "centre", desc := "(II)I" } : Jvm.MethodName)) ∈ lw_all := lw_g (lw_at lw_m7 2 rfl) rfl
theorem q1551 : (Jvm.Cond.selects "SealCasts" ({ cls := "SealCasts", name := "centre", desc := "(II)I" } : Jvm.MethodName) ({ cls := "SealCasts", name := "centre", desc := "(II)I" } : Jvm.MethodName)) ∈ lw_all := lw_g (lw_at lw_m7 3 rfl) rfl
theorem q1552 : (Jvm.Cond.code ({ cls := "SealCasts", name := "centre", desc := "(II)I" } : Jvm.MethodName) prog_1_method_72_code (5 : Nat) (Option.some Jvm.ClassFile.FieldType.int)) ∈ lw_all := lw_g (lw_at lw_m7 4 rfl) rfl
theorem q1553 : (Jvm.Cond.methodLink "SealCasts" (353 : Nat) ({ cls := "SealCasts", name := "changesFrom", desc := "(I)I" } : Jvm.MethodName)) ∈ lw_all := lw_g (lw_at lw_m7 5 rfl) rfl
theorem q1554 : (Jvm.Cond.privateMethod ({ cls := "SealCasts", name := "changesFrom", desc := "(I)I" } : Jvm.MethodName)) ∈ lw_tbl := lw_at lw_m7 6 rfl
theorem q1555 : (Jvm.Cond.instanceMethod ({ cls := "SealCasts", name := "changesFrom", desc := "(I)I" } : Jvm.MethodName)) ∈ lw_all := lw_g (lw_at lw_m7 7 rfl) rfl
theorem q1556 : (Jvm.Cond.code ({ cls := "SealCasts", name := "changesFrom", desc := "(I)I" } : Jvm.MethodName) prog_1_method_71_code (4 : Nat) (Option.some Jvm.ClassFile.FieldType.int)) ∈ lw_all := lw_g (lw_at lw_m7 8 rfl) rfl
theorem q1558 : (Jvm.Cond.instanceMethod ({ cls := "SealCasts", name := "clans", desc := "(III)I" } : Jvm.MethodName)) ∈ lw_all := lw_g (lw_at lw_m7 10 rfl) rfl
theorem q1559 : (Jvm.Cond.selects "SealCasts" ({ cls := "SealCasts", name := "clans", desc := "(III)I" } : Jvm.MethodName) ({ cls := "SealCasts", name := "clans", desc := "(III)I" } : Jvm.MethodName)) ∈ lw_all := lw_g (lw_at lw_m7 11 rfl) rfl
theorem q1560 : (Jvm.Cond.code ({ cls := "SealCasts", name := "clans", desc := "(III)I" } : Jvm.MethodName) prog_1_method_74_code (9 : Nat) (Option.some Jvm.ClassFile.FieldType.int)) ∈ lw_all := lw_g (lw_at lw_m7 12 rfl) rfl
theorem q1561 : (Jvm.Cond.methodLink "SealCasts" (356 : Nat) ({ cls := "SealCasts", name := "clan", desc := "(II)I" } : Jvm.MethodName)) ∈ lw_all := lw_g (lw_at lw_m7 13 rfl) rfl
theorem q1562 : (Jvm.Cond.privateMethod ({ cls := "SealCasts", name := "clan", desc := "(II)I" } : Jvm.MethodName)) ∈ lw_tbl := lw_at lw_m7 14 rfl
theorem q1563 : (Jvm.Cond.instanceMethod ({ cls := "SealCasts", name := "clan", desc := "(II)I" } : Jvm.MethodName)) ∈ lw_all := lw_g (lw_at lw_m7 15 rfl) rfl
theorem q1564 : (Jvm.Cond.code ({ cls := "SealCasts", name := "clan", desc := "(II)I" } : Jvm.MethodName) prog_1_method_73_code (7 : Nat) (Option.some Jvm.ClassFile.FieldType.int)) ∈ lw_all := lw_g (lw_at lw_m7 16 rfl) rfl
theorem q1565 : (Jvm.Cond.methodLink "SealCasts" (359 : Nat) ({ cls := "java/lang/Math", name := "max", desc := "(II)I" } : Jvm.MethodName)) ∈ lw_all := lw_g (lw_at lw_m7 17 rfl) rfl
theorem q1567 : (Jvm.Cond.instanceMethod ({ cls := "SealCasts", name := "origin", desc := "(II)I" } : Jvm.MethodName)) ∈ lw_all := lw_g (lw_at lw_m7 19 rfl) rfl
theorem q1568 : (Jvm.Cond.selects "SealCasts" ({ cls := "SealCasts", name := "origin", desc := "(II)I" } : Jvm.MethodName) ({ cls := "SealCasts", name := "origin", desc := "(II)I" } : Jvm.MethodName)) ∈ lw_all := lw_g (lw_at lw_m7 20 rfl) rfl
theorem q1569 : (Jvm.Cond.code ({ cls := "SealCasts", name := "origin", desc := "(II)I" } : Jvm.MethodName) prog_1_method_75_code (11 : Nat) (Option.some Jvm.ClassFile.FieldType.int)) ∈ lw_all := lw_g (lw_at lw_m7 21 rfl) rfl
theorem q1571 : (Jvm.Cond.instanceMethod ({ cls := "SealCasts", name := "falses", desc := "(I)I" } : Jvm.MethodName)) ∈ lw_all := lw_g (lw_at lw_m7 23 rfl) rfl
theorem q1572 : (Jvm.Cond.selects "SealCasts" ({ cls := "SealCasts", name := "falses", desc := "(I)I" } : Jvm.MethodName) ({ cls := "SealCasts", name := "falses", desc := "(I)I" } : Jvm.MethodName)) ∈ lw_all := lw_g (lw_at lw_m7 24 rfl) rfl
theorem q1573 : (Jvm.Cond.code ({ cls := "SealCasts", name := "falses", desc := "(I)I" } : Jvm.MethodName) prog_1_method_76_code (4 : Nat) (Option.some Jvm.ClassFile.FieldType.int)) ∈ lw_all := lw_g (lw_at lw_m7 25 rfl) rfl
theorem q1574 : (Jvm.Cond.methodLink "SealCasts" (366 : Nat) ({ cls := "SealCasts$Claim", name := "isFalse", desc := "(LSealCasts;)Z" } : Jvm.MethodName)) ∈ lw_all := lw_g (lw_at lw_m7 26 rfl) rfl
theorem q1580 : (Jvm.Cond.instanceMethod ({ cls := "SealCasts", name := "span", desc := "(III)I" } : Jvm.MethodName)) ∈ lw_all := lw_g (lw_at lw_m7 32 rfl) rfl
theorem q1581 : (Jvm.Cond.selects "SealCasts" ({ cls := "SealCasts", name := "span", desc := "(III)I" } : Jvm.MethodName) ({ cls := "SealCasts", name := "span", desc := "(III)I" } : Jvm.MethodName)) ∈ lw_all := lw_g (lw_at lw_m7 33 rfl) rfl
theorem q1582 : (Jvm.Cond.code ({ cls := "SealCasts", name := "span", desc := "(III)I" } : Jvm.MethodName) prog_1_method_77_code (8 : Nat) (Option.some Jvm.ClassFile.FieldType.int)) ∈ lw_all := lw_g (lw_at lw_m7 34 rfl) rfl
theorem q1584 : (Jvm.Cond.instanceMethod ({ cls := "SealCasts", name := "backward", desc := "(II)I" } : Jvm.MethodName)) ∈ lw_all := lw_g (lw_at lw_m7 36 rfl) rfl
theorem q1585 : (Jvm.Cond.selects "SealCasts" ({ cls := "SealCasts", name := "backward", desc := "(II)I" } : Jvm.MethodName) ({ cls := "SealCasts", name := "backward", desc := "(II)I" } : Jvm.MethodName)) ∈ lw_all := lw_g (lw_at lw_m7 37 rfl) rfl
theorem q1586 : (Jvm.Cond.code ({ cls := "SealCasts", name := "backward", desc := "(II)I" } : Jvm.MethodName) prog_1_method_80_code (3 : Nat) (Option.some Jvm.ClassFile.FieldType.int)) ∈ lw_all := lw_g (lw_at lw_m7 38 rfl) rfl
theorem q1587 : (Jvm.Cond.methodLink "SealCasts" (389 : Nat) ({ cls := "SealCasts", name := "layLinks", desc := "(I)Z" } : Jvm.MethodName)) ∈ lw_all := lw_g (lw_at lw_m7 39 rfl) rfl
theorem q1588 : (Jvm.Cond.privateMethod ({ cls := "SealCasts", name := "layLinks", desc := "(I)Z" } : Jvm.MethodName)) ∈ lw_tbl := lw_at lw_m7 40 rfl
theorem q1589 : (Jvm.Cond.instanceMethod ({ cls := "SealCasts", name := "layLinks", desc := "(I)Z" } : Jvm.MethodName)) ∈ lw_all := lw_g (lw_at lw_m7 41 rfl) rfl
theorem q1590 : (Jvm.Cond.code ({ cls := "SealCasts", name := "layLinks", desc := "(I)Z" } : Jvm.MethodName) prog_1_method_78_code (6 : Nat) (Option.some Jvm.ClassFile.FieldType.boolean)) ∈ lw_all := lw_g (lw_at lw_m7 42 rfl) rfl
theorem q1591 : (Jvm.Cond.methodLink "SealCasts" (385 : Nat) ({ cls := "SealCasts", name := "join", desc := "(III)V" } : Jvm.MethodName)) ∈ lw_all := lw_g (lw_at lw_m7 43 rfl) rfl
theorem q1592 : (Jvm.Cond.privateMethod ({ cls := "SealCasts", name := "join", desc := "(III)V" } : Jvm.MethodName)) ∈ lw_tbl := lw_at lw_m7 44 rfl
theorem q1593 : (Jvm.Cond.instanceMethod ({ cls := "SealCasts", name := "join", desc := "(III)V" } : Jvm.MethodName)) ∈ lw_all := lw_g (lw_at lw_m7 45 rfl) rfl
theorem q1594 : (Jvm.Cond.code ({ cls := "SealCasts", name := "join", desc := "(III)V" } : Jvm.MethodName) prog_1_method_79_code (5 : Nat) (Option.none : Option Jvm.ClassFile.FieldType)) ∈ lw_all := lw_g (lw_at lw_m7 46 rfl) rfl
theorem q1596 : (Jvm.Cond.instanceMethod ({ cls := "SealCasts", name := "lies", desc := "(I)I" } : Jvm.MethodName)) ∈ lw_all := lw_g (lw_at lw_m7 48 rfl) rfl
theorem q1597 : (Jvm.Cond.selects "SealCasts" ({ cls := "SealCasts", name := "lies", desc := "(I)I" } : Jvm.MethodName) ({ cls := "SealCasts", name := "lies", desc := "(I)I" } : Jvm.MethodName)) ∈ lw_all := lw_g (lw_at lw_m7 49 rfl) rfl
theorem q1598 : (Jvm.Cond.code ({ cls := "SealCasts", name := "lies", desc := "(I)I" } : Jvm.MethodName) prog_1_method_81_code (2 : Nat) (Option.some Jvm.ClassFile.FieldType.int)) ∈ lw_all := lw_g (lw_at lw_m7 50 rfl) rfl
theorem q1600 : (Jvm.Cond.instanceMethod ({ cls := "SealCasts", name := "image", desc := "(I)I" } : Jvm.MethodName)) ∈ lw_all := lw_g (lw_at lw_m7 52 rfl) rfl
theorem q1601 : (Jvm.Cond.selects "SealCasts" ({ cls := "SealCasts", name := "image", desc := "(I)I" } : Jvm.MethodName) ({ cls := "SealCasts", name := "image", desc := "(I)I" } : Jvm.MethodName)) ∈ lw_all := lw_g (lw_at lw_m7 53 rfl) rfl
theorem q1602 : (Jvm.Cond.code ({ cls := "SealCasts", name := "image", desc := "(I)I" } : Jvm.MethodName) prog_1_method_83_code (2 : Nat) (Option.some Jvm.ClassFile.FieldType.int)) ∈ lw_all := lw_g (lw_at lw_m7 54 rfl) rfl
theorem q1603 : (Jvm.Cond.methodLink "SealCasts" (392 : Nat) ({ cls := "SealCasts", name := "isBox", desc := "(I)Z" } : Jvm.MethodName)) ∈ lw_all := lw_g (lw_at lw_m7 55 rfl) rfl
theorem q1604 : (Jvm.Cond.static ({ cls := "SealCasts", name := "isBox", desc := "(I)Z" } : Jvm.MethodName)) ∈ lw_all := lw_g (lw_at lw_m7 56 rfl) rfl
theorem q1605 : (Jvm.Cond.code ({ cls := "SealCasts", name := "isBox", desc := "(I)Z" } : Jvm.MethodName) prog_1_method_82_code (1 : Nat) (Option.some Jvm.ClassFile.FieldType.boolean)) ∈ lw_all := lw_g (lw_at lw_m7 57 rfl) rfl
theorem q1607 : (Jvm.Cond.instanceMethod ({ cls := "SealCasts", name := "back", desc := "(I)I" } : Jvm.MethodName)) ∈ lw_all := lw_g (lw_at lw_m7 59 rfl) rfl
theorem q1608 : (Jvm.Cond.selects "SealCasts" ({ cls := "SealCasts", name := "back", desc := "(I)I" } : Jvm.MethodName) ({ cls := "SealCasts", name := "back", desc := "(I)I" } : Jvm.MethodName)) ∈ lw_all := lw_g (lw_at lw_m7 60 rfl) rfl
theorem q1609 : (Jvm.Cond.code ({ cls := "SealCasts", name := "back", desc := "(I)I" } : Jvm.MethodName) prog_1_method_84_code (2 : Nat) (Option.some Jvm.ClassFile.FieldType.int)) ∈ lw_all := lw_g (lw_at lw_m7 61 rfl) rfl
theorem q1611 : (Jvm.Cond.instanceMethod ({ cls := "SealCasts", name := "about", desc := "(I)I" } : Jvm.MethodName)) ∈ lw_all := lw_g (lw_at lw_m7 63 rfl) rfl
theorem q1612 : (Jvm.Cond.selects "SealCasts" ({ cls := "SealCasts", name := "about", desc := "(I)I" } : Jvm.MethodName) ({ cls := "SealCasts", name := "about", desc := "(I)I" } : Jvm.MethodName)) ∈ lw_all := lw_g (lw_at lw_m7 64 rfl) rfl
theorem q1613 : (Jvm.Cond.code ({ cls := "SealCasts", name := "about", desc := "(I)I" } : Jvm.MethodName) prog_1_method_85_code (2 : Nat) (Option.some Jvm.ClassFile.FieldType.int)) ∈ lw_all := lw_g (lw_at lw_m7 65 rfl) rfl
theorem q2293 : (Jvm.Cond.castable "SealCasts" "java/lang/Object") ∈ lw_tbl := lw_at lw_m10 25 rfl
theorem in_X0 : ∀ w ∈ wsX00, w ∈ lw_all := lw_in wsX00 [362, 364, 366, 368, 370, 372, 374, 376, 378, 380, 382, 384, 386, 388, 390, 392, 394, 396, 398, 400, 402, 404, 406, 408, 410, 412, 414, 416, 418, 420, 422] (by decide +kernel) (by decide +kernel)

