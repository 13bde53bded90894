/-! LINKS: the words of calls and fields, by program (gen/mklinks.py) -/
set_option maxRecDepth 100000
theorem wl_X0_49 : GoodIn lw_all (va_wsS RX0 49 yX0_in (ws_ yX0_in cX0_in 6 (some .boolean))) := lw_S q192 q193 q60 q194
theorem wd_X0_X0_in : yX0_in.cls ≠ "java/lang/invoke/MethodHandle" ∧ yX0_in.cls ≠ "java/lang/invoke/VarHandle" ∧ (parseMethodDescriptor yX0_in.desc).map (fun d => d.parameters.length) = some 3 := by decide +kernel
theorem wl_X0_53 : GoodIn lw_all (va_wsS RX0 53 yX0_hasOf (ws_ yX0_hasOf cX0_hasOf 2 (some .int))) := lw_S q246 q247 q60 q248
theorem wd_X0_X0_hasOf : yX0_hasOf.cls ≠ "java/lang/invoke/MethodHandle" ∧ yX0_hasOf.cls ≠ "java/lang/invoke/VarHandle" ∧ (parseMethodDescriptor yX0_hasOf.desc).map (fun d => d.parameters.length) = some 2 := by decide +kernel
theorem wl_X0_57 : GoodIn lw_all (va_wsS RX0 57 yX0_isIn (ws_ yX0_isIn cX0_isIn 2 (some .boolean))) := lw_S q249 q250 q60 q251
theorem wd_X0_X0_isIn : yX0_isIn.cls ≠ "java/lang/invoke/MethodHandle" ∧ yX0_isIn.cls ≠ "java/lang/invoke/VarHandle" ∧ (parseMethodDescriptor yX0_isIn.desc).map (fun d => d.parameters.length) = some 2 := by decide +kernel
theorem wl_X0_61 : GoodIn lw_all (wsV RX0 61 RX0 yX0_all (ws_ yX0_all cX0_all 1 (some .int))) := lw_V q302 q304 qs5 q60 q305
theorem wd_X0_X0_all : yX0_all.cls = RX0 ∧ yX0_all.cls ≠ "java/lang/invoke/MethodHandle" ∧ yX0_all.cls ≠ "java/lang/invoke/VarHandle" ∧ (parseMethodDescriptor yX0_all.desc).map (fun d => d.parameters.length) = some 0 := by decide +kernel
theorem wl_X0_71 : GoodIn lw_all (wsV RX0 71 RX0 yX0_atFirst (ws_ yX0_atFirst cX0_atFirst 3 (some .int))) := lw_V q209 q211 qs2 q60 q212
theorem wd_X0_X0_atFirst : yX0_atFirst.cls = RX0 ∧ yX0_atFirst.cls ≠ "java/lang/invoke/MethodHandle" ∧ yX0_atFirst.cls ≠ "java/lang/invoke/VarHandle" ∧ (parseMethodDescriptor yX0_atFirst.desc).map (fun d => d.parameters.length) = some 0 := by decide +kernel
theorem wl_X0_89 : GoodIn lw_all (wsV RX0 89 RX0 yX0_noPerson (ws_ yX0_noPerson cX0_noPerson 2 (some .boolean))) := lw_V q188 q190 qs0 q60 q191
theorem wd_X0_X0_noPerson : yX0_noPerson.cls = RX0 ∧ yX0_noPerson.cls ≠ "java/lang/invoke/MethodHandle" ∧ yX0_noPerson.cls ≠ "java/lang/invoke/VarHandle" ∧ (parseMethodDescriptor yX0_noPerson.desc).map (fun d => d.parameters.length) = some 1 := by decide +kernel
theorem wl_X0_93 : GoodIn lw_all (wsV RX0 93 RX0 yX0_secretsNow (ws_ yX0_secretsNow cX0_secretsNow 1 (some .int))) := lw_V q195 q197 qs1 q60 q198
theorem wd_X0_X0_secretsNow : yX0_secretsNow.cls = RX0 ∧ yX0_secretsNow.cls ≠ "java/lang/invoke/MethodHandle" ∧ yX0_secretsNow.cls ≠ "java/lang/invoke/VarHandle" ∧ (parseMethodDescriptor yX0_secretsNow.desc).map (fun d => d.parameters.length) = some 0 := by decide +kernel
theorem wl_X0_96 : GoodIn lw_all (wsV RX0 96 RX0 yX0_numbersOf (ws_ yX0_numbersOf cX0_numbersOf 5 (some .int))) := lw_V q242 q244 qs3 q60 q245
theorem wd_X0_X0_numbersOf : yX0_numbersOf.cls = RX0 ∧ yX0_numbersOf.cls ≠ "java/lang/invoke/MethodHandle" ∧ yX0_numbersOf.cls ≠ "java/lang/invoke/VarHandle" ∧ (parseMethodDescriptor yX0_numbersOf.desc).map (fun d => d.parameters.length) = some 2 := by decide +kernel
theorem wl_X0_99 : GoodIn lw_all (wsV RX0 99 RX0 yX0_tokensNow (ws_ yX0_tokensNow cX0_tokensNow 1 (some .int))) := lw_V q252 q254 qs4 q60 q255
theorem wd_X0_X0_tokensNow : yX0_tokensNow.cls = RX0 ∧ yX0_tokensNow.cls ≠ "java/lang/invoke/MethodHandle" ∧ yX0_tokensNow.cls ≠ "java/lang/invoke/VarHandle" ∧ (parseMethodDescriptor yX0_tokensNow.desc).map (fun d => d.parameters.length) = some 0 := by decide +kernel
theorem wl_X0_102 : GoodIn lw_all (va_wsS RX0 102 yX0_tokensBehind (ws_ yX0_tokensBehind cX0_tokensBehind 5 (some .int))) := lw_S q256 q257 q60 q258
theorem wd_X0_X0_tokensBehind : yX0_tokensBehind.cls ≠ "java/lang/invoke/MethodHandle" ∧ yX0_tokensBehind.cls ≠ "java/lang/invoke/VarHandle" ∧ (parseMethodDescriptor yX0_tokensBehind.desc).map (fun d => d.parameters.length) = some 3 := by decide +kernel
theorem wl_X0_119 : GoodIn lw_all (wsV RX0 119 RX5 yX5_tells (ws_ yX5_tells cX5_tells 2 (some .int))) := lw_V q418 q419 q420 q82 q424
theorem wd_X0_X5_tells : yX5_tells.cls = RX5 ∧ yX5_tells.cls ≠ "java/lang/invoke/MethodHandle" ∧ yX5_tells.cls ≠ "java/lang/invoke/VarHandle" ∧ (parseMethodDescriptor yX5_tells.desc).map (fun d => d.parameters.length) = some 1 := by decide +kernel
theorem wl_X0_131 : GoodIn lw_all (wsV RX0 131 RX4 yX4_doesRead (ws_ yX4_doesRead cX4_doesRead 2 (some .boolean))) := lw_V q969 q970 q971 q79 q972
theorem wd_X0_X4_doesRead : yX4_doesRead.cls = RX4 ∧ yX4_doesRead.cls ≠ "java/lang/invoke/MethodHandle" ∧ yX4_doesRead.cls ≠ "java/lang/invoke/VarHandle" ∧ (parseMethodDescriptor yX4_doesRead.desc).map (fun d => d.parameters.length) = some 0 := by decide +kernel
theorem wl_X0_154 : GoodIn lw_all (va_wsS RX0 154 yX0_tokensOf (ws_ yX0_tokensOf cX0_tokensOf 2 (some .int))) := lw_S q470 q471 q60 q472
theorem wd_X0_X0_tokensOf : yX0_tokensOf.cls ≠ "java/lang/invoke/MethodHandle" ∧ yX0_tokensOf.cls ≠ "java/lang/invoke/VarHandle" ∧ (parseMethodDescriptor yX0_tokensOf.desc).map (fun d => d.parameters.length) = some 2 := by decide +kernel
theorem wl_X0_157 : GoodIn lw_all (va_wsS RX0 157 yX0_noRule (ws_ yX0_noRule cX0_noRule 1 (some .boolean))) := lw_S q462 q463 q60 q464
theorem wd_X0_X0_noRule : yX0_noRule.cls ≠ "java/lang/invoke/MethodHandle" ∧ yX0_noRule.cls ≠ "java/lang/invoke/VarHandle" ∧ (parseMethodDescriptor yX0_noRule.desc).map (fun d => d.parameters.length) = some 1 := by decide +kernel
theorem wl_X0_160 : GoodIn lw_all (wsV RX0 160 RX0 yX0_mayRing (ws_ yX0_mayRing cX0_mayRing 7 (some .boolean))) := lw_V q466 q468 qs10 q60 q469
theorem wd_X0_X0_mayRing : yX0_mayRing.cls = RX0 ∧ yX0_mayRing.cls ≠ "java/lang/invoke/MethodHandle" ∧ yX0_mayRing.cls ≠ "java/lang/invoke/VarHandle" ∧ (parseMethodDescriptor yX0_mayRing.desc).map (fun d => d.parameters.length) = some 5 := by decide +kernel
theorem wl_X0_164 : GoodIn lw_all (va_wsS RX0 164 yX0_stateOf (ws_ yX0_stateOf cX0_stateOf 5 (some .int))) := lw_S q486 q487 q60 q488
theorem wd_X0_X0_stateOf : yX0_stateOf.cls ≠ "java/lang/invoke/MethodHandle" ∧ yX0_stateOf.cls ≠ "java/lang/invoke/VarHandle" ∧ (parseMethodDescriptor yX0_stateOf.desc).map (fun d => d.parameters.length) = some 3 := by decide +kernel
theorem wl_X0_170 : GoodIn lw_all (va_wsS RX0 170 yX0_behind (ws_ yX0_behind cX0_behind 4 (some .int))) := lw_S q489 q265 q60 q266
theorem wd_X0_X0_behind : yX0_behind.cls ≠ "java/lang/invoke/MethodHandle" ∧ yX0_behind.cls ≠ "java/lang/invoke/VarHandle" ∧ (parseMethodDescriptor yX0_behind.desc).map (fun d => d.parameters.length) = some 3 := by decide +kernel
theorem wl_X0_173 : GoodIn lw_all (wsV RX0 173 RX0 yX0_lay (ws_ yX0_lay cX0_lay 14 (some .int))) := lw_V q482 q484 qs12 q60 q485
theorem wd_X0_X0_lay : yX0_lay.cls = RX0 ∧ yX0_lay.cls ≠ "java/lang/invoke/MethodHandle" ∧ yX0_lay.cls ≠ "java/lang/invoke/VarHandle" ∧ (parseMethodDescriptor yX0_lay.desc).map (fun d => d.parameters.length) = some 3 := by decide +kernel
theorem wl_X0_176 : GoodIn lw_all (va_wsS RX0 176 yJ13_min (ws_ yJ13_min cJ13_min 2 (some .int))) := lw_S q490 q407 q78 q408
theorem wd_X0_J13_min : yJ13_min.cls ≠ "java/lang/invoke/MethodHandle" ∧ yJ13_min.cls ≠ "java/lang/invoke/VarHandle" ∧ (parseMethodDescriptor yJ13_min.desc).map (fun d => d.parameters.length) = some 2 := by decide +kernel
theorem wl_X0_181 : GoodIn lw_all (va_wsS RX0 181 yJ13_max (ws_ yJ13_max cJ13_max 2 (some .int))) := lw_S q491 q368 q78 q369
theorem wd_X0_J13_max : yJ13_max.cls ≠ "java/lang/invoke/MethodHandle" ∧ yJ13_max.cls ≠ "java/lang/invoke/VarHandle" ∧ (parseMethodDescriptor yJ13_max.desc).map (fun d => d.parameters.length) = some 2 := by decide +kernel
theorem wl_X0_184 : GoodIn lw_all (wsV RX0 184 RX0 yX0_areExperts (ws_ yX0_areExperts cX0_areExperts 4 (some .boolean))) := lw_V q492 q494 qs13 q60 q495
theorem wd_X0_X0_areExperts : yX0_areExperts.cls = RX0 ∧ yX0_areExperts.cls ≠ "java/lang/invoke/MethodHandle" ∧ yX0_areExperts.cls ≠ "java/lang/invoke/VarHandle" ∧ (parseMethodDescriptor yX0_areExperts.desc).map (fun d => d.parameters.length) = some 1 := by decide +kernel
theorem wl_X0_189 : GoodIn lw_all (wsV RX0 189 RX0 yX0_layNow (ws_ yX0_layNow cX0_layNow 2 (some .int))) := lw_V q478 q480 qs11 q60 q481
theorem wd_X0_X0_layNow : yX0_layNow.cls = RX0 ∧ yX0_layNow.cls ≠ "java/lang/invoke/MethodHandle" ∧ yX0_layNow.cls ≠ "java/lang/invoke/VarHandle" ∧ (parseMethodDescriptor yX0_layNow.desc).map (fun d => d.parameters.length) = some 1 := by decide +kernel
theorem wl_X0_192 : GoodIn lw_all (wsV RX0 192 RX0 yX0_verdictAt (ws_ yX0_verdictAt cX0_verdictAt 2 (some .int))) := lw_V q500 q502 qs14 q60 q503
theorem wd_X0_X0_verdictAt : yX0_verdictAt.cls = RX0 ∧ yX0_verdictAt.cls ≠ "java/lang/invoke/MethodHandle" ∧ yX0_verdictAt.cls ≠ "java/lang/invoke/VarHandle" ∧ (parseMethodDescriptor yX0_verdictAt.desc).map (fun d => d.parameters.length) = some 1 := by decide +kernel
theorem wl_X0_211 : GoodIn lw_all (wsV RX0 211 RX0 yX0_seesSame (ws_ yX0_seesSame cX0_seesSame 8 (some .boolean))) := lw_V q529 q531 qs17 q60 q532
theorem wd_X0_X0_seesSame : yX0_seesSame.cls = RX0 ∧ yX0_seesSame.cls ≠ "java/lang/invoke/MethodHandle" ∧ yX0_seesSame.cls ≠ "java/lang/invoke/VarHandle" ∧ (parseMethodDescriptor yX0_seesSame.desc).map (fun d => d.parameters.length) = some 5 := by decide +kernel
theorem wl_X0_215 : GoodIn lw_all (wsV RX0 215 RX0 yX0_layAlike (ws_ yX0_layAlike cX0_layAlike 7 none)) := lw_V q525 q527 qs16 q60 q528
theorem wd_X0_X0_layAlike : yX0_layAlike.cls = RX0 ∧ yX0_layAlike.cls ≠ "java/lang/invoke/MethodHandle" ∧ yX0_layAlike.cls ≠ "java/lang/invoke/VarHandle" ∧ (parseMethodDescriptor yX0_layAlike.desc).map (fun d => d.parameters.length) = some 3 := by decide +kernel
theorem wl_X0_220 : GoodIn lw_all (wsV RX0 220 RX0 yX0_layKnown (ws_ yX0_layKnown cX0_layKnown 2 none)) := lw_V q520 q522 qs15 q60 q523
theorem wd_X0_X0_layKnown : yX0_layKnown.cls = RX0 ∧ yX0_layKnown.cls ≠ "java/lang/invoke/MethodHandle" ∧ yX0_layKnown.cls ≠ "java/lang/invoke/VarHandle" ∧ (parseMethodDescriptor yX0_layKnown.desc).map (fun d => d.parameters.length) = some 1 := by decide +kernel
theorem wl_X0_224 : GoodIn lw_all (wsV RX0 224 RX0 yX0_cameTo (ws_ yX0_cameTo cX0_cameTo 8 (some .int))) := lw_V q553 q555 qs19 q60 q556
theorem wd_X0_X0_cameTo : yX0_cameTo.cls = RX0 ∧ yX0_cameTo.cls ≠ "java/lang/invoke/MethodHandle" ∧ yX0_cameTo.cls ≠ "java/lang/invoke/VarHandle" ∧ (parseMethodDescriptor yX0_cameTo.desc).map (fun d => d.parameters.length) = some 2 := by decide +kernel
theorem wl_X0_228 : GoodIn lw_all (wsV RX0 228 RX0 yX0_isJoined (ws_ yX0_isJoined cX0_isJoined 1 (some .boolean))) := lw_V q549 q551 qs18 q60 q552
theorem wd_X0_X0_isJoined : yX0_isJoined.cls = RX0 ∧ yX0_isJoined.cls ≠ "java/lang/invoke/MethodHandle" ∧ yX0_isJoined.cls ≠ "java/lang/invoke/VarHandle" ∧ (parseMethodDescriptor yX0_isJoined.desc).map (fun d => d.parameters.length) = some 0 := by decide +kernel
theorem wl_X0_252 : GoodIn lw_all (wsV RX0 252 RX0 yX0_layNet (ws_ yX0_layNet cX0_layNet 6 none)) := lw_V q637 q639 qs21 q60 q640
theorem wd_X0_X0_layNet : yX0_layNet.cls = RX0 ∧ yX0_layNet.cls ≠ "java/lang/invoke/MethodHandle" ∧ yX0_layNet.cls ≠ "java/lang/invoke/VarHandle" ∧ (parseMethodDescriptor yX0_layNet.desc).map (fun d => d.parameters.length) = some 2 := by decide +kernel
theorem wl_X0_256 : GoodIn lw_all (wsV RX0 256 RX0 yX0_verdictFirst (ws_ yX0_verdictFirst cX0_verdictFirst 2 (some .int))) := lw_V q641 q599 qs20 q60 q600
theorem wd_X0_X0_verdictFirst : yX0_verdictFirst.cls = RX0 ∧ yX0_verdictFirst.cls ≠ "java/lang/invoke/MethodHandle" ∧ yX0_verdictFirst.cls ≠ "java/lang/invoke/VarHandle" ∧ (parseMethodDescriptor yX0_verdictFirst.desc).map (fun d => d.parameters.length) = some 1 := by decide +kernel
theorem wl_X0_259 : GoodIn lw_all (wsV RX0 259 RX0 yX0_isWithin (ws_ yX0_isWithin cX0_isWithin 8 (some .boolean))) := lw_V q647 q649 qs22 q60 q650
theorem wd_X0_X0_isWithin : yX0_isWithin.cls = RX0 ∧ yX0_isWithin.cls ≠ "java/lang/invoke/MethodHandle" ∧ yX0_isWithin.cls ≠ "java/lang/invoke/VarHandle" ∧ (parseMethodDescriptor yX0_isWithin.desc).map (fun d => d.parameters.length) = some 4 := by decide +kernel
theorem wl_X0_274 : GoodIn lw_all (va_wsS RX0 274 yX0_noSheet (ws_ yX0_noSheet cX0_noSheet 1 (some .boolean))) := lw_S q742 q743 q60 q744
theorem wd_X0_X0_noSheet : yX0_noSheet.cls ≠ "java/lang/invoke/MethodHandle" ∧ yX0_noSheet.cls ≠ "java/lang/invoke/VarHandle" ∧ (parseMethodDescriptor yX0_noSheet.desc).map (fun d => d.parameters.length) = some 1 := by decide +kernel
theorem wl_X0_277 : GoodIn lw_all (wsV RX0 277 RX0 yX0_refused (ws_ yX0_refused cX0_refused 2 (some .int))) := lw_V q745 q747 qs25 q60 q748
theorem wd_X0_X0_refused : yX0_refused.cls = RX0 ∧ yX0_refused.cls ≠ "java/lang/invoke/MethodHandle" ∧ yX0_refused.cls ≠ "java/lang/invoke/VarHandle" ∧ (parseMethodDescriptor yX0_refused.desc).map (fun d => d.parameters.length) = some 1 := by decide +kernel
theorem wl_X0_282 : GoodIn lw_all (va_wsS RX0 282 yX0_rowOf (ws_ yX0_rowOf cX0_rowOf 2 (some (.object "java/lang/Object")))) := lw_S q751 q752 q60 q753
theorem wd_X0_X0_rowOf : yX0_rowOf.cls ≠ "java/lang/invoke/MethodHandle" ∧ yX0_rowOf.cls ≠ "java/lang/invoke/VarHandle" ∧ (parseMethodDescriptor yX0_rowOf.desc).map (fun d => d.parameters.length) = some 2 := by decide +kernel
theorem wl_X0_291 : GoodIn lw_all (wsV RX0 291 RX0 yX0_fails (ws_ yX0_fails cX0_fails 2 (some .int))) := lw_V q764 q766 qs26 q60 q767
theorem wd_X0_X0_fails : yX0_fails.cls = RX0 ∧ yX0_fails.cls ≠ "java/lang/invoke/MethodHandle" ∧ yX0_fails.cls ≠ "java/lang/invoke/VarHandle" ∧ (parseMethodDescriptor yX0_fails.desc).map (fun d => d.parameters.length) = some 1 := by decide +kernel
theorem wl_X0_294 : GoodIn lw_all (va_wsS RX0 294 yX0_setIn (ws_ yX0_setIn cX0_setIn 3 none)) := lw_S q820 q821 q60 q822
theorem wd_X0_X0_setIn : yX0_setIn.cls ≠ "java/lang/invoke/MethodHandle" ∧ yX0_setIn.cls ≠ "java/lang/invoke/VarHandle" ∧ (parseMethodDescriptor yX0_setIn.desc).map (fun d => d.parameters.length) = some 3 := by decide +kernel
theorem wl_X0_302 : GoodIn lw_all (wsV RX0 302 RX0 yX0_rowIn (ws_ yX0_rowIn cX0_rowIn 2 (some (.object "java/lang/Object")))) := lw_V q843 q845 qs27 q60 q846
theorem wd_X0_X0_rowIn : yX0_rowIn.cls = RX0 ∧ yX0_rowIn.cls ≠ "java/lang/invoke/MethodHandle" ∧ yX0_rowIn.cls ≠ "java/lang/invoke/VarHandle" ∧ (parseMethodDescriptor yX0_rowIn.desc).map (fun d => d.parameters.length) = some 1 := by decide +kernel
theorem wl_X0_305 : GoodIn lw_all (va_wsS RX0 305 yX0_cellOf (ws_ yX0_cellOf cX0_cellOf 3 (some .int))) := lw_S q847 q848 q60 q849
theorem wd_X0_X0_cellOf : yX0_cellOf.cls ≠ "java/lang/invoke/MethodHandle" ∧ yX0_cellOf.cls ≠ "java/lang/invoke/VarHandle" ∧ (parseMethodDescriptor yX0_cellOf.desc).map (fun d => d.parameters.length) = some 3 := by decide +kernel
theorem wl_X0_309 : GoodIn lw_all (wsV RX0 309 RX0 yX0_failsLong (ws_ yX0_failsLong cX0_failsLong 2 (some .long))) := lw_V q850 q852 qs28 q60 q853
theorem wd_X0_X0_failsLong : yX0_failsLong.cls = RX0 ∧ yX0_failsLong.cls ≠ "java/lang/invoke/MethodHandle" ∧ yX0_failsLong.cls ≠ "java/lang/invoke/VarHandle" ∧ (parseMethodDescriptor yX0_failsLong.desc).map (fun d => d.parameters.length) = some 1 := by decide +kernel
theorem wl_X0_320 : GoodIn lw_all (va_wsS RX0 320 yX0_sizeOf (ws_ yX0_sizeOf cX0_sizeOf 2 (some .int))) := lw_S q925 q926 q60 q927
theorem wd_X0_X0_sizeOf : yX0_sizeOf.cls ≠ "java/lang/invoke/MethodHandle" ∧ yX0_sizeOf.cls ≠ "java/lang/invoke/VarHandle" ∧ (parseMethodDescriptor yX0_sizeOf.desc).map (fun d => d.parameters.length) = some 2 := by decide +kernel
theorem wl_X0_324 : GoodIn lw_all (va_wsS RX0 324 yX0_need (ws_ yX0_need cX0_need 1 none)) := lw_S q928 q929 q60 q930
theorem wd_X0_X0_need : yX0_need.cls ≠ "java/lang/invoke/MethodHandle" ∧ yX0_need.cls ≠ "java/lang/invoke/VarHandle" ∧ (parseMethodDescriptor yX0_need.desc).map (fun d => d.parameters.length) = some 1 := by decide +kernel
theorem wl_X0_340 : GoodIn lw_all (wsV RX0 340 RX0 yX0_noRing (ws_ yX0_noRing cX0_noRing 2 (some .boolean))) := lw_V q1041 q1043 qs33 q60 q1044
theorem wd_X0_X0_noRing : yX0_noRing.cls = RX0 ∧ yX0_noRing.cls ≠ "java/lang/invoke/MethodHandle" ∧ yX0_noRing.cls ≠ "java/lang/invoke/VarHandle" ∧ (parseMethodDescriptor yX0_noRing.desc).map (fun d => d.parameters.length) = some 1 := by decide +kernel
theorem wl_X0_343 : GoodIn lw_all (wsV RX0 343 RX5 yX5_said (ws_ yX5_said cX5_said 1 (some .int))) := lw_V q1045 q1046 q1047 q82 q1086
theorem wd_X0_X5_said : yX5_said.cls = RX5 ∧ yX5_said.cls ≠ "java/lang/invoke/MethodHandle" ∧ yX5_said.cls ≠ "java/lang/invoke/VarHandle" ∧ (parseMethodDescriptor yX5_said.desc).map (fun d => d.parameters.length) = some 0 := by decide +kernel
-- no selects for <CallRounds$Logged|logged|()I>
theorem wl_X0_360 : GoodIn lw_all (va_wsS RX0 360 yJ18_bitCount (ws_ yJ18_bitCount cJ18_bitCount 1 (some .int))) := lw_S q1170 q1068 q92 q1069
theorem wd_X0_J18_bitCount : yJ18_bitCount.cls ≠ "java/lang/invoke/MethodHandle" ∧ yJ18_bitCount.cls ≠ "java/lang/invoke/VarHandle" ∧ (parseMethodDescriptor yJ18_bitCount.desc).map (fun d => d.parameters.length) = some 1 := by decide +kernel
theorem fl_X0_11 : Cond.fieldLink RX0 11 RX0 (TX0 1).2.1 (TX0 1).2.2.1 ∈ lw_all := q136
theorem fl_X0_18 : Cond.fieldLink RX0 18 RX0 (TX0 3).2.1 (TX0 3).2.2.1 ∈ lw_all := q139
theorem fl_X0_23 : Cond.fieldLink RX0 23 RX0 (TX0 4).2.1 (TX0 4).2.2.1 ∈ lw_all := q140
theorem fl_X0_26 : Cond.fieldLink RX0 26 RX0 (TX0 5).2.1 (TX0 5).2.2.1 ∈ lw_all := q141
theorem fl_X0_30 : Cond.fieldLink RX0 30 RX0 (TX0 6).2.1 (TX0 6).2.2.1 ∈ lw_all := q142
theorem fl_X0_33 : Cond.fieldLink RX0 33 RX0 (TX0 7).2.1 (TX0 7).2.2.1 ∈ lw_all := q143
theorem fl_X0_36 : Cond.fieldLink RX0 36 RX0 (TX0 8).2.1 (TX0 8).2.2.1 ∈ lw_all := q144
theorem fl_X0_41 : Cond.fieldLink RX0 41 RX0 (TX0 14).2.1 (TX0 14).2.2.1 ∈ lw_all := q151
theorem fl_X0_45 : Cond.fieldLink RX0 45 RX0 (TX0 0).2.1 (TX0 0).2.2.1 ∈ lw_all := q133
theorem fl_X0_83 : Cond.fieldLink RX0 83 RX5 (TX5 3).2.1 (TX5 3).2.2.1 ∈ lw_all := q279
theorem fl_X0_86 : Cond.fieldLink RX0 86 RX5 (TX5 4).2.1 (TX5 4).2.2.1 ∈ lw_all := q281
theorem fl_X0_167 : Cond.fieldLink RX0 167 RX0 (TX0 9).2.1 (TX0 9).2.2.1 ∈ lw_all := q145
theorem fl_X0_195 : Cond.fieldLink RX0 195 RX5 (TX5 1).2.1 (TX5 1).2.2.1 ∈ lw_all := q275
theorem fl_X0_198 : Cond.fieldLink RX0 198 RX5 (TX5 2).2.1 (TX5 2).2.2.1 ∈ lw_all := q277
theorem fl_X0_201 : Cond.fieldLink RX0 201 RX0 (TX0 10).2.1 (TX0 10).2.2.1 ∈ lw_all := q146
theorem fl_X0_204 : Cond.fieldLink RX0 204 RX0 (TX0 11).2.1 (TX0 11).2.2.1 ∈ lw_all := q147
theorem fl_X0_207 : Cond.fieldLink RX0 207 RX0 (TX0 12).2.1 (TX0 12).2.2.1 ∈ lw_all := q148
theorem fl_X0_263 : Cond.fieldLink RX0 263 RX0 (TX0 13).2.1 (TX0 13).2.2.1 ∈ lw_all := q150
theorem fl_X0_270 : Cond.fieldLink RX0 270 RX11 (TX11 0).2.1 (TX11 0).2.2.1 ∈ lw_all := q759
theorem fl_X0_357 : Cond.fieldLink RX0 357 RX0 (TX0 2).2.1 (TX0 2).2.2.1 ∈ lw_all := q138
