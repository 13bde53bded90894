/-! LINKS: the words of calls and fields, by program (gen/mklinks.py) -/
set_option maxRecDepth 100000
theorem fl_X3_1 : Cond.fieldLink RX3 1 RX3 (TX3 5).2.1 (TX3 5).2.2.1 ∈ lw_all := q871
theorem fl_X3_13 : Cond.fieldLink RX3 13 RX3 (TX3 1).2.1 (TX3 1).2.2.1 ∈ lw_all := q867
theorem fl_X3_17 : Cond.fieldLink RX3 17 RX3 (TX3 2).2.1 (TX3 2).2.2.1 ∈ lw_all := q868
theorem fl_X3_20 : Cond.fieldLink RX3 20 RX3 (TX3 3).2.1 (TX3 3).2.2.1 ∈ lw_all := q869
theorem fl_X3_23 : Cond.fieldLink RX3 23 RX3 (TX3 4).2.1 (TX3 4).2.2.1 ∈ lw_all := q870
theorem wl_X4_25 : GoodIn lw_all (wsV RX4 25 RX4 yX4_take (ws_ yX4_take cX4_take 3 (some .boolean))) := lw_V q977 q979 qs31 q79 q980
theorem wd_X4_X4_take : yX4_take.cls = RX4 ∧ yX4_take.cls ≠ "java/lang/invoke/MethodHandle" ∧ yX4_take.cls ≠ "java/lang/invoke/VarHandle" ∧ (parseMethodDescriptor yX4_take.desc).map (fun d => d.parameters.length) = some 1 := by decide +kernel
theorem wl_X4_41 : GoodIn lw_all (wsV RX4 41 RX4 yX4_readsPerson (ws_ yX4_readsPerson cX4_readsPerson 3 (some .boolean))) := lw_V q973 q975 qs30 q79 q976
theorem wd_X4_X4_readsPerson : yX4_readsPerson.cls = RX4 ∧ yX4_readsPerson.cls ≠ "java/lang/invoke/MethodHandle" ∧ yX4_readsPerson.cls ≠ "java/lang/invoke/VarHandle" ∧ (parseMethodDescriptor yX4_readsPerson.desc).map (fun d => d.parameters.length) = some 0 := by decide +kernel
theorem wl_X4_45 : GoodIn lw_all (wsV RX4 45 RX4 yX4_areThere (ws_ yX4_areThere cX4_areThere 2 (some .boolean))) := lw_V q984 q986 qs32 q79 q987
theorem wd_X4_X4_areThere : yX4_areThere.cls = RX4 ∧ yX4_areThere.cls ≠ "java/lang/invoke/MethodHandle" ∧ yX4_areThere.cls ≠ "java/lang/invoke/VarHandle" ∧ (parseMethodDescriptor yX4_areThere.desc).map (fun d => d.parameters.length) = some 0 := by decide +kernel
theorem fl_X4_9 : Cond.fieldLink RX4 9 RX4 (TX4 2).2.1 (TX4 2).2.2.1 ∈ lw_all := q956
theorem fl_X4_15 : Cond.fieldLink RX4 15 RX4 (TX4 0).2.1 (TX4 0).2.2.1 ∈ lw_all := q953
theorem fl_X4_18 : Cond.fieldLink RX4 18 RX4 (TX4 1).2.1 (TX4 1).2.2.1 ∈ lw_all := q954
theorem fl_X4_22 : Cond.fieldLink RX4 22 RX4 (TX4 3).2.1 (TX4 3).2.2.1 ∈ lw_all := q958
theorem wl_X5_45 : GoodIn lw_all (va_wsS RX5 45 yJ18_bitCount (ws_ yJ18_bitCount cJ18_bitCount 1 (some .int))) := lw_S q1067 q1068 q92 q1069
theorem wd_X5_J18_bitCount : yJ18_bitCount.cls ≠ "java/lang/invoke/MethodHandle" ∧ yJ18_bitCount.cls ≠ "java/lang/invoke/VarHandle" ∧ (parseMethodDescriptor yJ18_bitCount.desc).map (fun d => d.parameters.length) = some 1 := by decide +kernel
theorem wl_X5_51 : GoodIn lw_all (wsV RX5 51 RX5 yX5_kind (ws_ yX5_kind cX5_kind 1 (some .int))) := lw_V q425 q426 q427 q82 q435
theorem wd_X5_X5_kind : yX5_kind.cls = RX5 ∧ yX5_kind.cls ≠ "java/lang/invoke/MethodHandle" ∧ yX5_kind.cls ≠ "java/lang/invoke/VarHandle" ∧ (parseMethodDescriptor yX5_kind.desc).map (fun d => d.parameters.length) = some 0 := by decide +kernel
theorem wl_X5_58 : GoodIn lw_all (wsV RX5 58 RX5 yX5_tracedBy (ws_ yX5_tracedBy cX5_tracedBy 2 (some .int))) := lw_V q1087 q1057 q1543 q82 q1058
theorem wd_X5_X5_tracedBy : yX5_tracedBy.cls = RX5 ∧ yX5_tracedBy.cls ≠ "java/lang/invoke/MethodHandle" ∧ yX5_tracedBy.cls ≠ "java/lang/invoke/VarHandle" ∧ (parseMethodDescriptor yX5_tracedBy.desc).map (fun d => d.parameters.length) = some 1 := by decide +kernel
theorem fl_X5_3 : Cond.fieldLink RX5 3 RX5 (TX5 7).2.1 (TX5 7).2.2.1 ∈ lw_all := q284
theorem fl_X5_15 : Cond.fieldLink RX5 15 RX5 (TX5 0).2.1 (TX5 0).2.2.1 ∈ lw_all := q268
theorem fl_X5_19 : Cond.fieldLink RX5 19 RX5 (TX5 1).2.1 (TX5 1).2.2.1 ∈ lw_all := q274
theorem fl_X5_22 : Cond.fieldLink RX5 22 RX5 (TX5 2).2.1 (TX5 2).2.2.1 ∈ lw_all := q276
theorem fl_X5_25 : Cond.fieldLink RX5 25 RX5 (TX5 4).2.1 (TX5 4).2.2.1 ∈ lw_all := q280
theorem fl_X5_32 : Cond.fieldLink RX5 32 RX5 (TX5 3).2.1 (TX5 3).2.2.1 ∈ lw_all := q278
theorem fl_X5_39 : Cond.fieldLink RX5 39 RX5 (TX5 5).2.1 (TX5 5).2.2.1 ∈ lw_all := q282
theorem fl_X5_42 : Cond.fieldLink RX5 42 RX5 (TX5 6).2.1 (TX5 6).2.2.1 ∈ lw_all := q283
theorem wl_X6_17 : GoodIn lw_all (wsV RX6 17 RX5 yX5_said (ws_ yX5_said cX5_said 1 (some .int))) := lw_V q1059 q1046 q1047 q82 q1086
theorem wd_X6_X5_said : yX5_said.cls = RX5 ∧ yX5_said.cls ≠ "java/lang/invoke/MethodHandle" ∧ yX5_said.cls ≠ "java/lang/invoke/VarHandle" ∧ (parseMethodDescriptor yX5_said.desc).map (fun d => d.parameters.length) = some 0 := by decide +kernel
theorem fl_X6_1 : Cond.fieldLink RX6 1 RX6 (TX6 8).2.1 (TX6 8).2.2.1 ∈ lw_all := q316
-- no selects for <CallRounds$News|said|()I>
theorem fl_X7_1 : Cond.fieldLink RX7 1 RX7 (TX7 9).2.1 (TX7 9).2.2.1 ∈ lw_all := q315
theorem fl_X9_1 : Cond.fieldLink RX9 1 RX9 (TX9 1).2.1 (TX9 1).2.2.1 ∈ lw_all := q572
theorem fl_X10_1 : Cond.fieldLink RX10 1 RX10 (TX10 2).2.1 (TX10 2).2.2.1 ∈ lw_all := q612
theorem fl_X10_13 : Cond.fieldLink RX10 13 RX10 (TX10 1).2.1 (TX10 1).2.2.1 ∈ lw_all := q611
theorem fl_X11_7 : Cond.fieldLink RX11 7 RX11 (TX11 0).2.1 (TX11 0).2.2.1 ∈ lw_all := q758
theorem fl_X12_1 : Cond.fieldLink RX12 1 RX12 (TX12 6).2.1 (TX12 6).2.2.1 ∈ lw_all := q1019
theorem fl_X12_13 : Cond.fieldLink RX12 13 RX12 (TX12 1).2.1 (TX12 1).2.2.1 ∈ lw_all := q1014
theorem fl_X12_17 : Cond.fieldLink RX12 17 RX12 (TX12 2).2.1 (TX12 2).2.2.1 ∈ lw_all := q1015
theorem fl_X12_20 : Cond.fieldLink RX12 20 RX12 (TX12 3).2.1 (TX12 3).2.2.1 ∈ lw_all := q1016
theorem fl_X12_23 : Cond.fieldLink RX12 23 RX12 (TX12 4).2.1 (TX12 4).2.2.1 ∈ lw_all := q1017
theorem fl_X12_26 : Cond.fieldLink RX12 26 RX12 (TX12 5).2.1 (TX12 5).2.2.1 ∈ lw_all := q1018
theorem fl_X13_1 : Cond.fieldLink RX13 1 RX13 (TX13 3).2.1 (TX13 3).2.2.1 ∈ lw_all := q1146
theorem fl_X13_13 : Cond.fieldLink RX13 13 RX13 (TX13 1).2.1 (TX13 1).2.2.1 ∈ lw_all := q1144
theorem fl_X13_17 : Cond.fieldLink RX13 17 RX13 (TX13 2).2.1 (TX13 2).2.2.1 ∈ lw_all := q1145
theorem fl_X13_21 : Cond.fieldLink RX13 21 RX5 (TX5 0).2.1 (TX5 0).2.2.1 ∈ lw_all := q269
