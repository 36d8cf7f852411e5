/-! ROWS OF THE METHODS (printed by gen/rows.py) -/
set_option maxRecDepth 100000
theorem rw_X23_kind : rowsB 132975121 prog_42_method_2_code Om41 Ok41 Ol41 false 1 = true := by decide +kernel
theorem mt_X23_kind {s0 : State} (hN : NCs s0) : MethOK s0 132975121 := ⟨Om41, Ok41, Ol41, false, 1, prog_42_method_2_code, some Jvm.ClassFile.FieldType.int, [], ow41 hN, (fun h => by cases h), rfl, rowsB_s rw_X23_kind, (plainFor_of_name pl_41), Or.inl ⟨rfl, rfl, rfl⟩⟩
theorem rw_X23_work : rowsB 133237267 prog_42_method_6_code Om41 Ok41 Ol41 false 0 = true := by decide +kernel
theorem mt_X23_work {s0 : State} (hN : NCs s0) : MethOK s0 133237267 := ⟨Om41, Ok41, Ol41, false, 0, prog_42_method_6_code, none, [], ow41 hN, (fun h => by cases h), rfl, rowsB_s rw_X23_work, (plainFor_of_name pl_41), Or.inl ⟨rfl, rfl, rfl⟩⟩
theorem rw_X23_trim : rowsB 133431300 prog_42_method_7_code Om41 Ok41 Ol41 false 5 = true := by decide +kernel
theorem mt_X23_trim {s0 : State} (hN : NCs s0) : MethOK s0 133431300 := ⟨Om41, Ok41, Ol41, false, 5, prog_42_method_7_code, some (Jvm.ClassFile.FieldType.object "AlgolHouse$Value"), [], ow41 hN, (fun h => by cases h), ⟨_, rfl, Or.inl ⟨_, rfl⟩⟩, rowsB_s rw_X23_trim, (plainFor_of_name pl_41), Or.inl ⟨rfl, rfl, rfl⟩⟩
theorem rw_X24_init : rowsB 133740915 prog_12_method_1_code Om11 Ok11 Ol11 true 0 = true := by decide +kernel
theorem mt_X24_init {s0 : State} (hN : NCs s0) : MethOK s0 133740915 := ⟨Om11, Ok11, Ol11, true, 0, prog_12_method_1_code, none, [], ow11 hN, fun _ => rfl, rfl, rowsB_s rw_X24_init, (plainFor_of_name pl_11), Or.inl ⟨rfl, rfl, rfl⟩⟩
theorem rw_X24_behind : rowsB 134003059 prog_12_method_3_code Om11 Ok11 Ol11 false 0 = true := by decide +kernel
theorem mt_X24_behind {s0 : State} (hN : NCs s0) : MethOK s0 134003059 := ⟨Om11, Ok11, Ol11, false, 0, prog_12_method_3_code, none, [], ow11 hN, (fun h => by cases h), rfl, rowsB_s rw_X24_behind, (plainFor_of_name pl_11), Or.inl ⟨rfl, rfl, rfl⟩⟩
theorem rw_X24_judged : rowsB 134265202 prog_12_method_4_code Om11 Ok11 Ol11 false 0 = true := by decide +kernel
theorem mt_X24_judged {s0 : State} (hN : NCs s0) : MethOK s0 134265202 := ⟨Om11, Ok11, Ol11, false, 0, prog_12_method_4_code, none, [], ow11 hN, (fun h => by cases h), rfl, rowsB_s rw_X24_judged, (plainFor_of_name pl_11), Or.inl ⟨rfl, rfl, rfl⟩⟩
theorem rw_X24_fits : rowsB 134527347 prog_12_method_5_code Om11 Ok11 Ol11 false 2 = true := by decide +kernel
theorem mt_X24_fits {s0 : State} (hN : NCs s0) : MethOK s0 134527347 := ⟨Om11, Ok11, Ol11, false, 2, prog_12_method_5_code, some Jvm.ClassFile.FieldType.boolean, [], ow11 hN, (fun h => by cases h), rfl, rowsB_s rw_X24_fits, (plainFor_of_name pl_11), Or.inl ⟨rfl, rfl, rfl⟩⟩
theorem rw_X24_isStandard : rowsB 134789490 prog_12_method_10_code Om11 Ok11 Ol11 false 2 = true := by decide +kernel
theorem mt_X24_isStandard {s0 : State} (hN : NCs s0) : MethOK s0 134789490 := ⟨Om11, Ok11, Ol11, false, 2, prog_12_method_10_code, some Jvm.ClassFile.FieldType.boolean, [], ow11 hN, (fun h => by cases h), rfl, rowsB_s rw_X24_isStandard, (plainFor_of_name pl_11), Or.inl ⟨rfl, rfl, rfl⟩⟩
theorem rw_X24_isAlike : rowsB 135051633 prog_12_method_9_code Om11 Ok11 Ol11 false 2 = true := by decide +kernel
theorem mt_X24_isAlike {s0 : State} (hN : NCs s0) : MethOK s0 135051633 := ⟨Om11, Ok11, Ol11, false, 2, prog_12_method_9_code, some Jvm.ClassFile.FieldType.boolean, [], ow11 hN, (fun h => by cases h), rfl, rowsB_s rw_X24_isAlike, (plainFor_of_name pl_11), Or.inl ⟨rfl, rfl, rfl⟩⟩
theorem rw_X24_isOrder : rowsB 135313777 prog_12_method_8_code Om11 Ok11 Ol11 false 2 = true := by decide +kernel
theorem mt_X24_isOrder {s0 : State} (hN : NCs s0) : MethOK s0 135313777 := ⟨Om11, Ok11, Ol11, false, 2, prog_12_method_8_code, some Jvm.ClassFile.FieldType.boolean, [], ow11 hN, (fun h => by cases h), rfl, rowsB_s rw_X24_isOrder, (plainFor_of_name pl_11), Or.inl ⟨rfl, rfl, rfl⟩⟩
theorem rw_X24_plainOf : rowsB 135528450 prog_12_method_7_code Om11 Ok11 Ol11 false 5 = true := by decide +kernel
theorem mt_X24_plainOf {s0 : State} (hN : NCs s0) : MethOK s0 135528450 := ⟨Om11, Ok11, Ol11, false, 5, prog_12_method_7_code, some (Jvm.ClassFile.FieldType.object "AlgolHouse$Mode"), [], ow11 hN, (fun h => by cases h), ⟨_, rfl, Or.inl ⟨_, rfl⟩⟩, rowsB_s rw_X24_plainOf, (plainFor_of_name pl_11), Or.inl ⟨rfl, rfl, rfl⟩⟩
theorem rw_X24_reach : rowsB 135838067 prog_12_method_6_code Om11 Ok11 Ol11 false 2 = true := by decide +kernel
theorem mt_X24_reach {s0 : State} (hN : NCs s0) : MethOK s0 135838067 := ⟨Om11, Ok11, Ol11, false, 2, prog_12_method_6_code, some Jvm.ClassFile.FieldType.boolean, [], ow11 hN, (fun h => by cases h), rfl, rowsB_s rw_X24_reach, (plainFor_of_name pl_11), Or.inl ⟨rfl, rfl, rfl⟩⟩
theorem rw_X24_yields : rowsB 136100209 prog_12_method_11_code Om11 Ok11 Ol11 false 1 = true := by decide +kernel
theorem mt_X24_yields {s0 : State} (hN : NCs s0) : MethOK s0 136100209 := ⟨Om11, Ok11, Ol11, false, 1, prog_12_method_11_code, some Jvm.ClassFile.FieldType.int, [], ow11 hN, (fun h => by cases h), rfl, rowsB_s rw_X24_yields, (plainFor_of_name pl_11), Or.inl ⟨rfl, rfl, rfl⟩⟩
theorem rw_X24_kind : rowsB 136362353 prog_12_method_2_code Om11 Ok11 Ol11 false 1 = true := by decide +kernel
theorem mt_X24_kind {s0 : State} (hN : NCs s0) : MethOK s0 136362353 := ⟨Om11, Ok11, Ol11, false, 1, prog_12_method_2_code, some Jvm.ClassFile.FieldType.int, [], ow11 hN, (fun h => by cases h), rfl, rowsB_s rw_X24_kind, (plainFor_of_name pl_11), Or.inl ⟨rfl, rfl, rfl⟩⟩
theorem rw_X24_work : rowsB 136624499 prog_12_method_12_code Om11 Ok11 Ol11 false 0 = true := by decide +kernel
theorem mt_X24_work {s0 : State} (hN : NCs s0) : MethOK s0 136624499 := ⟨Om11, Ok11, Ol11, false, 0, prog_12_method_12_code, none, [], ow11 hN, (fun h => by cases h), rfl, rowsB_s rw_X24_work, (plainFor_of_name pl_11), Or.inl ⟨rfl, rfl, rfl⟩⟩
theorem rw_X24_single : rowsB 136886643 prog_12_method_13_code Om11 Ok11 Ol11 false 4 = true := by decide +kernel
theorem mt_X24_single {s0 : State} (hN : NCs s0) : MethOK s0 136886643 := ⟨Om11, Ok11, Ol11, false, 4, prog_12_method_13_code, some Jvm.ClassFile.FieldType.long, [], ow11 hN, (fun h => by cases h), rfl, rowsB_s rw_X24_single, (plainFor_of_name pl_11), Or.inl ⟨rfl, rfl, rfl⟩⟩
theorem rw_X24_fit : rowsB 137148788 prog_12_method_14_code Om11 Ok11 Ol11 false 4 = true := by decide +kernel
theorem mt_X24_fit {s0 : State} (hN : NCs s0) : MethOK s0 137148788 := ⟨Om11, Ok11, Ol11, false, 4, prog_12_method_14_code, some Jvm.ClassFile.FieldType.long, [], ow11 hN, (fun h => by cases h), rfl, rowsB_s rw_X24_fit, (plainFor_of_name pl_11), Or.inl ⟨rfl, rfl, rfl⟩⟩
theorem rw_X24_both : rowsB 137410932 prog_12_method_15_code Om11 Ok11 Ol11 false 4 = true := by decide +kernel
theorem mt_X24_both {s0 : State} (hN : NCs s0) : MethOK s0 137410932 := ⟨Om11, Ok11, Ol11, false, 4, prog_12_method_15_code, some Jvm.ClassFile.FieldType.long, [], ow11 hN, (fun h => by cases h), rfl, rowsB_s rw_X24_both, (plainFor_of_name pl_11), Or.inl ⟨rfl, rfl, rfl⟩⟩
theorem rw_X24_sum : rowsB 137673076 prog_12_method_16_code Om11 Ok11 Ol11 false 4 = true := by decide +kernel
theorem mt_X24_sum {s0 : State} (hN : NCs s0) : MethOK s0 137673076 := ⟨Om11, Ok11, Ol11, false, 4, prog_12_method_16_code, some Jvm.ClassFile.FieldType.long, [], ow11 hN, (fun h => by cases h), rfl, rowsB_s rw_X24_sum, (plainFor_of_name pl_11), Or.inl ⟨rfl, rfl, rfl⟩⟩
theorem rw_X24_difference : rowsB 137935220 prog_12_method_17_code Om11 Ok11 Ol11 false 4 = true := by decide +kernel
theorem mt_X24_difference {s0 : State} (hN : NCs s0) : MethOK s0 137935220 := ⟨Om11, Ok11, Ol11, false, 4, prog_12_method_17_code, some Jvm.ClassFile.FieldType.long, [], ow11 hN, (fun h => by cases h), rfl, rowsB_s rw_X24_difference, (plainFor_of_name pl_11), Or.inl ⟨rfl, rfl, rfl⟩⟩
theorem rw_X24_product : rowsB 138197364 prog_12_method_18_code Om11 Ok11 Ol11 false 4 = true := by decide +kernel
theorem mt_X24_product {s0 : State} (hN : NCs s0) : MethOK s0 138197364 := ⟨Om11, Ok11, Ol11, false, 4, prog_12_method_18_code, some Jvm.ClassFile.FieldType.long, [], ow11 hN, (fun h => by cases h), rfl, rowsB_s rw_X24_product, (plainFor_of_name pl_11), Or.inl ⟨rfl, rfl, rfl⟩⟩
theorem rw_X24_quotient : rowsB 138459508 prog_12_method_19_code Om11 Ok11 Ol11 false 4 = true := by decide +kernel
theorem mt_X24_quotient {s0 : State} (hN : NCs s0) : MethOK s0 138459508 := ⟨Om11, Ok11, Ol11, false, 4, prog_12_method_19_code, some Jvm.ClassFile.FieldType.long, [], ow11 hN, (fun h => by cases h), rfl, rowsB_s rw_X24_quotient, (plainFor_of_name pl_11), Or.inl ⟨rfl, rfl, rfl⟩⟩
theorem rw_X25_init : rowsB 138711331 prog_9_method_1_code Om8 Ok8 Ol8 true 0 = true := by decide +kernel
theorem mt_X25_init {s0 : State} (hN : NCs s0) : MethOK s0 138711331 := ⟨Om8, Ok8, Ol8, true, 0, prog_9_method_1_code, none, [], ow8 hN, fun _ => rfl, rfl, rowsB_s rw_X25_init, (plainFor_of_name pl_8), Or.inl ⟨rfl, rfl, rfl⟩⟩
theorem rw_X25_judged : rowsB 138973474 prog_9_method_3_code Om8 Ok8 Ol8 false 0 = true := by decide +kernel
theorem mt_X25_judged {s0 : State} (hN : NCs s0) : MethOK s0 138973474 := ⟨Om8, Ok8, Ol8, false, 0, prog_9_method_3_code, none, [], ow8 hN, (fun h => by cases h), rfl, rowsB_s rw_X25_judged, (plainFor_of_name pl_8), Or.inl ⟨rfl, rfl, rfl⟩⟩
theorem rw_X25_kind : rowsB 139235617 prog_9_method_2_code Om8 Ok8 Ol8 false 1 = true := by decide +kernel
theorem mt_X25_kind {s0 : State} (hN : NCs s0) : MethOK s0 139235617 := ⟨Om8, Ok8, Ol8, false, 1, prog_9_method_2_code, some Jvm.ClassFile.FieldType.int, [], ow8 hN, (fun h => by cases h), rfl, rowsB_s rw_X25_kind, (plainFor_of_name pl_8), Or.inl ⟨rfl, rfl, rfl⟩⟩
theorem rw_X25_work : rowsB 139497763 prog_9_method_4_code Om8 Ok8 Ol8 false 0 = true := by decide +kernel
theorem mt_X25_work {s0 : State} (hN : NCs s0) : MethOK s0 139497763 := ⟨Om8, Ok8, Ol8, false, 0, prog_9_method_4_code, none, [], ow8 hN, (fun h => by cases h), rfl, rowsB_s rw_X25_work, (plainFor_of_name pl_8), Or.inl ⟨rfl, rfl, rfl⟩⟩
theorem rw_X26_init : rowsB 139786739 prog_39_method_1_code Om38 Ok38 Ol38 true 0 = true := by decide +kernel
theorem mt_X26_init {s0 : State} (hN : NCs s0) : MethOK s0 139786739 := ⟨Om38, Ok38, Ol38, true, 0, prog_39_method_1_code, none, [], ow38 hN, fun _ => rfl, rfl, rowsB_s rw_X26_init, (plainFor_of_name pl_38), Or.inl ⟨rfl, rfl, rfl⟩⟩
theorem rw_X26_judged : rowsB 140048882 prog_39_method_3_code Om38 Ok38 Ol38 false 0 = true := by decide +kernel
theorem mt_X26_judged {s0 : State} (hN : NCs s0) : MethOK s0 140048882 := ⟨Om38, Ok38, Ol38, false, 0, prog_39_method_3_code, none, [], ow38 hN, (fun h => by cases h), rfl, rowsB_s rw_X26_judged, (plainFor_of_name pl_38), Or.inl ⟨rfl, rfl, rfl⟩⟩
theorem rw_X26_kind : rowsB 140311025 prog_39_method_2_code Om38 Ok38 Ol38 false 1 = true := by decide +kernel
theorem mt_X26_kind {s0 : State} (hN : NCs s0) : MethOK s0 140311025 := ⟨Om38, Ok38, Ol38, false, 1, prog_39_method_2_code, some Jvm.ClassFile.FieldType.int, [], ow38 hN, (fun h => by cases h), rfl, rowsB_s rw_X26_kind, (plainFor_of_name pl_38), Or.inl ⟨rfl, rfl, rfl⟩⟩
theorem rw_X26_work : rowsB 140573171 prog_39_method_4_code Om38 Ok38 Ol38 false 0 = true := by decide +kernel
theorem mt_X26_work {s0 : State} (hN : NCs s0) : MethOK s0 140573171 := ⟨Om38, Ok38, Ol38, false, 0, prog_39_method_4_code, none, [], ow38 hN, (fun h => by cases h), rfl, rowsB_s rw_X26_work, (plainFor_of_name pl_38), Or.inl ⟨rfl, rfl, rfl⟩⟩
theorem rw_X27_init : rowsB 140820868 prog_14_method_1_code Om13 Ok13 Ol13 true 0 = true := by decide +kernel
theorem mt_X27_init {s0 : State} (hN : NCs s0) : MethOK s0 140820868 := ⟨Om13, Ok13, Ol13, true, 0, prog_14_method_1_code, none, [], ow13 hN, fun _ => rfl, rfl, rowsB_s rw_X27_init, (plainFor_of_name pl_13), Or.inl ⟨rfl, rfl, rfl⟩⟩
theorem rw_X27_behind : rowsB 141083011 prog_14_method_3_code Om13 Ok13 Ol13 false 0 = true := by decide +kernel
theorem mt_X27_behind {s0 : State} (hN : NCs s0) : MethOK s0 141083011 := ⟨Om13, Ok13, Ol13, false, 0, prog_14_method_3_code, none, [], ow13 hN, (fun h => by cases h), rfl, rowsB_s rw_X27_behind, (plainFor_of_name pl_13), Or.inl ⟨rfl, rfl, rfl⟩⟩
theorem rw_X27_judged : rowsB 141345154 prog_14_method_4_code Om13 Ok13 Ol13 false 0 = true := by decide +kernel
theorem mt_X27_judged {s0 : State} (hN : NCs s0) : MethOK s0 141345154 := ⟨Om13, Ok13, Ol13, false, 0, prog_14_method_4_code, none, [], ow13 hN, (fun h => by cases h), rfl, rowsB_s rw_X27_judged, (plainFor_of_name pl_13), Or.inl ⟨rfl, rfl, rfl⟩⟩
theorem rw_X27_kind : rowsB 141607297 prog_14_method_2_code Om13 Ok13 Ol13 false 1 = true := by decide +kernel
theorem mt_X27_kind {s0 : State} (hN : NCs s0) : MethOK s0 141607297 := ⟨Om13, Ok13, Ol13, false, 1, prog_14_method_2_code, some Jvm.ClassFile.FieldType.int, [], ow13 hN, (fun h => by cases h), rfl, rowsB_s rw_X27_kind, (plainFor_of_name pl_13), Or.inl ⟨rfl, rfl, rfl⟩⟩
theorem rw_X27_work : rowsB 141869443 prog_14_method_5_code Om13 Ok13 Ol13 false 0 = true := by decide +kernel
theorem mt_X27_work {s0 : State} (hN : NCs s0) : MethOK s0 141869443 := ⟨Om13, Ok13, Ol13, false, 0, prog_14_method_5_code, none, [], ow13 hN, (fun h => by cases h), rfl, rowsB_s rw_X27_work, (plainFor_of_name pl_13), Or.inl ⟨rfl, rfl, rfl⟩⟩
theorem rw_X28_init : rowsB 142139844 prog_33_method_1_code Om32 Ok32 Ol32 true 0 = true := by decide +kernel
theorem mt_X28_init {s0 : State} (hN : NCs s0) : MethOK s0 142139844 := ⟨Om32, Ok32, Ol32, true, 0, prog_33_method_1_code, none, [], ow32 hN, fun _ => rfl, rfl, rowsB_s rw_X28_init, (plainFor_of_name pl_32), Or.inl ⟨rfl, rfl, rfl⟩⟩
theorem rw_X28_enter : rowsB 142401986 prog_33_method_3_code Om32 Ok32 Ol32 false 0 = true := by decide +kernel
theorem mt_X28_enter {s0 : State} (hN : NCs s0) : MethOK s0 142401986 := ⟨Om32, Ok32, Ol32, false, 0, prog_33_method_3_code, none, [], ow32 hN, (fun h => by cases h), rfl, rowsB_s rw_X28_enter, (plainFor_of_name pl_32), Or.inl ⟨rfl, rfl, rfl⟩⟩
theorem rw_X28_kind : rowsB 142664129 prog_33_method_2_code Om32 Ok32 Ol32 false 1 = true := by decide +kernel
theorem mt_X28_kind {s0 : State} (hN : NCs s0) : MethOK s0 142664129 := ⟨Om32, Ok32, Ol32, false, 1, prog_33_method_2_code, some Jvm.ClassFile.FieldType.int, [], ow32 hN, (fun h => by cases h), rfl, rowsB_s rw_X28_kind, (plainFor_of_name pl_32), Or.inl ⟨rfl, rfl, rfl⟩⟩
theorem rw_X28_work : rowsB 142926275 prog_33_method_4_code Om32 Ok32 Ol32 false 0 = true := by decide +kernel
theorem mt_X28_work {s0 : State} (hN : NCs s0) : MethOK s0 142926275 := ⟨Om32, Ok32, Ol32, false, 0, prog_33_method_4_code, none, [], ow32 hN, (fun h => by cases h), rfl, rowsB_s rw_X28_work, (plainFor_of_name pl_32), Or.inl ⟨rfl, rfl, rfl⟩⟩
theorem rw_X29_init : rowsB 143200803 prog_43_method_1_code Om42 Ok42 Ol42 true 0 = true := by decide +kernel
theorem mt_X29_init {s0 : State} (hN : NCs s0) : MethOK s0 143200803 := ⟨Om42, Ok42, Ol42, true, 0, prog_43_method_1_code, none, [], ow42 hN, fun _ => rfl, rfl, rowsB_s rw_X29_init, (plainFor_of_name pl_42), Or.inl ⟨rfl, rfl, rfl⟩⟩
theorem rw_X29_enter : rowsB 143462946 prog_43_method_3_code Om42 Ok42 Ol42 false 0 = true := by decide +kernel
theorem mt_X29_enter {s0 : State} (hN : NCs s0) : MethOK s0 143462946 := ⟨Om42, Ok42, Ol42, false, 0, prog_43_method_3_code, none, [], ow42 hN, (fun h => by cases h), rfl, rowsB_s rw_X29_enter, (plainFor_of_name pl_42), Or.inl ⟨rfl, rfl, rfl⟩⟩
theorem rw_X29_kind : rowsB 143725089 prog_43_method_2_code Om42 Ok42 Ol42 false 1 = true := by decide +kernel
theorem mt_X29_kind {s0 : State} (hN : NCs s0) : MethOK s0 143725089 := ⟨Om42, Ok42, Ol42, false, 1, prog_43_method_2_code, some Jvm.ClassFile.FieldType.int, [], ow42 hN, (fun h => by cases h), rfl, rowsB_s rw_X29_kind, (plainFor_of_name pl_42), Or.inl ⟨rfl, rfl, rfl⟩⟩
theorem rw_X29_work : rowsB 143987235 prog_43_method_4_code Om42 Ok42 Ol42 false 0 = true := by decide +kernel
theorem mt_X29_work {s0 : State} (hN : NCs s0) : MethOK s0 143987235 := ⟨Om42, Ok42, Ol42, false, 0, prog_43_method_4_code, none, [], ow42 hN, (fun h => by cases h), rfl, rowsB_s rw_X29_work, (plainFor_of_name pl_42), Or.inl ⟨rfl, rfl, rfl⟩⟩
theorem rw_X30_init : rowsB 144220482 prog_16_method_1_code Om15 Ok15 Ol15 true 0 = true := by decide +kernel
theorem mt_X30_init {s0 : State} (hN : NCs s0) : MethOK s0 144220482 := ⟨Om15, Ok15, Ol15, true, 0, prog_16_method_1_code, none, [], ow15 hN, fun _ => rfl, rfl, rowsB_s rw_X30_init, (plainFor_of_name pl_15), Or.inl ⟨rfl, rfl, rfl⟩⟩
theorem rw_X30_ends : rowsB 144482625 prog_16_method_3_code Om15 Ok15 Ol15 false 1 = true := by decide +kernel
theorem mt_X30_ends {s0 : State} (hN : NCs s0) : MethOK s0 144482625 := ⟨Om15, Ok15, Ol15, false, 1, prog_16_method_3_code, some Jvm.ClassFile.FieldType.int, [], ow15 hN, (fun h => by cases h), rfl, rowsB_s rw_X30_ends, (plainFor_of_name pl_15), Or.inl ⟨rfl, rfl, rfl⟩⟩
theorem rw_X30_end : rowsB 144744770 prog_16_method_4_code Om15 Ok15 Ol15 false 5 = true := by decide +kernel
theorem mt_X30_end {s0 : State} (hN : NCs s0) : MethOK s0 144744770 := ⟨Om15, Ok15, Ol15, false, 5, prog_16_method_4_code, some (Jvm.ClassFile.FieldType.object "AlgolHouse$Node"), [], ow15 hN, (fun h => by cases h), ⟨_, rfl, Or.inl ⟨_, rfl⟩⟩, rowsB_s rw_X30_end, (plainFor_of_name pl_15), Or.inl ⟨rfl, rfl, rfl⟩⟩
theorem rw_X30_behind : rowsB 145006915 prog_16_method_5_code Om15 Ok15 Ol15 false 0 = true := by decide +kernel
theorem mt_X30_behind {s0 : State} (hN : NCs s0) : MethOK s0 145006915 := ⟨Om15, Ok15, Ol15, false, 0, prog_16_method_5_code, none, [], ow15 hN, (fun h => by cases h), rfl, rowsB_s rw_X30_behind, (plainFor_of_name pl_15), Or.inl ⟨rfl, rfl, rfl⟩⟩
theorem rw_X30_kind : rowsB 145269057 prog_16_method_2_code Om15 Ok15 Ol15 false 1 = true := by decide +kernel
theorem mt_X30_kind {s0 : State} (hN : NCs s0) : MethOK s0 145269057 := ⟨Om15, Ok15, Ol15, false, 1, prog_16_method_2_code, some Jvm.ClassFile.FieldType.int, [], ow15 hN, (fun h => by cases h), rfl, rowsB_s rw_X30_kind, (plainFor_of_name pl_15), Or.inl ⟨rfl, rfl, rfl⟩⟩
theorem rw_X30_work : rowsB 145531203 prog_16_method_6_code Om15 Ok15 Ol15 false 0 = true := by decide +kernel
theorem mt_X30_work {s0 : State} (hN : NCs s0) : MethOK s0 145531203 := ⟨Om15, Ok15, Ol15, false, 0, prog_16_method_6_code, none, [], ow15 hN, (fun h => by cases h), rfl, rowsB_s rw_X30_work, (plainFor_of_name pl_15), Or.inl ⟨rfl, rfl, rfl⟩⟩
theorem rw_X31_init : rowsB 145797474 prog_47_method_1_code Om45 Ok45 Ol45 true 0 = true := by decide +kernel
theorem mt_X31_init {s0 : State} (hN : NCs s0) : MethOK s0 145797474 := ⟨Om45, Ok45, Ol45, true, 0, prog_47_method_1_code, none, [], ow45 hN, fun _ => rfl, rfl, rowsB_s rw_X31_init, (plainFor_of_name pl_45), Or.inl ⟨rfl, rfl, rfl⟩⟩
theorem rw_X31_ends : rowsB 146059617 prog_47_method_3_code Om45 Ok45 Ol45 false 1 = true := by decide +kernel
theorem mt_X31_ends {s0 : State} (hN : NCs s0) : MethOK s0 146059617 := ⟨Om45, Ok45, Ol45, false, 1, prog_47_method_3_code, some Jvm.ClassFile.FieldType.int, [], ow45 hN, (fun h => by cases h), rfl, rowsB_s rw_X31_ends, (plainFor_of_name pl_45), Or.inl ⟨rfl, rfl, rfl⟩⟩
theorem rw_X31_end : rowsB 146321762 prog_47_method_4_code Om45 Ok45 Ol45 false 5 = true := by decide +kernel
theorem mt_X31_end {s0 : State} (hN : NCs s0) : MethOK s0 146321762 := ⟨Om45, Ok45, Ol45, false, 5, prog_47_method_4_code, some (Jvm.ClassFile.FieldType.object "AlgolHouse$Node"), [], ow45 hN, (fun h => by cases h), ⟨_, rfl, Or.inl ⟨_, rfl⟩⟩, rowsB_s rw_X31_end, (plainFor_of_name pl_45), Or.inl ⟨rfl, rfl, rfl⟩⟩
theorem rw_X31_behind : rowsB 146583907 prog_47_method_7_code Om45 Ok45 Ol45 false 0 = true := by decide +kernel
theorem mt_X31_behind {s0 : State} (hN : NCs s0) : MethOK s0 146583907 := ⟨Om45, Ok45, Ol45, false, 0, prog_47_method_7_code, none, [], ow45 hN, (fun h => by cases h), rfl, rowsB_s rw_X31_behind, (plainFor_of_name pl_45), Or.inl ⟨rfl, rfl, rfl⟩⟩
theorem rw_X31_isChoice : rowsB 146846050 prog_47_method_5_code Om45 Ok45 Ol45 false 2 = true := by decide +kernel
theorem mt_X31_isChoice {s0 : State} (hN : NCs s0) : MethOK s0 146846050 := ⟨Om45, Ok45, Ol45, false, 2, prog_47_method_5_code, some Jvm.ClassFile.FieldType.boolean, [], ow45 hN, (fun h => by cases h), rfl, rowsB_s rw_X31_isChoice, (plainFor_of_name pl_45), Or.inl ⟨rfl, rfl, rfl⟩⟩
theorem rw_X31_before : rowsB 147108195 prog_47_method_6_code Om45 Ok45 Ol45 false 0 = true := by decide +kernel
theorem mt_X31_before {s0 : State} (hN : NCs s0) : MethOK s0 147108195 := ⟨Om45, Ok45, Ol45, false, 0, prog_47_method_6_code, none, [], ow45 hN, (fun h => by cases h), rfl, rowsB_s rw_X31_before, (plainFor_of_name pl_45), Or.inl ⟨rfl, rfl, rfl⟩⟩
theorem rw_X31_kind : rowsB 147370337 prog_47_method_2_code Om45 Ok45 Ol45 false 1 = true := by decide +kernel
theorem mt_X31_kind {s0 : State} (hN : NCs s0) : MethOK s0 147370337 := ⟨Om45, Ok45, Ol45, false, 1, prog_47_method_2_code, some Jvm.ClassFile.FieldType.int, [], ow45 hN, (fun h => by cases h), rfl, rowsB_s rw_X31_kind, (plainFor_of_name pl_45), Or.inl ⟨rfl, rfl, rfl⟩⟩
theorem rw_X31_work : rowsB 147632483 prog_47_method_8_code Om45 Ok45 Ol45 false 0 = true := by decide +kernel
theorem mt_X31_work {s0 : State} (hN : NCs s0) : MethOK s0 147632483 := ⟨Om45, Ok45, Ol45, false, 0, prog_47_method_8_code, none, [], ow45 hN, (fun h => by cases h), rfl, rowsB_s rw_X31_work, (plainFor_of_name pl_45), Or.inl ⟨rfl, rfl, rfl⟩⟩
theorem rw_X31_choose : rowsB 147894627 prog_47_method_9_code Om45 Ok45 Ol45 false 0 = true := by decide +kernel
theorem mt_X31_choose {s0 : State} (hN : NCs s0) : MethOK s0 147894627 := ⟨Om45, Ok45, Ol45, false, 0, prog_47_method_9_code, none, [], ow45 hN, (fun h => by cases h), rfl, rowsB_s rw_X31_choose, (plainFor_of_name pl_45), Or.inl ⟨rfl, rfl, rfl⟩⟩
theorem rw_X31_choice : rowsB 148156771 prog_47_method_10_code Om45 Ok45 Ol45 false 1 = true := by decide +kernel
theorem mt_X31_choice {s0 : State} (hN : NCs s0) : MethOK s0 148156771 := ⟨Om45, Ok45, Ol45, false, 1, prog_47_method_10_code, some Jvm.ClassFile.FieldType.int, [], ow45 hN, (fun h => by cases h), rfl, rowsB_s rw_X31_choice, (plainFor_of_name pl_45), Or.inl ⟨rfl, rfl, rfl⟩⟩
theorem rw_X31_takes : rowsB 148373507 prog_47_method_11_code Om45 Ok45 Ol45 false 2 = true := by decide +kernel
theorem mt_X31_takes {s0 : State} (hN : NCs s0) : MethOK s0 148373507 := ⟨Om45, Ok45, Ol45, false, 2, prog_47_method_11_code, some Jvm.ClassFile.FieldType.boolean, [], ow45 hN, (fun h => by cases h), rfl, rowsB_s rw_X31_takes, (plainFor_of_name pl_45), Or.inl ⟨rfl, rfl, rfl⟩⟩
theorem rw_X32_init : rowsB 148674867 prog_5_method_1_code Om4 Ok4 Ol4 true 0 = true := by decide +kernel
theorem mt_X32_init {s0 : State} (hN : NCs s0) : MethOK s0 148674867 := ⟨Om4, Ok4, Ol4, true, 0, prog_5_method_1_code, none, [], ow4 hN, fun _ => rfl, rfl, rowsB_s rw_X32_init, (plainFor_of_name pl_4), Or.inl ⟨rfl, rfl, rfl⟩⟩
theorem rw_X32_ends : rowsB 148937009 prog_5_method_3_code Om4 Ok4 Ol4 false 1 = true := by decide +kernel
theorem mt_X32_ends {s0 : State} (hN : NCs s0) : MethOK s0 148937009 := ⟨Om4, Ok4, Ol4, false, 1, prog_5_method_3_code, some Jvm.ClassFile.FieldType.int, [], ow4 hN, (fun h => by cases h), rfl, rowsB_s rw_X32_ends, (plainFor_of_name pl_4), Or.inl ⟨rfl, rfl, rfl⟩⟩
theorem rw_X32_end : rowsB 149199154 prog_5_method_4_code Om4 Ok4 Ol4 false 5 = true := by decide +kernel
theorem mt_X32_end {s0 : State} (hN : NCs s0) : MethOK s0 149199154 := ⟨Om4, Ok4, Ol4, false, 5, prog_5_method_4_code, some (Jvm.ClassFile.FieldType.object "AlgolHouse$Node"), [], ow4 hN, (fun h => by cases h), ⟨_, rfl, Or.inl ⟨_, rfl⟩⟩, rowsB_s rw_X32_end, (plainFor_of_name pl_4), Or.inl ⟨rfl, rfl, rfl⟩⟩
theorem rw_X32_behind : rowsB 149461299 prog_5_method_5_code Om4 Ok4 Ol4 false 0 = true := by decide +kernel
theorem mt_X32_behind {s0 : State} (hN : NCs s0) : MethOK s0 149461299 := ⟨Om4, Ok4, Ol4, false, 0, prog_5_method_5_code, none, [], ow4 hN, (fun h => by cases h), rfl, rowsB_s rw_X32_behind, (plainFor_of_name pl_4), Or.inl ⟨rfl, rfl, rfl⟩⟩
theorem rw_X32_kind : rowsB 149723441 prog_5_method_2_code Om4 Ok4 Ol4 false 1 = true := by decide +kernel
theorem mt_X32_kind {s0 : State} (hN : NCs s0) : MethOK s0 149723441 := ⟨Om4, Ok4, Ol4, false, 1, prog_5_method_2_code, some Jvm.ClassFile.FieldType.int, [], ow4 hN, (fun h => by cases h), rfl, rowsB_s rw_X32_kind, (plainFor_of_name pl_4), Or.inl ⟨rfl, rfl, rfl⟩⟩
theorem rw_X32_work : rowsB 149985587 prog_5_method_6_code Om4 Ok4 Ol4 false 0 = true := by decide +kernel
theorem mt_X32_work {s0 : State} (hN : NCs s0) : MethOK s0 149985587 := ⟨Om4, Ok4, Ol4, false, 0, prog_5_method_6_code, none, [], ow4 hN, (fun h => by cases h), rfl, rowsB_s rw_X32_work, (plainFor_of_name pl_4), Or.inl ⟨rfl, rfl, rfl⟩⟩
theorem rw_X33_init : rowsB 150268370 prog_34_method_1_code Om33 Ok33 Ol33 true 0 = true := by decide +kernel
theorem mt_X33_init {s0 : State} (hN : NCs s0) : MethOK s0 150268370 := ⟨Om33, Ok33, Ol33, true, 0, prog_34_method_1_code, none, [], ow33 hN, fun _ => rfl, rfl, rowsB_s rw_X33_init, (plainFor_of_name pl_33), Or.inl ⟨rfl, rfl, rfl⟩⟩
theorem rw_X33_judged : rowsB 150530514 prog_34_method_3_code Om33 Ok33 Ol33 false 0 = true := by decide +kernel
theorem mt_X33_judged {s0 : State} (hN : NCs s0) : MethOK s0 150530514 := ⟨Om33, Ok33, Ol33, false, 0, prog_34_method_3_code, none, [], ow33 hN, (fun h => by cases h), rfl, rowsB_s rw_X33_judged, (plainFor_of_name pl_33), Or.inl ⟨rfl, rfl, rfl⟩⟩
theorem rw_X33_kind : rowsB 150792657 prog_34_method_2_code Om33 Ok33 Ol33 false 1 = true := by decide +kernel
theorem mt_X33_kind {s0 : State} (hN : NCs s0) : MethOK s0 150792657 := ⟨Om33, Ok33, Ol33, false, 1, prog_34_method_2_code, some Jvm.ClassFile.FieldType.int, [], ow33 hN, (fun h => by cases h), rfl, rowsB_s rw_X33_kind, (plainFor_of_name pl_33), Or.inl ⟨rfl, rfl, rfl⟩⟩
theorem rw_X33_work : rowsB 151054803 prog_34_method_4_code Om33 Ok33 Ol33 false 0 = true := by decide +kernel
theorem mt_X33_work {s0 : State} (hN : NCs s0) : MethOK s0 151054803 := ⟨Om33, Ok33, Ol33, false, 0, prog_34_method_4_code, none, [], ow33 hN, (fun h => by cases h), rfl, rowsB_s rw_X33_work, (plainFor_of_name pl_33), Or.inl ⟨rfl, rfl, rfl⟩⟩
theorem rw_X34_init : rowsB 151310758 prog_20_method_1_code Om19 Ok19 Ol19 true 0 = true := by decide +kernel
theorem mt_X34_init {s0 : State} (hN : NCs s0) : MethOK s0 151310758 := ⟨Om19, Ok19, Ol19, true, 0, prog_20_method_1_code, none, [], ow19 hN, fun _ => rfl, rfl, rowsB_s rw_X34_init, (plainFor_of_name pl_19), Or.inl ⟨rfl, rfl, rfl⟩⟩
theorem rw_X34_enter : rowsB 151572898 prog_20_method_5_code Om19 Ok19 Ol19 false 0 = true := by decide +kernel
theorem mt_X34_enter {s0 : State} (hN : NCs s0) : MethOK s0 151572898 := ⟨Om19, Ok19, Ol19, false, 0, prog_20_method_5_code, none, [], ow19 hN, (fun h => by cases h), rfl, rowsB_s rw_X34_enter, (plainFor_of_name pl_19), Or.inl ⟨rfl, rfl, rfl⟩⟩
theorem rw_X34_behind : rowsB 151835043 prog_20_method_7_code Om19 Ok19 Ol19 false 0 = true := by decide +kernel
theorem mt_X34_behind {s0 : State} (hN : NCs s0) : MethOK s0 151835043 := ⟨Om19, Ok19, Ol19, false, 0, prog_20_method_7_code, none, [], ow19 hN, (fun h => by cases h), rfl, rowsB_s rw_X34_behind, (plainFor_of_name pl_19), Or.inl ⟨rfl, rfl, rfl⟩⟩
theorem rw_X34_numbers : rowsB 152097185 prog_20_method_3_code Om19 Ok19 Ol19 false 1 = true := by decide +kernel
theorem mt_X34_numbers {s0 : State} (hN : NCs s0) : MethOK s0 152097185 := ⟨Om19, Ok19, Ol19, false, 1, prog_20_method_3_code, some Jvm.ClassFile.FieldType.int, [], ow19 hN, (fun h => by cases h), rfl, rowsB_s rw_X34_numbers, (plainFor_of_name pl_19), Or.inl ⟨rfl, rfl, rfl⟩⟩
theorem rw_X34_judged : rowsB 152359330 prog_20_method_8_code Om19 Ok19 Ol19 false 0 = true := by decide +kernel
theorem mt_X34_judged {s0 : State} (hN : NCs s0) : MethOK s0 152359330 := ⟨Om19, Ok19, Ol19, false, 0, prog_20_method_8_code, none, [], ow19 hN, (fun h => by cases h), rfl, rowsB_s rw_X34_judged, (plainFor_of_name pl_19), Or.inl ⟨rfl, rfl, rfl⟩⟩
theorem rw_X34_before : rowsB 152621475 prog_20_method_6_code Om19 Ok19 Ol19 false 0 = true := by decide +kernel
theorem mt_X34_before {s0 : State} (hN : NCs s0) : MethOK s0 152621475 := ⟨Om19, Ok19, Ol19, false, 0, prog_20_method_6_code, none, [], ow19 hN, (fun h => by cases h), rfl, rowsB_s rw_X34_before, (plainFor_of_name pl_19), Or.inl ⟨rfl, rfl, rfl⟩⟩
theorem rw_X34_kind : rowsB 152883617 prog_20_method_2_code Om19 Ok19 Ol19 false 1 = true := by decide +kernel
theorem mt_X34_kind {s0 : State} (hN : NCs s0) : MethOK s0 152883617 := ⟨Om19, Ok19, Ol19, false, 1, prog_20_method_2_code, some Jvm.ClassFile.FieldType.int, [], ow19 hN, (fun h => by cases h), rfl, rowsB_s rw_X34_kind, (plainFor_of_name pl_19), Or.inl ⟨rfl, rfl, rfl⟩⟩
theorem rw_X34_work : rowsB 153145763 prog_20_method_9_code Om19 Ok19 Ol19 false 0 = true := by decide +kernel
theorem mt_X34_work {s0 : State} (hN : NCs s0) : MethOK s0 153145763 := ⟨Om19, Ok19, Ol19, false, 0, prog_20_method_9_code, none, [], ow19 hN, (fun h => by cases h), rfl, rowsB_s rw_X34_work, (plainFor_of_name pl_19), Or.inl ⟨rfl, rfl, rfl⟩⟩
theorem rw_X34_begin : rowsB 153407907 prog_20_method_10_code Om19 Ok19 Ol19 false 0 = true := by decide +kernel
theorem mt_X34_begin {s0 : State} (hN : NCs s0) : MethOK s0 153407907 := ⟨Om19, Ok19, Ol19, false, 0, prog_20_method_10_code, none, [], ow19 hN, (fun h => by cases h), rfl, rowsB_s rw_X34_begin, (plainFor_of_name pl_19), Or.inl ⟨rfl, rfl, rfl⟩⟩
theorem rw_X34_hasWhile : rowsB 153670049 prog_20_method_4_code Om19 Ok19 Ol19 false 2 = true := by decide +kernel
theorem mt_X34_hasWhile {s0 : State} (hN : NCs s0) : MethOK s0 153670049 := ⟨Om19, Ok19, Ol19, false, 2, prog_20_method_4_code, some Jvm.ClassFile.FieldType.boolean, [], ow19 hN, (fun h => by cases h), rfl, rowsB_s rw_X34_hasWhile, (plainFor_of_name pl_19), Or.inl ⟨rfl, rfl, rfl⟩⟩
theorem rw_X35_init : rowsB 153901234 prog_2_method_1_code Om1 Ok1 Ol1 true 0 = true := by decide +kernel
theorem mt_X35_init {s0 : State} (hN : NCs s0) : MethOK s0 153901234 := ⟨Om1, Ok1, Ol1, true, 0, prog_2_method_1_code, none, [], ow1 hN, fun _ => rfl, rfl, rowsB_s rw_X35_init, (plainFor_of_name pl_1), Or.inl ⟨rfl, rfl, rfl⟩⟩
theorem rw_X35_behind : rowsB 154163379 prog_2_method_3_code Om1 Ok1 Ol1 false 0 = true := by decide +kernel
theorem mt_X35_behind {s0 : State} (hN : NCs s0) : MethOK s0 154163379 := ⟨Om1, Ok1, Ol1, false, 0, prog_2_method_3_code, none, [], ow1 hN, (fun h => by cases h), rfl, rowsB_s rw_X35_behind, (plainFor_of_name pl_1), Or.inl ⟨rfl, rfl, rfl⟩⟩
theorem rw_X35_kind : rowsB 154425521 prog_2_method_2_code Om1 Ok1 Ol1 false 1 = true := by decide +kernel
theorem mt_X35_kind {s0 : State} (hN : NCs s0) : MethOK s0 154425521 := ⟨Om1, Ok1, Ol1, false, 1, prog_2_method_2_code, some Jvm.ClassFile.FieldType.int, [], ow1 hN, (fun h => by cases h), rfl, rowsB_s rw_X35_kind, (plainFor_of_name pl_1), Or.inl ⟨rfl, rfl, rfl⟩⟩
theorem rw_X35_work : rowsB 154687667 prog_2_method_4_code Om1 Ok1 Ol1 false 0 = true := by decide +kernel
theorem mt_X35_work {s0 : State} (hN : NCs s0) : MethOK s0 154687667 := ⟨Om1, Ok1, Ol1, false, 0, prog_2_method_4_code, none, [], ow1 hN, (fun h => by cases h), rfl, rowsB_s rw_X35_work, (plainFor_of_name pl_1), Or.inl ⟨rfl, rfl, rfl⟩⟩
theorem rw_X36_init : rowsB 154978707 prog_17_method_1_code Om16 Ok16 Ol16 true 0 = true := by decide +kernel
theorem mt_X36_init {s0 : State} (hN : NCs s0) : MethOK s0 154978707 := ⟨Om16, Ok16, Ol16, true, 0, prog_17_method_1_code, none, [], ow16 hN, fun _ => rfl, rfl, rowsB_s rw_X36_init, (plainFor_of_name pl_16), Or.inl ⟨rfl, rfl, rfl⟩⟩
theorem rw_X36_judged : rowsB 155240850 prog_17_method_4_code Om16 Ok16 Ol16 false 0 = true := by decide +kernel
theorem mt_X36_judged {s0 : State} (hN : NCs s0) : MethOK s0 155240850 := ⟨Om16, Ok16, Ol16, false, 0, prog_17_method_4_code, none, [], ow16 hN, (fun h => by cases h), rfl, rowsB_s rw_X36_judged, (plainFor_of_name pl_16), Or.inl ⟨rfl, rfl, rfl⟩⟩
theorem rw_X36_isAny : rowsB 155451393 prog_17_method_3_code Om16 Ok16 Ol16 false 2 = true := by decide +kernel
theorem mt_X36_isAny {s0 : State} (hN : NCs s0) : MethOK s0 155451393 := ⟨Om16, Ok16, Ol16, false, 2, prog_17_method_3_code, some Jvm.ClassFile.FieldType.boolean, [], ow16 hN, (fun h => by cases h), rfl, rowsB_s rw_X36_isAny, (plainFor_of_name pl_16), Or.inl ⟨rfl, rfl, rfl⟩⟩
theorem rw_X36_kind : rowsB 155765137 prog_17_method_2_code Om16 Ok16 Ol16 false 1 = true := by decide +kernel
theorem mt_X36_kind {s0 : State} (hN : NCs s0) : MethOK s0 155765137 := ⟨Om16, Ok16, Ol16, false, 1, prog_17_method_2_code, some Jvm.ClassFile.FieldType.int, [], ow16 hN, (fun h => by cases h), rfl, rowsB_s rw_X36_kind, (plainFor_of_name pl_16), Or.inl ⟨rfl, rfl, rfl⟩⟩
theorem rw_X36_work : rowsB 156027283 prog_17_method_5_code Om16 Ok16 Ol16 false 0 = true := by decide +kernel
theorem mt_X36_work {s0 : State} (hN : NCs s0) : MethOK s0 156027283 := ⟨Om16, Ok16, Ol16, false, 0, prog_17_method_5_code, none, [], ow16 hN, (fun h => by cases h), rfl, rowsB_s rw_X36_work, (plainFor_of_name pl_16), Or.inl ⟨rfl, rfl, rfl⟩⟩
theorem rw_X37_init : rowsB 156293554 prog_25_method_1_code Om24 Ok24 Ol24 true 0 = true := by decide +kernel
theorem mt_X37_init {s0 : State} (hN : NCs s0) : MethOK s0 156293554 := ⟨Om24, Ok24, Ol24, true, 0, prog_25_method_1_code, none, [], ow24 hN, fun _ => rfl, rfl, rowsB_s rw_X37_init, (plainFor_of_name pl_24), Or.inl ⟨rfl, rfl, rfl⟩⟩
theorem rw_X37_comes : rowsB 156555699 prog_25_method_3_code Om24 Ok24 Ol24 false 0 = true := by decide +kernel
theorem mt_X37_comes {s0 : State} (hN : NCs s0) : MethOK s0 156555699 := ⟨Om24, Ok24, Ol24, false, 0, prog_25_method_3_code, none, [], ow24 hN, (fun h => by cases h), rfl, rowsB_s rw_X37_comes, (plainFor_of_name pl_24), Or.inl ⟨rfl, rfl, rfl⟩⟩
theorem rw_X37_kind : rowsB 156817841 prog_25_method_2_code Om24 Ok24 Ol24 false 1 = true := by decide +kernel
theorem mt_X37_kind {s0 : State} (hN : NCs s0) : MethOK s0 156817841 := ⟨Om24, Ok24, Ol24, false, 1, prog_25_method_2_code, some Jvm.ClassFile.FieldType.int, [], ow24 hN, (fun h => by cases h), rfl, rowsB_s rw_X37_kind, (plainFor_of_name pl_24), Or.inl ⟨rfl, rfl, rfl⟩⟩
theorem rw_X37_work : rowsB 157079987 prog_25_method_4_code Om24 Ok24 Ol24 false 0 = true := by decide +kernel
theorem mt_X37_work {s0 : State} (hN : NCs s0) : MethOK s0 157079987 := ⟨Om24, Ok24, Ol24, false, 0, prog_25_method_4_code, none, [], ow24 hN, (fun h => by cases h), rfl, rowsB_s rw_X37_work, (plainFor_of_name pl_24), Or.inl ⟨rfl, rfl, rfl⟩⟩
theorem rw_X38_init : rowsB 157317363 prog_27_method_1_code Om26 Ok26 Ol26 true 0 = true := by decide +kernel
theorem mt_X38_init {s0 : State} (hN : NCs s0) : MethOK s0 157317363 := ⟨Om26, Ok26, Ol26, true, 0, prog_27_method_1_code, none, [], ow26 hN, fun _ => rfl, rfl, rowsB_s rw_X38_init, (plainFor_of_name pl_26), Or.inl ⟨rfl, rfl, rfl⟩⟩
theorem rw_X38_declare : rowsB 157579506 prog_27_method_4_code Om26 Ok26 Ol26 false 0 = true := by decide +kernel
theorem mt_X38_declare {s0 : State} (hN : NCs s0) : MethOK s0 157579506 := ⟨Om26, Ok26, Ol26, false, 0, prog_27_method_4_code, none, [], ow26 hN, (fun h => by cases h), rfl, rowsB_s rw_X38_declare, (plainFor_of_name pl_26), Or.inl ⟨rfl, rfl, rfl⟩⟩
theorem rw_X38_routine : rowsB 157841649 prog_27_method_3_code Om26 Ok26 Ol26 false 5 = true := by decide +kernel
theorem mt_X38_routine {s0 : State} (hN : NCs s0) : MethOK s0 157841649 := ⟨Om26, Ok26, Ol26, false, 5, prog_27_method_3_code, some (Jvm.ClassFile.FieldType.object "AlgolHouse$Routine"), [], ow26 hN, (fun h => by cases h), ⟨_, rfl, Or.inl ⟨_, rfl⟩⟩, rowsB_s rw_X38_routine, (plainFor_of_name pl_26), Or.inl ⟨rfl, rfl, rfl⟩⟩
theorem rw_X38_kind : rowsB 158103793 prog_27_method_2_code Om26 Ok26 Ol26 false 1 = true := by decide +kernel
theorem mt_X38_kind {s0 : State} (hN : NCs s0) : MethOK s0 158103793 := ⟨Om26, Ok26, Ol26, false, 1, prog_27_method_2_code, some Jvm.ClassFile.FieldType.int, [], ow26 hN, (fun h => by cases h), rfl, rowsB_s rw_X38_kind, (plainFor_of_name pl_26), Or.inl ⟨rfl, rfl, rfl⟩⟩
theorem rw_X38_work : rowsB 158365939 prog_27_method_5_code Om26 Ok26 Ol26 false 0 = true := by decide +kernel
theorem mt_X38_work {s0 : State} (hN : NCs s0) : MethOK s0 158365939 := ⟨Om26, Ok26, Ol26, false, 0, prog_27_method_5_code, none, [], ow26 hN, (fun h => by cases h), rfl, rowsB_s rw_X38_work, (plainFor_of_name pl_26), Or.inl ⟨rfl, rfl, rfl⟩⟩
theorem rw_X39_init : rowsB 158630151 prog_46_method_1_code Om44 Ok44 Ol44 true 0 = true := by decide +kernel
theorem mt_X39_init {s0 : State} (hN : NCs s0) : MethOK s0 158630151 := ⟨Om44, Ok44, Ol44, true, 0, prog_46_method_1_code, none, [], ow44 hN, fun _ => rfl, rfl, rowsB_s rw_X39_init, (plainFor_of_name pl_44), Or.inl ⟨rfl, rfl, rfl⟩⟩
theorem rw_X39_declare : rowsB 158892290 prog_46_method_3_code Om44 Ok44 Ol44 false 0 = true := by decide +kernel
theorem mt_X39_declare {s0 : State} (hN : NCs s0) : MethOK s0 158892290 := ⟨Om44, Ok44, Ol44, false, 0, prog_46_method_3_code, none, [], ow44 hN, (fun h => by cases h), rfl, rowsB_s rw_X39_declare, (plainFor_of_name pl_44), Or.inl ⟨rfl, rfl, rfl⟩⟩
theorem rw_X39_behind : rowsB 159154435 prog_46_method_5_code Om44 Ok44 Ol44 false 0 = true := by decide +kernel
theorem mt_X39_behind {s0 : State} (hN : NCs s0) : MethOK s0 159154435 := ⟨Om44, Ok44, Ol44, false, 0, prog_46_method_5_code, none, [], ow44 hN, (fun h => by cases h), rfl, rowsB_s rw_X39_behind, (plainFor_of_name pl_44), Or.inl ⟨rfl, rfl, rfl⟩⟩
theorem rw_X39_kind : rowsB 159416577 prog_46_method_2_code Om44 Ok44 Ol44 false 1 = true := by decide +kernel
theorem mt_X39_kind {s0 : State} (hN : NCs s0) : MethOK s0 159416577 := ⟨Om44, Ok44, Ol44, false, 1, prog_46_method_2_code, some Jvm.ClassFile.FieldType.int, [], ow44 hN, (fun h => by cases h), rfl, rowsB_s rw_X39_kind, (plainFor_of_name pl_44), Or.inl ⟨rfl, rfl, rfl⟩⟩
theorem rw_X39_work : rowsB 159678723 prog_46_method_6_code Om44 Ok44 Ol44 false 0 = true := by decide +kernel
theorem mt_X39_work {s0 : State} (hN : NCs s0) : MethOK s0 159678723 := ⟨Om44, Ok44, Ol44, false, 0, prog_46_method_6_code, none, [], ow44 hN, (fun h => by cases h), rfl, rowsB_s rw_X39_work, (plainFor_of_name pl_44), Or.inl ⟨rfl, rfl, rfl⟩⟩
theorem rw_X39_hasUnit : rowsB 159940865 prog_46_method_4_code Om44 Ok44 Ol44 false 2 = true := by decide +kernel
theorem mt_X39_hasUnit {s0 : State} (hN : NCs s0) : MethOK s0 159940865 := ⟨Om44, Ok44, Ol44, false, 2, prog_46_method_4_code, some Jvm.ClassFile.FieldType.boolean, [], ow44 hN, (fun h => by cases h), rfl, rowsB_s rw_X39_hasUnit, (plainFor_of_name pl_44), Or.inl ⟨rfl, rfl, rfl⟩⟩
theorem rw_X40_init : rowsB 160254611 prog_38_method_1_code Om37 Ok37 Ol37 true 0 = true := by decide +kernel
theorem mt_X40_init {s0 : State} (hN : NCs s0) : MethOK s0 160254611 := ⟨Om37, Ok37, Ol37, true, 0, prog_38_method_1_code, none, [], ow37 hN, fun _ => rfl, rfl, rowsB_s rw_X40_init, (plainFor_of_name pl_37), Or.inl ⟨rfl, rfl, rfl⟩⟩
theorem rw_X40_find : rowsB 160516754 prog_38_method_2_code Om37 Ok37 Ol37 false 5 = true := by decide +kernel
theorem mt_X40_find {s0 : State} (hN : NCs s0) : MethOK s0 160516754 := ⟨Om37, Ok37, Ol37, false, 5, prog_38_method_2_code, some (Jvm.ClassFile.FieldType.object "AlgolHouse$Meaning"), [], ow37 hN, (fun h => by cases h), ⟨_, rfl, Or.inl ⟨_, rfl⟩⟩, rowsB_s rw_X40_find, (plainFor_of_name pl_37), Or.inl ⟨rfl, rfl, rfl⟩⟩
theorem rw_X40_room : rowsB 160778897 prog_38_method_3_code Om37 Ok37 Ol37 false 1 = true := by decide +kernel
theorem mt_X40_room {s0 : State} (hN : NCs s0) : MethOK s0 160778897 := ⟨Om37, Ok37, Ol37, false, 1, prog_38_method_3_code, some Jvm.ClassFile.FieldType.int, [], ow37 hN, (fun h => by cases h), rfl, rowsB_s rw_X40_room, (plainFor_of_name pl_37), Or.inl ⟨rfl, rfl, rfl⟩⟩
theorem rw_X41_init : rowsB 160972916 prog_22_method_1_code Om21 Ok21 Ol21 true 0 = true := by decide +kernel
theorem mt_X41_init {s0 : State} (hN : NCs s0) : MethOK s0 160972916 := ⟨Om21, Ok21, Ol21, true, 0, prog_22_method_1_code, none, [], ow21 hN, fun _ => rfl, rfl, rowsB_s rw_X41_init, (plainFor_of_name pl_21), Or.inl ⟨rfl, rfl, rfl⟩⟩
theorem rw_X42_init : rowsB 161235076 prog_28_method_1_code Om27 Ok27 Ol27 true 0 = true := by decide +kernel
theorem mt_X42_init {s0 : State} (hN : NCs s0) : MethOK s0 161235076 := ⟨Om27, Ok27, Ol27, true, 0, prog_28_method_1_code, none, [], ow27 hN, fun _ => rfl, rfl, rowsB_s rw_X42_init, (plainFor_of_name pl_27), Or.inl ⟨rfl, rfl, rfl⟩⟩
theorem rw_X43_init : rowsB 161561202 prog_35_method_1_code Om34 Ok34 Ol34 true 0 = true := by decide +kernel
theorem mt_X43_init {s0 : State} (hN : NCs s0) : MethOK s0 161561202 := ⟨Om34, Ok34, Ol34, true, 0, prog_35_method_1_code, none, [], ow34 hN, fun _ => rfl, rfl, rowsB_s rw_X43_init, (plainFor_of_name pl_34), Or.inl ⟨rfl, rfl, rfl⟩⟩
theorem rw_X44_init : rowsB 161749041 prog_13_method_1_code Om12 Ok12 Ol12 true 0 = true := by decide +kernel
theorem mt_X44_init {s0 : State} (hN : NCs s0) : MethOK s0 161749041 := ⟨Om12, Ok12, Ol12, true, 0, prog_13_method_1_code, none, [], ow12 hN, fun _ => rfl, rfl, rowsB_s rw_X44_init, (plainFor_of_name pl_12), Or.inl ⟨rfl, rfl, rfl⟩⟩
theorem rw_X44_begin : rowsB 162011186 prog_13_method_2_code Om12 Ok12 Ol12 false 0 = true := by decide +kernel
theorem mt_X44_begin {s0 : State} (hN : NCs s0) : MethOK s0 162011186 := ⟨Om12, Ok12, Ol12, false, 0, prog_13_method_2_code, none, [], ow12 hN, (fun h => by cases h), rfl, rowsB_s rw_X44_begin, (plainFor_of_name pl_12), Or.inl ⟨rfl, rfl, rfl⟩⟩
theorem rw_X45_init : rowsB 162345569 prog_32_method_1_code Om31 Ok31 Ol31 true 0 = true := by decide +kernel
theorem mt_X45_init {s0 : State} (hN : NCs s0) : MethOK s0 162345569 := ⟨Om31, Ok31, Ol31, true, 0, prog_32_method_1_code, none, [], ow31 hN, fun _ => rfl, rfl, rowsB_s rw_X45_init, (plainFor_of_name pl_31), Or.inl ⟨rfl, rfl, rfl⟩⟩
theorem rw_X45_add : rowsB 162607714 prog_32_method_2_code Om31 Ok31 Ol31 false 0 = true := by decide +kernel
theorem mt_X45_add {s0 : State} (hN : NCs s0) : MethOK s0 162607714 := ⟨Om31, Ok31, Ol31, false, 0, prog_32_method_2_code, none, [], ow31 hN, (fun h => by cases h), rfl, rowsB_s rw_X45_add, (plainFor_of_name pl_31), Or.inl ⟨rfl, rfl, rfl⟩⟩
theorem rw_X45_part : rowsB 162869858 prog_32_method_3_code Om31 Ok31 Ol31 false 5 = true := by decide +kernel
theorem mt_X45_part {s0 : State} (hN : NCs s0) : MethOK s0 162869858 := ⟨Om31, Ok31, Ol31, false, 5, prog_32_method_3_code, some (Jvm.ClassFile.FieldType.object "AlgolHouse$Place"), [], ow31 hN, (fun h => by cases h), ⟨_, rfl, Or.inl ⟨_, rfl⟩⟩, rowsB_s rw_X45_part, (plainFor_of_name pl_31), Or.inl ⟨rfl, rfl, rfl⟩⟩
theorem rw_X46_init : rowsB 163140257 prog_45_method_1_code Om43 Ok43 Ol43 true 0 = true := by decide +kernel
theorem mt_X46_init {s0 : State} (hN : NCs s0) : MethOK s0 163140257 := ⟨Om43, Ok43, Ol43, true, 0, prog_45_method_1_code, none, [], ow43 hN, fun _ => rfl, rfl, rowsB_s rw_X46_init, (plainFor_of_name pl_43), Or.inl ⟨rfl, rfl, rfl⟩⟩
theorem rw_X46_clear : rowsB 163402402 prog_45_method_2_code Om43 Ok43 Ol43 false 5 = true := by decide +kernel
theorem mt_X46_clear {s0 : State} (hN : NCs s0) : MethOK s0 163402402 := ⟨Om43, Ok43, Ol43, false, 5, prog_45_method_2_code, some (Jvm.ClassFile.FieldType.object "AlgolHouse$Value"), [], ow43 hN, (fun h => by cases h), ⟨_, rfl, Or.inl ⟨_, rfl⟩⟩, rowsB_s rw_X46_clear, (plainFor_of_name pl_43), Or.inl ⟨rfl, rfl, rfl⟩⟩
theorem rw_X46_add : rowsB 163664546 prog_45_method_3_code Om43 Ok43 Ol43 false 0 = true := by decide +kernel
theorem mt_X46_add {s0 : State} (hN : NCs s0) : MethOK s0 163664546 := ⟨Om43, Ok43, Ol43, false, 0, prog_45_method_3_code, none, [], ow43 hN, (fun h => by cases h), rfl, rowsB_s rw_X46_add, (plainFor_of_name pl_43), Or.inl ⟨rfl, rfl, rfl⟩⟩
theorem rw_X46_part : rowsB 163926690 prog_45_method_4_code Om43 Ok43 Ol43 false 5 = true := by decide +kernel
theorem mt_X46_part {s0 : State} (hN : NCs s0) : MethOK s0 163926690 := ⟨Om43, Ok43, Ol43, false, 5, prog_45_method_4_code, some (Jvm.ClassFile.FieldType.object "AlgolHouse$Value"), [], ow43 hN, (fun h => by cases h), ⟨_, rfl, Or.inl ⟨_, rfl⟩⟩, rowsB_s rw_X46_part, (plainFor_of_name pl_43), Or.inl ⟨rfl, rfl, rfl⟩⟩
theorem rw_X47_is : rowsB 164174386 prog_29_method_2_code Om28 Ok28 Ol28 false 2 = true := by decide +kernel
theorem mt_X47_is {s0 : State} (hN : NCs s0) : MethOK s0 164174386 := ⟨Om28, Ok28, Ol28, false, 2, prog_29_method_2_code, some Jvm.ClassFile.FieldType.boolean, [], ow28 hN, (fun h => by cases h), rfl, rowsB_s rw_X47_is, (plainFor_of_name pl_28), Or.inl ⟨rfl, rfl, rfl⟩⟩
theorem rw_X47_init : rowsB 164436530 prog_29_method_1_code Om28 Ok28 Ol28 true 0 = true := by decide +kernel
theorem mt_X47_init {s0 : State} (hN : NCs s0) : MethOK s0 164436530 := ⟨Om28, Ok28, Ol28, true, 0, prog_29_method_1_code, none, [], ow28 hN, fun _ => rfl, rfl, rowsB_s rw_X47_init, (plainFor_of_name pl_28), Or.inl ⟨rfl, rfl, rfl⟩⟩
theorem rw_J6_init : rowsB 164725505 prog_81_method_2_code Om61 Ok61 Ol61 true 0 = true := by decide +kernel
theorem mt_J6_init {s0 : State} (hN : NCs s0) : MethOK s0 164725505 := ⟨Om61, Ok61, Ol61, true, 0, prog_81_method_2_code, none, [], ow61 hN, fun _ => rfl, rfl, rowsB_s rw_J6_init, (plainFor_of_name pl_61), Or.inl ⟨rfl, rfl, rfl⟩⟩
theorem rw_J6_init_2 : rowsB 164987650 prog_81_method_1_code Om61 Ok61 Ol61 true 0 = true := by decide +kernel
theorem mt_J6_init_2 {s0 : State} (hN : NCs s0) : MethOK s0 164987650 := ⟨Om61, Ok61, Ol61, true, 0, prog_81_method_1_code, none, [], ow61 hN, fun _ => rfl, rfl, rowsB_s rw_J6_init_2, (plainFor_of_name pl_61), Or.inl ⟨rfl, rfl, rfl⟩⟩
theorem rw_J6_size : rowsB 165249793 prog_81_method_8_code Om61 Ok61 Ol61 false 1 = true := by decide +kernel
theorem mt_J6_size {s0 : State} (hN : NCs s0) : MethOK s0 165249793 := ⟨Om61, Ok61, Ol61, false, 1, prog_81_method_8_code, some Jvm.ClassFile.FieldType.int, [], ow61 hN, (fun h => by cases h), rfl, rowsB_s rw_J6_size, (plainFor_of_name pl_61), Or.inl ⟨rfl, rfl, rfl⟩⟩
theorem rw_J6_clear : rowsB 165511937 prog_81_method_40_code Om61 Ok61 Ol61 false 0 = true := by decide +kernel
theorem mt_J6_clear {s0 : State} (hN : NCs s0) : MethOK s0 165511937 := ⟨Om61, Ok61, Ol61, false, 0, prog_81_method_40_code, none, [], ow61 hN, (fun h => by cases h), rfl, rowsB_s rw_J6_clear, (plainFor_of_name pl_61), Or.inl ⟨rfl, rfl, rfl⟩⟩
theorem rw_J6_add : rowsB 165774082 prog_81_method_25_code Om61 Ok61 Ol61 false 2 = true := by decide +kernel
theorem mt_J6_add {s0 : State} (hN : NCs s0) : MethOK s0 165774082 := ⟨Om61, Ok61, Ol61, false, 2, prog_81_method_25_code, some Jvm.ClassFile.FieldType.boolean, [], ow61 hN, (fun h => by cases h), rfl, rowsB_s rw_J6_add, (plainFor_of_name pl_61), Or.inl ⟨rfl, rfl, rfl⟩⟩
theorem rw_J6_add_2 : rowsB 166036228 prog_81_method_24_code Om61 Ok61 Ol61 false 0 = true := by decide +kernel
theorem mt_J6_add_2 {s0 : State} (hN : NCs s0) : MethOK s0 166036228 := ⟨Om61, Ok61, Ol61, false, 0, prog_81_method_24_code, none, [], ow61 hN, (fun h => by cases h), rfl, rowsB_s rw_J6_add_2, (plainFor_of_name pl_61), Or.inl ⟨rfl, rfl, rfl⟩⟩
theorem rw_J6_grow : rowsB 166298369 prog_81_method_7_code Om61 Ok61 Ol61 false 5 = true := by decide +kernel
theorem mt_J6_grow {s0 : State} (hN : NCs s0) : MethOK s0 166298369 := ⟨Om61, Ok61, Ol61, false, 5, prog_81_method_7_code, some (Jvm.ClassFile.FieldType.array (Jvm.ClassFile.FieldType.object "java/lang/Object")), [], ow61 hN, (fun h => by cases h), ⟨_, rfl, Or.inr ⟨_, rfl⟩⟩, rowsB_s rw_J6_grow, (plainFor_of_name pl_61), Or.inl ⟨rfl, rfl, rfl⟩⟩
theorem rw_J6_grow_2 : rowsB 166560514 prog_81_method_6_code Om61 Ok61 Ol61 false 5 = true := by decide +kernel
theorem mt_J6_grow_2 {s0 : State} (hN : NCs s0) : MethOK s0 166560514 := ⟨Om61, Ok61, Ol61, false, 5, prog_81_method_6_code, some (Jvm.ClassFile.FieldType.array (Jvm.ClassFile.FieldType.object "java/lang/Object")), [], ow61 hN, (fun h => by cases h), ⟨_, rfl, Or.inr ⟨_, rfl⟩⟩, rowsB_s rw_J6_grow_2, (plainFor_of_name pl_61), Or.inl ⟨rfl, rfl, rfl⟩⟩
theorem rw_J6_get : rowsB 166822658 prog_81_method_20_code Om61 Ok61 Ol61 false 5 = true := by decide +kernel
theorem mt_J6_get {s0 : State} (hN : NCs s0) : MethOK s0 166822658 := ⟨Om61, Ok61, Ol61, false, 5, prog_81_method_20_code, some (Jvm.ClassFile.FieldType.object "java/lang/Object"), [], ow61 hN, (fun h => by cases h), ⟨_, rfl, Or.inl ⟨_, rfl⟩⟩, rowsB_s rw_J6_get, (plainFor_of_name pl_61), Or.inl ⟨rfl, rfl, rfl⟩⟩
theorem rw_J6_elementData : rowsB 167084802 prog_81_method_18_code Om61 Ok61 Ol61 false 5 = true := by decide +kernel
theorem mt_J6_elementData {s0 : State} (hN : NCs s0) : MethOK s0 167084802 := ⟨Om61, Ok61, Ol61, false, 5, prog_81_method_18_code, some (Jvm.ClassFile.FieldType.object "java/lang/Object"), [], ow61 hN, (fun h => by cases h), ⟨_, rfl, Or.inl ⟨_, rfl⟩⟩, rowsB_s rw_J6_elementData, (plainFor_of_name pl_61), Or.inl ⟨rfl, rfl, rfl⟩⟩
theorem rw_J6_contains : rowsB 167346946 prog_81_method_10_code Om61 Ok61 Ol61 false 2 = true := by decide +kernel
theorem mt_J6_contains {s0 : State} (hN : NCs s0) : MethOK s0 167346946 := ⟨Om61, Ok61, Ol61, false, 2, prog_81_method_10_code, some Jvm.ClassFile.FieldType.boolean, [], ow61 hN, (fun h => by cases h), rfl, rowsB_s rw_J6_contains, (plainFor_of_name pl_61), Or.inl ⟨rfl, rfl, rfl⟩⟩
theorem rw_J6_indexOf : rowsB 167609090 prog_81_method_11_code Om61 Ok61 Ol61 false 1 = true := by decide +kernel
theorem mt_J6_indexOf {s0 : State} (hN : NCs s0) : MethOK s0 167609090 := ⟨Om61, Ok61, Ol61, false, 1, prog_81_method_11_code, some Jvm.ClassFile.FieldType.int, [], ow61 hN, (fun h => by cases h), rfl, rowsB_s rw_J6_indexOf, (plainFor_of_name pl_61), Or.inl ⟨rfl, rfl, rfl⟩⟩
theorem rw_J6_indexOfRange : rowsB 167871236 prog_81_method_12_code Om61 Ok61 Ol61 false 1 = true := by decide +kernel
theorem mt_J6_indexOfRange {s0 : State} (hN : NCs s0) : MethOK s0 167871236 := ⟨Om61, Ok61, Ol61, false, 1, prog_81_method_12_code, some Jvm.ClassFile.FieldType.int, [], ow61 hN, (fun h => by cases h), rfl, rowsB_s rw_J6_indexOfRange, (plainFor_of_name pl_61), Or.inl ⟨rfl, rfl, rfl⟩⟩
theorem rw_J6_remove : rowsB 168133378 prog_81_method_29_code Om61 Ok61 Ol61 false 5 = true := by decide +kernel
theorem mt_J6_remove {s0 : State} (hN : NCs s0) : MethOK s0 168133378 := ⟨Om61, Ok61, Ol61, false, 5, prog_81_method_29_code, some (Jvm.ClassFile.FieldType.object "java/lang/Object"), [], ow61 hN, (fun h => by cases h), ⟨_, rfl, Or.inl ⟨_, rfl⟩⟩, rowsB_s rw_J6_remove, (plainFor_of_name pl_61), Or.inl ⟨rfl, rfl, rfl⟩⟩
theorem rw_J6_fastRemove : rowsB 168395523 prog_81_method_39_code Om61 Ok61 Ol61 false 0 = true := by decide +kernel
theorem mt_J6_fastRemove {s0 : State} (hN : NCs s0) : MethOK s0 168395523 := ⟨Om61, Ok61, Ol61, false, 0, prog_81_method_39_code, none, [], ow61 hN, (fun h => by cases h), rfl, rowsB_s rw_J6_fastRemove, (plainFor_of_name pl_61), Or.inl ⟨rfl, rfl, rfl⟩⟩
theorem rw_J6_addAll : rowsB 168657666 prog_81_method_41_code Om61 Ok61 Ol61 false 2 = true := by decide +kernel
theorem mt_J6_addAll {s0 : State} (hN : NCs s0) : MethOK s0 168657666 := ⟨Om61, Ok61, Ol61, false, 2, prog_81_method_41_code, some Jvm.ClassFile.FieldType.boolean, [], ow61 hN, (fun h => by cases h), rfl, rowsB_s rw_J6_addAll, (plainFor_of_name pl_61), Or.inl ⟨rfl, rfl, rfl⟩⟩
theorem rw_J6_toArray : rowsB 168919809 prog_81_method_16_code Om61 Ok61 Ol61 false 5 = true := by decide +kernel
theorem mt_J6_toArray {s0 : State} (hN : NCs s0) : MethOK s0 168919809 := ⟨Om61, Ok61, Ol61, false, 5, prog_81_method_16_code, some (Jvm.ClassFile.FieldType.array (Jvm.ClassFile.FieldType.object "java/lang/Object")), [], ow61 hN, (fun h => by cases h), ⟨_, rfl, Or.inr ⟨_, rfl⟩⟩, rowsB_s rw_J6_toArray, (plainFor_of_name pl_61), Or.inl ⟨rfl, rfl, rfl⟩⟩
theorem rw_J5_init : rowsB 169181953 prog_80_method_1_code Om60 Ok60 Ol60 true 0 = true := by decide +kernel
theorem mt_J5_init {s0 : State} (hN : NCs s0) : MethOK s0 169181953 := ⟨Om60, Ok60, Ol60, true, 0, prog_80_method_1_code, none, [], ow60 hN, fun _ => rfl, rfl, rowsB_s rw_J5_init, (plainFor_of_name pl_60), Or.inl ⟨rfl, rfl, rfl⟩⟩
theorem rw_J4_init : rowsB 169444097 prog_79_method_1_code Om59 Ok59 Ol59 true 0 = true := by decide +kernel
theorem mt_J4_init {s0 : State} (hN : NCs s0) : MethOK s0 169444097 := ⟨Om59, Ok59, Ol59, true, 0, prog_79_method_1_code, none, [], ow59 hN, fun _ => rfl, rfl, rowsB_s rw_J4_init, (plainFor_of_name pl_59), Or.inl ⟨rfl, rfl, rfl⟩⟩
theorem rw_J16_init : rowsB 169714449 prog_69_method_1_code Om53 Ok53 Ol53 true 0 = true := by decide +kernel
theorem mt_J16_init {s0 : State} (hN : NCs s0) : MethOK s0 169714449 := ⟨Om53, Ok53, Ol53, true, 0, prog_69_method_1_code, none, [], ow53 hN, fun _ => rfl, rfl, rowsB_s rw_J16_init, (plainFor_of_name pl_53), Or.inl ⟨rfl, rfl, rfl⟩⟩
theorem rw_J17_valueOf : rowsB 169869313 prog_63_method_22_code Om50 Ok50 Ol50 false 5 = true := by decide +kernel
theorem mt_J17_valueOf {s0 : State} (hN : NCs s0) : MethOK s0 169869313 := ⟨Om50, Ok50, Ol50, false, 5, prog_63_method_22_code, some (Jvm.ClassFile.FieldType.object "java/lang/Integer"), [], ow50 hN, (fun h => by cases h), ⟨_, rfl, Or.inl ⟨_, rfl⟩⟩, rowsB_s rw_J17_valueOf, (plainFor_of_name pl_50), Or.inl ⟨rfl, rfl, rfl⟩⟩
theorem rw_J17_init : rowsB 170234642 prog_63_method_23_code Om50 Ok50 Ol50 true 0 = true := by decide +kernel
theorem mt_J17_init {s0 : State} (hN : NCs s0) : MethOK s0 170234642 := ⟨Om50, Ok50, Ol50, true, 0, prog_63_method_23_code, none, [], ow50 hN, fun _ => rfl, rfl, rowsB_s rw_J17_init, (plainFor_of_name pl_50), Or.inl ⟨rfl, rfl, rfl⟩⟩
theorem rw_J17_intValue : rowsB 170496785 prog_63_method_27_code Om50 Ok50 Ol50 false 1 = true := by decide +kernel
theorem mt_J17_intValue {s0 : State} (hN : NCs s0) : MethOK s0 170496785 := ⟨Om50, Ok50, Ol50, false, 1, prog_63_method_27_code, some Jvm.ClassFile.FieldType.int, [], ow50 hN, (fun h => by cases h), rfl, rowsB_s rw_J17_intValue, (plainFor_of_name pl_50), Or.inl ⟨rfl, rfl, rfl⟩⟩
theorem rw_J17_bitCount : rowsB 170655745 prog_63_method_49_code Om50 Ok50 Ol50 false 1 = true := by decide +kernel
theorem mt_J17_bitCount {s0 : State} (hN : NCs s0) : MethOK s0 170655745 := ⟨Om50, Ok50, Ol50, false, 1, prog_63_method_49_code, some Jvm.ClassFile.FieldType.int, [], ow50 hN, (fun h => by cases h), rfl, rowsB_s rw_J17_bitCount, (plainFor_of_name pl_50), Or.inl ⟨rfl, rfl, rfl⟩⟩
theorem rw_J20_valueOf : rowsB 170917889 prog_66_method_24_code Om51 Ok51 Ol51 false 5 = true := by decide +kernel
theorem mt_J20_valueOf {s0 : State} (hN : NCs s0) : MethOK s0 170917889 := ⟨Om51, Ok51, Ol51, false, 5, prog_66_method_24_code, some (Jvm.ClassFile.FieldType.object "java/lang/Long"), [], ow51 hN, (fun h => by cases h), ⟨_, rfl, Or.inl ⟨_, rfl⟩⟩, rowsB_s rw_J20_valueOf, (plainFor_of_name pl_51), Or.inl ⟨rfl, rfl, rfl⟩⟩
theorem rw_J20_init : rowsB 171287346 prog_66_method_26_code Om51 Ok51 Ol51 true 0 = true := by decide +kernel
theorem mt_J20_init {s0 : State} (hN : NCs s0) : MethOK s0 171287346 := ⟨Om51, Ok51, Ol51, true, 0, prog_66_method_26_code, none, [], ow51 hN, fun _ => rfl, rfl, rowsB_s rw_J20_init, (plainFor_of_name pl_51), Or.inl ⟨rfl, rfl, rfl⟩⟩
theorem rw_J20_equals : rowsB 171549490 prog_66_method_37_code Om51 Ok51 Ol51 false 2 = true := by decide +kernel
theorem mt_J20_equals {s0 : State} (hN : NCs s0) : MethOK s0 171549490 := ⟨Om51, Ok51, Ol51, false, 2, prog_66_method_37_code, some Jvm.ClassFile.FieldType.boolean, [], ow51 hN, (fun h => by cases h), rfl, rowsB_s rw_J20_equals, (plainFor_of_name pl_51), Or.inl ⟨rfl, rfl, rfl⟩⟩
theorem rw_J20_longValue : rowsB 171811633 prog_66_method_31_code Om51 Ok51 Ol51 false 4 = true := by decide +kernel
theorem mt_J20_longValue {s0 : State} (hN : NCs s0) : MethOK s0 171811633 := ⟨Om51, Ok51, Ol51, false, 4, prog_66_method_31_code, some Jvm.ClassFile.FieldType.long, [], ow51 hN, (fun h => by cases h), rfl, rowsB_s rw_J20_longValue, (plainFor_of_name pl_51), Or.inl ⟨rfl, rfl, rfl⟩⟩
theorem rw_J21_valueOf : rowsB 171966465 prog_54_method_5_code Om48 Ok48 Ol48 false 5 = true := by decide +kernel
theorem mt_J21_valueOf {s0 : State} (hN : NCs s0) : MethOK s0 171966465 := ⟨Om48, Ok48, Ol48, false, 5, prog_54_method_5_code, some (Jvm.ClassFile.FieldType.object "java/lang/Boolean"), [], ow48 hN, (fun h => by cases h), ⟨_, rfl, Or.inl ⟨_, rfl⟩⟩, rowsB_s rw_J21_valueOf, (plainFor_of_name pl_48), Or.inl ⟨rfl, rfl, rfl⟩⟩
theorem rw_J21_booleanValue : rowsB 172340065 prog_54_method_4_code Om48 Ok48 Ol48 false 2 = true := by decide +kernel
theorem mt_J21_booleanValue {s0 : State} (hN : NCs s0) : MethOK s0 172340065 := ⟨Om48, Ok48, Ol48, false, 2, prog_54_method_4_code, some Jvm.ClassFile.FieldType.boolean, [], ow48 hN, (fun h => by cases h), rfl, rowsB_s rw_J21_booleanValue, (plainFor_of_name pl_48), Or.inl ⟨rfl, rfl, rfl⟩⟩
theorem rw_J22_checkIndex : rowsB 172490754 prog_85_method_17_code Om62 Ok62 Ol62 false 1 = true := by decide +kernel
theorem mt_J22_checkIndex {s0 : State} (hN : NCs s0) : MethOK s0 172490754 := ⟨Om62, Ok62, Ol62, false, 1, prog_85_method_17_code, some Jvm.ClassFile.FieldType.int, [], ow62 hN, (fun h => by cases h), rfl, rowsB_s rw_J22_checkIndex, (plainFor_of_name pl_62), Or.inl ⟨rfl, rfl, rfl⟩⟩
theorem rw_J2_checkIndex : rowsB 172752899 prog_89_method_11_code Om64 Ok64 Ol64 false 1 = true := by decide +kernel
theorem mt_J2_checkIndex {s0 : State} (hN : NCs s0) : MethOK s0 172752899 := ⟨Om64, Ok64, Ol64, false, 1, prog_89_method_11_code, some Jvm.ClassFile.FieldType.int, [], ow64 hN, (fun h => by cases h), rfl, rowsB_s rw_J2_checkIndex, (plainFor_of_name pl_64), Or.inl ⟨rfl, rfl, rfl⟩⟩
theorem rw_J0_length : rowsB 173124433 prog_71_method_54_code Om56 Ok56 Ol56 false 1 = true := by decide +kernel
theorem mt_J0_length {s0 : State} (hN : NCs s0) : MethOK s0 173124433 := ⟨Om56, Ok56, Ol56, false, 1, prog_71_method_54_code, some Jvm.ClassFile.FieldType.int, [], ow56 hN, (fun h => by cases h), rfl, rowsB_s rw_J0_length, (plainFor_of_name pl_56), Or.inl ⟨rfl, rfl, rfl⟩⟩
theorem rw_J0_coder : rowsB 173386577 prog_71_method_152_code Om56 Ok56 Ol56 false 3 = true := by decide +kernel
theorem mt_J0_coder {s0 : State} (hN : NCs s0) : MethOK s0 173386577 := ⟨Om56, Ok56, Ol56, false, 3, prog_71_method_152_code, some Jvm.ClassFile.FieldType.byte, [], ow56 hN, (fun h => by cases h), Or.inr rfl, rowsB_s rw_J0_coder, (plainFor_of_name pl_56), Or.inl ⟨rfl, rfl, rfl⟩⟩
theorem rw_J0_charAt : rowsB 173648722 prog_71_method_56_code Om56 Ok56 Ol56 false 3 = true := by decide +kernel
theorem mt_J0_charAt {s0 : State} (hN : NCs s0) : MethOK s0 173648722 := ⟨Om56, Ok56, Ol56, false, 3, prog_71_method_56_code, some Jvm.ClassFile.FieldType.char, [], ow56 hN, (fun h => by cases h), Or.inl rfl, rowsB_s rw_J0_charAt, (plainFor_of_name pl_56), Or.inl ⟨rfl, rfl, rfl⟩⟩
theorem rw_J0_isLatin1 : rowsB 173910865 prog_71_method_154_code Om56 Ok56 Ol56 false 2 = true := by decide +kernel
theorem mt_J0_isLatin1 {s0 : State} (hN : NCs s0) : MethOK s0 173910865 := ⟨Om56, Ok56, Ol56, false, 2, prog_71_method_154_code, some Jvm.ClassFile.FieldType.boolean, [], ow56 hN, (fun h => by cases h), rfl, rowsB_s rw_J0_isLatin1, (plainFor_of_name pl_56), Or.inl ⟨rfl, rfl, rfl⟩⟩
theorem rw_J0_checkIndex : rowsB 174063618 prog_71_method_155_code Om56 Ok56 Ol56 false 0 = true := by decide +kernel
theorem mt_J0_checkIndex {s0 : State} (hN : NCs s0) : MethOK s0 174063618 := ⟨Om56, Ok56, Ol56, false, 0, prog_71_method_155_code, none, [], ow56 hN, (fun h => by cases h), rfl, rowsB_s rw_J0_checkIndex, (plainFor_of_name pl_56), Or.inl ⟨rfl, rfl, rfl⟩⟩
theorem rw_J1_charAt : rowsB 174325762 prog_73_method_2_code Om57 Ok57 Ol57 false 3 = true := by decide +kernel
theorem mt_J1_charAt {s0 : State} (hN : NCs s0) : MethOK s0 174325762 := ⟨Om57, Ok57, Ol57, false, 3, prog_73_method_2_code, some Jvm.ClassFile.FieldType.char, [], ow57 hN, (fun h => by cases h), Or.inl rfl, rowsB_s rw_J1_charAt, (plainFor_of_name pl_57), Or.inl ⟨rfl, rfl, rfl⟩⟩
theorem rw_J14_max : rowsB 174587906 prog_68_method_65_code Om52 Ok52 Ol52 false 1 = true := by decide +kernel
theorem mt_J14_max {s0 : State} (hN : NCs s0) : MethOK s0 174587906 := ⟨Om52, Ok52, Ol52, false, 1, prog_68_method_65_code, some Jvm.ClassFile.FieldType.int, [], ow52 hN, (fun h => by cases h), rfl, rowsB_s rw_J14_max, (by decide +kernel), Or.inl ⟨rfl, rfl, rfl⟩⟩
theorem rw_J14_min : rowsB 174850050 prog_68_method_69_code Om52 Ok52 Ol52 false 1 = true := by decide +kernel
theorem mt_J14_min {s0 : State} (hN : NCs s0) : MethOK s0 174850050 := ⟨Om52, Ok52, Ol52, false, 1, prog_68_method_69_code, some Jvm.ClassFile.FieldType.int, [], ow52 hN, (fun h => by cases h), rfl, rowsB_s rw_J14_min, (by decide +kernel), Or.inl ⟨rfl, rfl, rfl⟩⟩
theorem rw_J14_max_2 : rowsB 175112194 prog_68_method_66_code Om52 Ok52 Ol52 false 4 = true := by decide +kernel
theorem mt_J14_max_2 {s0 : State} (hN : NCs s0) : MethOK s0 175112194 := ⟨Om52, Ok52, Ol52, false, 4, prog_68_method_66_code, some Jvm.ClassFile.FieldType.long, [], ow52 hN, (fun h => by cases h), rfl, rowsB_s rw_J14_max_2, (by decide +kernel), Or.inl ⟨rfl, rfl, rfl⟩⟩
theorem rw_J13_newLength : rowsB 175374339 prog_88_method_27_code Om63 Ok63 Ol63 false 1 = true := by decide +kernel
theorem mt_J13_newLength {s0 : State} (hN : NCs s0) : MethOK s0 175374339 := ⟨Om63, Ok63, Ol63, false, 1, prog_88_method_27_code, some Jvm.ClassFile.FieldType.int, [], ow63 hN, (fun h => by cases h), rfl, rowsB_s rw_J13_newLength, (plainFor_of_name pl_63), Or.inl ⟨rfl, rfl, rfl⟩⟩
theorem rw_J25_equals : rowsB 175749138 object_method_4_code Om54 Ok54 Ol54 false 2 = true := by decide +kernel
theorem rw_J7_init_3 : rowsB 175995589 prog_76_method_5_code Om58 Ok58 Ol58 true 0 = true := by decide +kernel
theorem mt_J7_init_3 {s0 : State} (hN : NCs s0) : MethOK s0 175995589 := ⟨Om58, Ok58, Ol58, true, 0, prog_76_method_5_code, none, [], ow58 hN, fun _ => rfl, rfl, rowsB_s rw_J7_init_3, (plainFor_of_name pl_58), Or.inl ⟨rfl, rfl, rfl⟩⟩
theorem rw_J8_init_2 : rowsB 176257733 prog_59_method_5_code Om49 Ok49 Ol49 true 0 = true := by decide +kernel
theorem mt_J8_init_2 {s0 : State} (hN : NCs s0) : MethOK s0 176257733 := ⟨Om49, Ok49, Ol49, true, 0, prog_59_method_5_code, none, [], ow49 hN, fun _ => rfl, rfl, rowsB_s rw_J8_init_2, (plainFor_of_name pl_49), Or.inl ⟨rfl, rfl, rfl⟩⟩
theorem rw_J9_init_2 : rowsB 176519877 prog_70_method_5_code Om55 Ok55 Ol55 true 0 = true := by decide +kernel
theorem mt_J9_init_2 {s0 : State} (hN : NCs s0) : MethOK s0 176519877 := ⟨Om55, Ok55, Ol55, true, 0, prog_70_method_5_code, none, [], ow55 hN, fun _ => rfl, rfl, rowsB_s rw_J9_init_2, (plainFor_of_name pl_55), Or.inl ⟨rfl, rfl, rfl⟩⟩
theorem rw_law : rowsB 176685057 code Om46 Ok46 Ol46 false 2 = true := by decide +kernel
theorem mt_law {s0 : State} (hN : NCs s0) : MethOK s0 176685057 := ⟨Om46, Ok46, Ol46, false, 2, code, some Jvm.ClassFile.FieldType.boolean, [], ow46 hN, (fun h => by cases h), rfl, rowsB_s rw_law, (plainFor_of_name pl_46), Or.inl ⟨rfl, rfl, rfl⟩⟩
