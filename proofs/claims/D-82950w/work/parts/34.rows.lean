/-! ROWS OF THE METHODS (printed by gen/rows.py) -/
set_option maxRecDepth 100000
theorem pl_0 : plainName "AlgolHouse" = true := by decide +kernel
theorem pl_1 : plainName "AlgolHouse$Assignation" = true := by decide +kernel
theorem pl_2 : plainName "AlgolHouse$Call" = true := by decide +kernel
theorem pl_3 : plainName "AlgolHouse$Candidate" = true := by decide +kernel
theorem pl_4 : plainName "AlgolHouse$Case" = true := by decide +kernel
theorem pl_5 : plainName "AlgolHouse$Cast" = true := by decide +kernel
theorem pl_6 : plainName "AlgolHouse$Declaration" = true := by decide +kernel
theorem pl_7 : plainName "AlgolHouse$Display" = true := by decide +kernel
theorem pl_8 : plainName "AlgolHouse$Edge" = true := by decide +kernel
theorem pl_9 : plainName "AlgolHouse$Ends" = true := by decide +kernel
theorem pl_10 : plainName "AlgolHouse$Fault" = true := by decide +kernel
theorem pl_11 : plainName "AlgolHouse$Formula" = true := by decide +kernel
theorem pl_12 : plainName "AlgolHouse$Frame" = true := by decide +kernel
theorem pl_13 : plainName "AlgolHouse$Generator" = true := by decide +kernel
theorem pl_14 : plainName "AlgolHouse$Identity" = true := by decide +kernel
theorem pl_15 : plainName "AlgolHouse$If" = true := by decide +kernel
theorem pl_16 : plainName "AlgolHouse$Is" = true := by decide +kernel
theorem pl_17 : plainName "AlgolHouse$Judge" = true := by decide +kernel
theorem pl_18 : plainName "AlgolHouse$Lexer" = true := by decide +kernel
theorem pl_19 : plainName "AlgolHouse$Loop" = true := by decide +kernel
theorem pl_20 : plainName "AlgolHouse$Machine" = true := by decide +kernel
theorem pl_21 : plainName "AlgolHouse$Meaning" = true := by decide +kernel
theorem pl_22 : plainName "AlgolHouse$Mode" = true := by decide +kernel
theorem pl_23 : plainName "AlgolHouse$Modes" = true := by decide +kernel
theorem pl_24 : plainName "AlgolHouse$Nil" = true := by decide +kernel
theorem pl_25 : plainName "AlgolHouse$Node" = true := by decide +kernel
theorem pl_26 : plainName "AlgolHouse$Op" = true := by decide +kernel
theorem pl_27 : plainName "AlgolHouse$Operation" = true := by decide +kernel
theorem pl_28 : plainName "AlgolHouse$Outcome" = true := by decide +kernel
theorem pl_29 : plainName "AlgolHouse$Parser" = true := by decide +kernel
theorem pl_30 : plainName "AlgolHouse$Path" = true := by decide +kernel
theorem pl_31 : plainName "AlgolHouse$Place" = true := by decide +kernel
theorem pl_32 : plainName "AlgolHouse$Plain" = true := by decide +kernel
theorem pl_33 : plainName "AlgolHouse$Print" = true := by decide +kernel
theorem pl_34 : plainName "AlgolHouse$Program" = true := by decide +kernel
theorem pl_35 : plainName "AlgolHouse$Range" = true := by decide +kernel
theorem pl_36 : plainName "AlgolHouse$Routine" = true := by decide +kernel
theorem pl_37 : plainName "AlgolHouse$Scope" = true := by decide +kernel
theorem pl_38 : plainName "AlgolHouse$Selection" = true := by decide +kernel
theorem pl_39 : plainName "AlgolHouse$Serial" = true := by decide +kernel
theorem pl_40 : plainName "AlgolHouse$Skip" = true := by decide +kernel
theorem pl_41 : plainName "AlgolHouse$Slice" = true := by decide +kernel
theorem pl_42 : plainName "AlgolHouse$Tag" = true := by decide +kernel
theorem pl_43 : plainName "AlgolHouse$Value" = true := by decide +kernel
theorem pl_44 : plainName "AlgolHouse$Variable" = true := by decide +kernel
theorem pl_45 : plainName "AlgolHouse$When" = true := by decide +kernel
theorem pl_46 : plainName "AlgolHouseLaw" = true := by decide +kernel
theorem pl_47 : plainName "AlgolHouseModel" = true := by decide +kernel
theorem pl_48 : plainName "java/lang/Boolean" = true := by decide +kernel
theorem pl_49 : plainName "java/lang/Exception" = true := by decide +kernel
theorem pl_50 : plainName "java/lang/Integer" = true := by decide +kernel
theorem pl_51 : plainName "java/lang/Long" = true := by decide +kernel
theorem pl_53 : plainName "java/lang/Number" = true := by decide +kernel
theorem pl_55 : plainName "java/lang/RuntimeException" = true := by decide +kernel
theorem pl_56 : plainName "java/lang/String" = true := by decide +kernel
theorem pl_57 : plainName "java/lang/StringLatin1" = true := by decide +kernel
theorem pl_58 : plainName "java/lang/Throwable" = true := by decide +kernel
theorem pl_59 : plainName "java/util/AbstractCollection" = true := by decide +kernel
theorem pl_60 : plainName "java/util/AbstractList" = true := by decide +kernel
theorem pl_61 : plainName "java/util/ArrayList" = true := by decide +kernel
theorem pl_62 : plainName "java/util/Objects" = true := by decide +kernel
theorem pl_63 : plainName "jdk/internal/util/ArraysSupport" = true := by decide +kernel
theorem pl_64 : plainName "jdk/internal/util/Preconditions" = true := by decide +kernel
theorem rw_X0_read : rowsB 2 method_3_code Om46 Ok46 Ol46 false 1 = true := by decide +kernel
theorem mt_X0_read {s0 : State} (hN : NCs s0) : MethOK s0 2 := ⟨Om46, Ok46, Ol46, false, 1, method_3_code, some Jvm.ClassFile.FieldType.int, [(0, 8, 11, 13)], ow46 hN, (fun h => by cases h), rfl, rowsB_s rw_X0_read, (plainFor_of_name pl_46), Or.inr rfl⟩
theorem rw_X0_fault : rowsB 262147 method_4_code Om46 Ok46 Ol46 false 1 = true := by decide +kernel
theorem mt_X0_fault {s0 : State} (hN : NCs s0) : MethOK s0 262147 := ⟨Om46, Ok46, Ol46, false, 1, method_4_code, some Jvm.ClassFile.FieldType.int, [(0, 9, 12, 19)], ow46 hN, (fun h => by cases h), rfl, rowsB_s rw_X0_fault, (plainFor_of_name pl_46), Or.inr rfl⟩
theorem rw_X0_nodes : rowsB 524291 method_5_code Om46 Ok46 Ol46 false 1 = true := by decide +kernel
theorem mt_X0_nodes {s0 : State} (hN : NCs s0) : MethOK s0 524291 := ⟨Om46, Ok46, Ol46, false, 1, method_5_code, some Jvm.ClassFile.FieldType.int, [(0, 9, 12, 24)], ow46 hN, (fun h => by cases h), rfl, rowsB_s rw_X0_nodes, (plainFor_of_name pl_46), Or.inr rfl⟩
theorem rw_X0_node : rowsB 786437 method_6_code Om46 Ok46 Ol46 false 1 = true := by decide +kernel
theorem mt_X0_node {s0 : State} (hN : NCs s0) : MethOK s0 786437 := ⟨Om46, Ok46, Ol46, false, 1, method_6_code, some Jvm.ClassFile.FieldType.int, [(0, 12, 15, 24), (0, 12, 19, 19)], ow46 hN, (fun h => by cases h), rfl, rowsB_s rw_X0_node, (plainFor_of_name pl_46), Or.inr rfl⟩
theorem rw_X0_step : rowsB 1048581 method_7_code Om46 Ok46 Ol46 false 1 = true := by decide +kernel
theorem mt_X0_step {s0 : State} (hN : NCs s0) : MethOK s0 1048581 := ⟨Om46, Ok46, Ol46, false, 1, method_7_code, some Jvm.ClassFile.FieldType.int, [(0, 12, 15, 24)], ow46 hN, (fun h => by cases h), rfl, rowsB_s rw_X0_step, (plainFor_of_name pl_46), Or.inr rfl⟩
theorem rw_X0_mode : rowsB 1310725 method_8_code Om46 Ok46 Ol46 false 1 = true := by decide +kernel
theorem mt_X0_mode {s0 : State} (hN : NCs s0) : MethOK s0 1310725 := ⟨Om46, Ok46, Ol46, false, 1, method_8_code, some Jvm.ClassFile.FieldType.int, [(0, 12, 15, 24)], ow46 hN, (fun h => by cases h), rfl, rowsB_s rw_X0_mode, (plainFor_of_name pl_46), Or.inr rfl⟩
theorem rw_X0_parts : rowsB 1572869 method_9_code Om46 Ok46 Ol46 false 1 = true := by decide +kernel
theorem mt_X0_parts {s0 : State} (hN : NCs s0) : MethOK s0 1572869 := ⟨Om46, Ok46, Ol46, false, 1, method_9_code, some Jvm.ClassFile.FieldType.int, [(0, 12, 15, 24)], ow46 hN, (fun h => by cases h), rfl, rowsB_s rw_X0_parts, (plainFor_of_name pl_46), Or.inr rfl⟩
theorem rw_X0_one : rowsB 1835014 method_10_code Om46 Ok46 Ol46 false 1 = true := by decide +kernel
theorem mt_X0_one {s0 : State} (hN : NCs s0) : MethOK s0 1835014 := ⟨Om46, Ok46, Ol46, false, 1, method_10_code, some Jvm.ClassFile.FieldType.int, [(0, 21, 24, 24)], ow46 hN, (fun h => by cases h), rfl, rowsB_s rw_X0_one, (plainFor_of_name pl_46), Or.inr rfl⟩
theorem rw_X0_meant : rowsB 2097156 method_11_code Om46 Ok46 Ol46 false 1 = true := by decide +kernel
theorem mt_X0_meant {s0 : State} (hN : NCs s0) : MethOK s0 2097156 := ⟨Om46, Ok46, Ol46, false, 1, method_11_code, some Jvm.ClassFile.FieldType.int, [(0, 10, 13, 24)], ow46 hN, (fun h => by cases h), rfl, rowsB_s rw_X0_meant, (plainFor_of_name pl_46), Or.inr rfl⟩
theorem rw_X0_run : rowsB 2359301 method_12_code Om46 Ok46 Ol46 false 1 = true := by decide +kernel
theorem mt_X0_run {s0 : State} (hN : NCs s0) : MethOK s0 2359301 := ⟨Om46, Ok46, Ol46, false, 1, method_12_code, some Jvm.ClassFile.FieldType.int, [(0, 13, 16, 24), (0, 13, 20, 19)], ow46 hN, (fun h => by cases h), rfl, rowsB_s rw_X0_run, (plainFor_of_name pl_46), Or.inr rfl⟩
theorem rw_X0_number : rowsB 2621443 method_13_code Om46 Ok46 Ol46 false 1 = true := by decide +kernel
theorem mt_X0_number {s0 : State} (hN : NCs s0) : MethOK s0 2621443 := ⟨Om46, Ok46, Ol46, false, 1, method_13_code, some Jvm.ClassFile.FieldType.int, [(0, 8, 11, 24)], ow46 hN, (fun h => by cases h), rfl, rowsB_s rw_X0_number, (plainFor_of_name pl_46), Or.inr rfl⟩
theorem rw_X0_kind : rowsB 2883587 method_14_code Om46 Ok46 Ol46 false 1 = true := by decide +kernel
theorem mt_X0_kind {s0 : State} (hN : NCs s0) : MethOK s0 2883587 := ⟨Om46, Ok46, Ol46, false, 1, method_14_code, some Jvm.ClassFile.FieldType.int, [(0, 9, 12, 24)], ow46 hN, (fun h => by cases h), rfl, rowsB_s rw_X0_kind, (plainFor_of_name pl_46), Or.inr rfl⟩
theorem rw_X0_ran : rowsB 3145731 method_15_code Om46 Ok46 Ol46 false 1 = true := by decide +kernel
theorem mt_X0_ran {s0 : State} (hN : NCs s0) : MethOK s0 3145731 := ⟨Om46, Ok46, Ol46, false, 1, method_15_code, some Jvm.ClassFile.FieldType.int, [(0, 9, 12, 19)], ow46 hN, (fun h => by cases h), rfl, rowsB_s rw_X0_ran, (plainFor_of_name pl_46), Or.inr rfl⟩
theorem rw_X0_orders : rowsB 3407877 method_16_code Om46 Ok46 Ol46 false 1 = true := by decide +kernel
theorem mt_X0_orders {s0 : State} (hN : NCs s0) : MethOK s0 3407877 := ⟨Om46, Ok46, Ol46, false, 1, method_16_code, some Jvm.ClassFile.FieldType.int, [(0, 12, 15, 24), (0, 12, 19, 19)], ow46 hN, (fun h => by cases h), rfl, rowsB_s rw_X0_orders, (plainFor_of_name pl_46), Or.inr rfl⟩
theorem rw_X0_outcome : rowsB 3670020 method_17_code Om46 Ok46 Ol46 false 1 = true := by decide +kernel
theorem mt_X0_outcome {s0 : State} (hN : NCs s0) : MethOK s0 3670020 := ⟨Om46, Ok46, Ol46, false, 1, method_17_code, some Jvm.ClassFile.FieldType.int, [(0, 10, 13, 24), (0, 10, 17, 19)], ow46 hN, (fun h => by cases h), rfl, rowsB_s rw_X0_outcome, (plainFor_of_name pl_46), Or.inr rfl⟩
theorem rw_X0_outcomes : rowsB 3932164 method_18_code Om46 Ok46 Ol46 false 1 = true := by decide +kernel
theorem mt_X0_outcomes {s0 : State} (hN : NCs s0) : MethOK s0 3932164 := ⟨Om46, Ok46, Ol46, false, 1, method_18_code, some Jvm.ClassFile.FieldType.int, [(0, 9, 12, 24)], ow46 hN, (fun h => by cases h), rfl, rowsB_s rw_X0_outcomes, (plainFor_of_name pl_46), Or.inr rfl⟩
theorem rw_X1_init : rowsB 4196369 prog_1_method_3_code Om0 Ok0 Ol0 true 0 = true := by decide +kernel
theorem mt_X1_init {s0 : State} (hN : NCs s0) : MethOK s0 4196369 := ⟨Om0, Ok0, Ol0, true, 0, prog_1_method_3_code, none, [], ow0 hN, fun _ => rfl, rfl, rowsB_s rw_X1_init, (plainFor_of_name pl_0), Or.inl ⟨rfl, rfl, rfl⟩⟩
theorem rw_X1_type : rowsB 4458514 prog_1_method_4_code Om0 Ok0 Ol0 false 1 = true := by decide +kernel
theorem mt_X1_type {s0 : State} (hN : NCs s0) : MethOK s0 4458514 := ⟨Om0, Ok0, Ol0, false, 1, prog_1_method_4_code, some Jvm.ClassFile.FieldType.int, [], ow0 hN, (fun h => by cases h), rfl, rowsB_s rw_X1_type, (plainFor_of_name pl_0), Or.inl ⟨rfl, rfl, rfl⟩⟩
theorem rw_X1_programs : rowsB 4720657 prog_1_method_9_code Om0 Ok0 Ol0 false 1 = true := by decide +kernel
theorem mt_X1_programs {s0 : State} (hN : NCs s0) : MethOK s0 4720657 := ⟨Om0, Ok0, Ol0, false, 1, prog_1_method_9_code, some Jvm.ClassFile.FieldType.int, [], ow0 hN, (fun h => by cases h), rfl, rowsB_s rw_X1_programs, (plainFor_of_name pl_0), Or.inl ⟨rfl, rfl, rfl⟩⟩
theorem rw_X1_clear : rowsB 4982801 prog_1_method_10_code Om0 Ok0 Ol0 false 1 = true := by decide +kernel
theorem mt_X1_clear {s0 : State} (hN : NCs s0) : MethOK s0 4982801 := ⟨Om0, Ok0, Ol0, false, 1, prog_1_method_10_code, some Jvm.ClassFile.FieldType.int, [], ow0 hN, (fun h => by cases h), rfl, rowsB_s rw_X1_clear, (plainFor_of_name pl_0), Or.inl ⟨rfl, rfl, rfl⟩⟩
theorem rw_X1_told : rowsB 5244945 prog_1_method_22_code Om0 Ok0 Ol0 false 1 = true := by decide +kernel
theorem mt_X1_told {s0 : State} (hN : NCs s0) : MethOK s0 5244945 := ⟨Om0, Ok0, Ol0, false, 1, prog_1_method_22_code, some Jvm.ClassFile.FieldType.int, [], ow0 hN, (fun h => by cases h), rfl, rowsB_s rw_X1_told, (plainFor_of_name pl_0), Or.inl ⟨rfl, rfl, rfl⟩⟩
theorem rw_X1_read : rowsB 5507089 prog_1_method_5_code Om0 Ok0 Ol0 false 1 = true := by decide +kernel
theorem mt_X1_read {s0 : State} (hN : NCs s0) : MethOK s0 5507089 := ⟨Om0, Ok0, Ol0, false, 1, prog_1_method_5_code, some Jvm.ClassFile.FieldType.int, [(40, 101, 102, 102)], ow0 hN, (fun h => by cases h), rfl, rowsB_s rw_X1_read, (plainFor_of_name pl_0), Or.inr rfl⟩
theorem rw_X1_indicant : rowsB 5767169 prog_1_method_2_code Om0 Ok0 Ol0 false 4 = true := by decide +kernel
theorem mt_X1_indicant {s0 : State} (hN : NCs s0) : MethOK s0 5767169 := ⟨Om0, Ok0, Ol0, false, 4, prog_1_method_2_code, some Jvm.ClassFile.FieldType.long, [], ow0 hN, (fun h => by cases h), rfl, rowsB_s rw_X1_indicant, (plainFor_of_name pl_0), Or.inl ⟨rfl, rfl, rfl⟩⟩
theorem rw_X1_bound : rowsB 6029314 prog_1_method_1_code Om0 Ok0 Ol0 false 0 = true := by decide +kernel
theorem mt_X1_bound {s0 : State} (hN : NCs s0) : MethOK s0 6029314 := ⟨Om0, Ok0, Ol0, false, 0, prog_1_method_1_code, none, [], ow0 hN, (fun h => by cases h), rfl, rowsB_s rw_X1_bound, (plainFor_of_name pl_0), Or.inl ⟨rfl, rfl, rfl⟩⟩
theorem rw_X1_fault : rowsB 6293522 prog_1_method_8_code Om0 Ok0 Ol0 false 1 = true := by decide +kernel
theorem mt_X1_fault {s0 : State} (hN : NCs s0) : MethOK s0 6293522 := ⟨Om0, Ok0, Ol0, false, 1, prog_1_method_8_code, some Jvm.ClassFile.FieldType.int, [], ow0 hN, (fun h => by cases h), rfl, rowsB_s rw_X1_fault, (plainFor_of_name pl_0), Or.inl ⟨rfl, rfl, rfl⟩⟩
theorem rw_X1_need : rowsB 6553601 prog_1_method_6_code Om0 Ok0 Ol0 false 0 = true := by decide +kernel
theorem mt_X1_need {s0 : State} (hN : NCs s0) : MethOK s0 6553601 := ⟨Om0, Ok0, Ol0, false, 0, prog_1_method_6_code, none, [], ow0 hN, (fun h => by cases h), rfl, rowsB_s rw_X1_need, (plainFor_of_name pl_0), Or.inl ⟨rfl, rfl, rfl⟩⟩
theorem rw_X1_nodes : rowsB 6817810 prog_1_method_13_code Om0 Ok0 Ol0 false 1 = true := by decide +kernel
theorem mt_X1_nodes {s0 : State} (hN : NCs s0) : MethOK s0 6817810 := ⟨Om0, Ok0, Ol0, false, 1, prog_1_method_13_code, some Jvm.ClassFile.FieldType.int, [], ow0 hN, (fun h => by cases h), rfl, rowsB_s rw_X1_nodes, (plainFor_of_name pl_0), Or.inl ⟨rfl, rfl, rfl⟩⟩
theorem rw_X1_program : rowsB 7079954 prog_1_method_11_code Om0 Ok0 Ol0 false 5 = true := by decide +kernel
theorem mt_X1_program {s0 : State} (hN : NCs s0) : MethOK s0 7079954 := ⟨Om0, Ok0, Ol0, false, 5, prog_1_method_11_code, some (Jvm.ClassFile.FieldType.object "AlgolHouse$Program"), [], ow0 hN, (fun h => by cases h), ⟨_, rfl, Or.inl ⟨_, rfl⟩⟩, rowsB_s rw_X1_program, (plainFor_of_name pl_0), Or.inl ⟨rfl, rfl, rfl⟩⟩
theorem rw_X1_within : rowsB 7340034 prog_1_method_7_code Om0 Ok0 Ol0 false 0 = true := by decide +kernel
theorem mt_X1_within {s0 : State} (hN : NCs s0) : MethOK s0 7340034 := ⟨Om0, Ok0, Ol0, false, 0, prog_1_method_7_code, none, [], ow0 hN, (fun h => by cases h), rfl, rowsB_s rw_X1_within, (plainFor_of_name pl_0), Or.inl ⟨rfl, rfl, rfl⟩⟩
theorem rw_X1_node : rowsB 7604244 prog_1_method_14_code Om0 Ok0 Ol0 false 1 = true := by decide +kernel
theorem mt_X1_node {s0 : State} (hN : NCs s0) : MethOK s0 7604244 := ⟨Om0, Ok0, Ol0, false, 1, prog_1_method_14_code, some Jvm.ClassFile.FieldType.int, [], ow0 hN, (fun h => by cases h), rfl, rowsB_s rw_X1_node, (plainFor_of_name pl_0), Or.inl ⟨rfl, rfl, rfl⟩⟩
theorem rw_X1_nodeOf : rowsB 7866387 prog_1_method_12_code Om0 Ok0 Ol0 false 5 = true := by decide +kernel
theorem mt_X1_nodeOf {s0 : State} (hN : NCs s0) : MethOK s0 7866387 := ⟨Om0, Ok0, Ol0, false, 5, prog_1_method_12_code, some (Jvm.ClassFile.FieldType.object "AlgolHouse$Node"), [], ow0 hN, (fun h => by cases h), ⟨_, rfl, Or.inl ⟨_, rfl⟩⟩, rowsB_s rw_X1_nodeOf, (plainFor_of_name pl_0), Or.inl ⟨rfl, rfl, rfl⟩⟩
theorem rw_X1_step : rowsB 8128532 prog_1_method_15_code Om0 Ok0 Ol0 false 1 = true := by decide +kernel
theorem mt_X1_step {s0 : State} (hN : NCs s0) : MethOK s0 8128532 := ⟨Om0, Ok0, Ol0, false, 1, prog_1_method_15_code, some Jvm.ClassFile.FieldType.int, [], ow0 hN, (fun h => by cases h), rfl, rowsB_s rw_X1_step, (plainFor_of_name pl_0), Or.inl ⟨rfl, rfl, rfl⟩⟩
theorem rw_X1_mode : rowsB 8390676 prog_1_method_17_code Om0 Ok0 Ol0 false 1 = true := by decide +kernel
theorem mt_X1_mode {s0 : State} (hN : NCs s0) : MethOK s0 8390676 := ⟨Om0, Ok0, Ol0, false, 1, prog_1_method_17_code, some Jvm.ClassFile.FieldType.int, [], ow0 hN, (fun h => by cases h), rfl, rowsB_s rw_X1_mode, (plainFor_of_name pl_0), Or.inl ⟨rfl, rfl, rfl⟩⟩
theorem rw_X1_walked : rowsB 8650754 prog_1_method_16_code Om0 Ok0 Ol0 false 5 = true := by decide +kernel
theorem mt_X1_walked {s0 : State} (hN : NCs s0) : MethOK s0 8650754 := ⟨Om0, Ok0, Ol0, false, 5, prog_1_method_16_code, some (Jvm.ClassFile.FieldType.object "AlgolHouse$Mode"), [], ow0 hN, (fun h => by cases h), ⟨_, rfl, Or.inl ⟨_, rfl⟩⟩, rowsB_s rw_X1_walked, (plainFor_of_name pl_0), Or.inl ⟨rfl, rfl, rfl⟩⟩
theorem rw_X1_parts : rowsB 8914964 prog_1_method_18_code Om0 Ok0 Ol0 false 1 = true := by decide +kernel
theorem mt_X1_parts {s0 : State} (hN : NCs s0) : MethOK s0 8914964 := ⟨Om0, Ok0, Ol0, false, 1, prog_1_method_18_code, some Jvm.ClassFile.FieldType.int, [], ow0 hN, (fun h => by cases h), rfl, rowsB_s rw_X1_parts, (plainFor_of_name pl_0), Or.inl ⟨rfl, rfl, rfl⟩⟩
theorem rw_X1_one : rowsB 9177109 prog_1_method_19_code Om0 Ok0 Ol0 false 2 = true := by decide +kernel
theorem mt_X1_one {s0 : State} (hN : NCs s0) : MethOK s0 9177109 := ⟨Om0, Ok0, Ol0, false, 2, prog_1_method_19_code, some Jvm.ClassFile.FieldType.boolean, [], ow0 hN, (fun h => by cases h), rfl, rowsB_s rw_X1_one, (plainFor_of_name pl_0), Or.inl ⟨rfl, rfl, rfl⟩⟩
theorem rw_X1_meant : rowsB 9439251 prog_1_method_20_code Om0 Ok0 Ol0 false 1 = true := by decide +kernel
theorem mt_X1_meant {s0 : State} (hN : NCs s0) : MethOK s0 9439251 := ⟨Om0, Ok0, Ol0, false, 1, prog_1_method_20_code, some Jvm.ClassFile.FieldType.int, [], ow0 hN, (fun h => by cases h), rfl, rowsB_s rw_X1_meant, (plainFor_of_name pl_0), Or.inl ⟨rfl, rfl, rfl⟩⟩
theorem rw_X1_run : rowsB 9701396 prog_1_method_21_code Om0 Ok0 Ol0 false 1 = true := by decide +kernel
theorem mt_X1_run {s0 : State} (hN : NCs s0) : MethOK s0 9701396 := ⟨Om0, Ok0, Ol0, false, 1, prog_1_method_21_code, some Jvm.ClassFile.FieldType.int, [], ow0 hN, (fun h => by cases h), rfl, rowsB_s rw_X1_run, (plainFor_of_name pl_0), Or.inl ⟨rfl, rfl, rfl⟩⟩
theorem rw_X1_number : rowsB 9963538 prog_1_method_23_code Om0 Ok0 Ol0 false 4 = true := by decide +kernel
theorem mt_X1_number {s0 : State} (hN : NCs s0) : MethOK s0 9963538 := ⟨Om0, Ok0, Ol0, false, 4, prog_1_method_23_code, some Jvm.ClassFile.FieldType.long, [], ow0 hN, (fun h => by cases h), rfl, rowsB_s rw_X1_number, (plainFor_of_name pl_0), Or.inl ⟨rfl, rfl, rfl⟩⟩
theorem rw_X1_kind : rowsB 10225682 prog_1_method_24_code Om0 Ok0 Ol0 false 1 = true := by decide +kernel
theorem mt_X1_kind {s0 : State} (hN : NCs s0) : MethOK s0 10225682 := ⟨Om0, Ok0, Ol0, false, 1, prog_1_method_24_code, some Jvm.ClassFile.FieldType.int, [], ow0 hN, (fun h => by cases h), rfl, rowsB_s rw_X1_kind, (plainFor_of_name pl_0), Or.inl ⟨rfl, rfl, rfl⟩⟩
theorem rw_X1_ran : rowsB 10487826 prog_1_method_25_code Om0 Ok0 Ol0 false 1 = true := by decide +kernel
theorem mt_X1_ran {s0 : State} (hN : NCs s0) : MethOK s0 10487826 := ⟨Om0, Ok0, Ol0, false, 1, prog_1_method_25_code, some Jvm.ClassFile.FieldType.int, [], ow0 hN, (fun h => by cases h), rfl, rowsB_s rw_X1_ran, (plainFor_of_name pl_0), Or.inl ⟨rfl, rfl, rfl⟩⟩
theorem rw_X1_orders : rowsB 10749972 prog_1_method_26_code Om0 Ok0 Ol0 false 1 = true := by decide +kernel
theorem mt_X1_orders {s0 : State} (hN : NCs s0) : MethOK s0 10749972 := ⟨Om0, Ok0, Ol0, false, 1, prog_1_method_26_code, some Jvm.ClassFile.FieldType.int, [], ow0 hN, (fun h => by cases h), rfl, rowsB_s rw_X1_orders, (plainFor_of_name pl_0), Or.inl ⟨rfl, rfl, rfl⟩⟩
theorem rw_X1_counts : rowsB 11012114 prog_1_method_27_code Om0 Ok0 Ol0 false 2 = true := by decide +kernel
theorem mt_X1_counts {s0 : State} (hN : NCs s0) : MethOK s0 11012114 := ⟨Om0, Ok0, Ol0, false, 2, prog_1_method_27_code, some Jvm.ClassFile.FieldType.boolean, [], ow0 hN, (fun h => by cases h), rfl, rowsB_s rw_X1_counts, (plainFor_of_name pl_0), Or.inl ⟨rfl, rfl, rfl⟩⟩
theorem rw_X1_outcome : rowsB 11274259 prog_1_method_28_code Om0 Ok0 Ol0 false 1 = true := by decide +kernel
theorem mt_X1_outcome {s0 : State} (hN : NCs s0) : MethOK s0 11274259 := ⟨Om0, Ok0, Ol0, false, 1, prog_1_method_28_code, some Jvm.ClassFile.FieldType.int, [], ow0 hN, (fun h => by cases h), rfl, rowsB_s rw_X1_outcome, (plainFor_of_name pl_0), Or.inl ⟨rfl, rfl, rfl⟩⟩
theorem rw_X1_outcomes : rowsB 11536403 prog_1_method_29_code Om0 Ok0 Ol0 false 4 = true := by decide +kernel
theorem mt_X1_outcomes {s0 : State} (hN : NCs s0) : MethOK s0 11536403 := ⟨Om0, Ok0, Ol0, false, 4, prog_1_method_29_code, some Jvm.ClassFile.FieldType.long, [], ow0 hN, (fun h => by cases h), rfl, rowsB_s rw_X1_outcomes, (plainFor_of_name pl_0), Or.inl ⟨rfl, rfl, rfl⟩⟩
theorem rw_X2_init : rowsB 11806801 prog_19_method_1_code Om18 Ok18 Ol18 true 0 = true := by decide +kernel
theorem mt_X2_init {s0 : State} (hN : NCs s0) : MethOK s0 11806801 := ⟨Om18, Ok18, Ol18, true, 0, prog_19_method_1_code, none, [], ow18 hN, fun _ => rfl, rfl, rowsB_s rw_X2_init, (plainFor_of_name pl_18), Or.inl ⟨rfl, rfl, rfl⟩⟩
theorem rw_X2_read : rowsB 12068947 prog_19_method_4_code Om18 Ok18 Ol18 false 0 = true := by decide +kernel
theorem mt_X2_read {s0 : State} (hN : NCs s0) : MethOK s0 12068947 := ⟨Om18, Ok18, Ol18, false, 0, prog_19_method_4_code, none, [], ow18 hN, (fun h => by cases h), rfl, rowsB_s rw_X2_read, (plainFor_of_name pl_18), Or.inl ⟨rfl, rfl, rfl⟩⟩
theorem rw_X2_at : rowsB 12331090 prog_19_method_3_code Om18 Ok18 Ol18 false 1 = true := by decide +kernel
theorem mt_X2_at {s0 : State} (hN : NCs s0) : MethOK s0 12331090 := ⟨Om18, Ok18, Ol18, false, 1, prog_19_method_3_code, some Jvm.ClassFile.FieldType.int, [], ow18 hN, (fun h => by cases h), rfl, rowsB_s rw_X2_at, (plainFor_of_name pl_18), Or.inl ⟨rfl, rfl, rfl⟩⟩
theorem rw_X2_token : rowsB 12593234 prog_19_method_6_code Om18 Ok18 Ol18 false 1 = true := by decide +kernel
theorem mt_X2_token {s0 : State} (hN : NCs s0) : MethOK s0 12593234 := ⟨Om18, Ok18, Ol18, false, 1, prog_19_method_6_code, some Jvm.ClassFile.FieldType.int, [], ow18 hN, (fun h => by cases h), rfl, rowsB_s rw_X2_token, (plainFor_of_name pl_18), Or.inl ⟨rfl, rfl, rfl⟩⟩
theorem rw_X2_isIn : rowsB 12845059 prog_19_method_5_code Om18 Ok18 Ol18 false 2 = true := by decide +kernel
theorem mt_X2_isIn {s0 : State} (hN : NCs s0) : MethOK s0 12845059 := ⟨Om18, Ok18, Ol18, false, 2, prog_19_method_5_code, some Jvm.ClassFile.FieldType.boolean, [], ow18 hN, (fun h => by cases h), rfl, rowsB_s rw_X2_isIn, (plainFor_of_name pl_18), Or.inl ⟨rfl, rfl, rfl⟩⟩
theorem rw_X2_bold : rowsB 13117522 prog_19_method_7_code Om18 Ok18 Ol18 false 1 = true := by decide +kernel
theorem mt_X2_bold {s0 : State} (hN : NCs s0) : MethOK s0 13117522 := ⟨Om18, Ok18, Ol18, false, 1, prog_19_method_7_code, some Jvm.ClassFile.FieldType.int, [], ow18 hN, (fun h => by cases h), rfl, rowsB_s rw_X2_bold, (plainFor_of_name pl_18), Or.inl ⟨rfl, rfl, rfl⟩⟩
theorem rw_X2_tag : rowsB 13379666 prog_19_method_8_code Om18 Ok18 Ol18 false 1 = true := by decide +kernel
theorem mt_X2_tag {s0 : State} (hN : NCs s0) : MethOK s0 13379666 := ⟨Om18, Ok18, Ol18, false, 1, prog_19_method_8_code, some Jvm.ClassFile.FieldType.int, [], ow18 hN, (fun h => by cases h), rfl, rowsB_s rw_X2_tag, (plainFor_of_name pl_18), Or.inl ⟨rfl, rfl, rfl⟩⟩
theorem rw_X2_number : rowsB 13641810 prog_19_method_9_code Om18 Ok18 Ol18 false 1 = true := by decide +kernel
theorem mt_X2_number {s0 : State} (hN : NCs s0) : MethOK s0 13641810 := ⟨Om18, Ok18, Ol18, false, 1, prog_19_method_9_code, some Jvm.ClassFile.FieldType.int, [], ow18 hN, (fun h => by cases h), rfl, rowsB_s rw_X2_number, (plainFor_of_name pl_18), Or.inl ⟨rfl, rfl, rfl⟩⟩
theorem rw_X2_sign : rowsB 13903955 prog_19_method_10_code Om18 Ok18 Ol18 false 1 = true := by decide +kernel
theorem mt_X2_sign {s0 : State} (hN : NCs s0) : MethOK s0 13903955 := ⟨Om18, Ok18, Ol18, false, 1, prog_19_method_10_code, some Jvm.ClassFile.FieldType.int, [], ow18 hN, (fun h => by cases h), rfl, rowsB_s rw_X2_sign, (plainFor_of_name pl_18), Or.inl ⟨rfl, rfl, rfl⟩⟩
theorem rw_X2_word : rowsB 14166098 prog_19_method_2_code Om18 Ok18 Ol18 false 4 = true := by decide +kernel
theorem mt_X2_word {s0 : State} (hN : NCs s0) : MethOK s0 14166098 := ⟨Om18, Ok18, Ol18, false, 4, prog_19_method_2_code, some Jvm.ClassFile.FieldType.long, [], ow18 hN, (fun h => by cases h), rfl, rowsB_s rw_X2_word, (plainFor_of_name pl_18), Or.inl ⟨rfl, rfl, rfl⟩⟩
theorem rw_X3_init : rowsB 14426177 prog_18_method_1_code Om17 Ok17 Ol17 true 0 = true := by decide +kernel
theorem mt_X3_init {s0 : State} (hN : NCs s0) : MethOK s0 14426177 := ⟨Om17, Ok17, Ol17, true, 0, prog_18_method_1_code, none, [], ow17 hN, fun _ => rfl, rfl, rowsB_s rw_X3_init, (plainFor_of_name pl_17), Or.inl ⟨rfl, rfl, rfl⟩⟩
theorem rw_X3_judge : rowsB 14688322 prog_18_method_3_code Om17 Ok17 Ol17 false 0 = true := by decide +kernel
theorem mt_X3_judge {s0 : State} (hN : NCs s0) : MethOK s0 14688322 := ⟨Om17, Ok17, Ol17, false, 0, prog_18_method_3_code, none, [], ow17 hN, (fun h => by cases h), rfl, rowsB_s rw_X3_judge, (plainFor_of_name pl_17), Or.inl ⟨rfl, rfl, rfl⟩⟩
theorem rw_X3_begin : rowsB 14950465 prog_18_method_4_code Om17 Ok17 Ol17 false 5 = true := by decide +kernel
theorem mt_X3_begin {s0 : State} (hN : NCs s0) : MethOK s0 14950465 := ⟨Om17, Ok17, Ol17, false, 5, prog_18_method_4_code, some (Jvm.ClassFile.FieldType.object "AlgolHouse$Scope"), [], ow17 hN, (fun h => by cases h), ⟨_, rfl, Or.inl ⟨_, rfl⟩⟩, rowsB_s rw_X3_begin, (plainFor_of_name pl_17), Or.inl ⟨rfl, rfl, rfl⟩⟩
theorem rw_X3_declare : rowsB 15212613 prog_18_method_6_code Om17 Ok17 Ol17 false 5 = true := by decide +kernel
theorem mt_X3_declare {s0 : State} (hN : NCs s0) : MethOK s0 15212613 := ⟨Om17, Ok17, Ol17, false, 5, prog_18_method_6_code, some (Jvm.ClassFile.FieldType.object "AlgolHouse$Meaning"), [], ow17 hN, (fun h => by cases h), ⟨_, rfl, Or.inl ⟨_, rfl⟩⟩, rowsB_s rw_X3_declare, (plainFor_of_name pl_17), Or.inl ⟨rfl, rfl, rfl⟩⟩
theorem rw_X3_need : rowsB 15474756 prog_18_method_2_code Om17 Ok17 Ol17 false 0 = true := by decide +kernel
theorem mt_X3_need {s0 : State} (hN : NCs s0) : MethOK s0 15474756 := ⟨Om17, Ok17, Ol17, false, 0, prog_18_method_2_code, none, [], ow17 hN, (fun h => by cases h), rfl, rowsB_s rw_X3_need, (plainFor_of_name pl_17), Or.inl ⟨rfl, rfl, rfl⟩⟩
theorem rw_X3_use : rowsB 15736898 prog_18_method_7_code Om17 Ok17 Ol17 false 0 = true := by decide +kernel
theorem mt_X3_use {s0 : State} (hN : NCs s0) : MethOK s0 15736898 := ⟨Om17, Ok17, Ol17, false, 0, prog_18_method_7_code, none, [], ow17 hN, (fun h => by cases h), rfl, rowsB_s rw_X3_use, (plainFor_of_name pl_17), Or.inl ⟨rfl, rfl, rfl⟩⟩
theorem rw_X3_soft : rowsB 15999042 prog_18_method_14_code Om17 Ok17 Ol17 false 5 = true := by decide +kernel
theorem mt_X3_soft {s0 : State} (hN : NCs s0) : MethOK s0 15999042 := ⟨Om17, Ok17, Ol17, false, 5, prog_18_method_14_code, some (Jvm.ClassFile.FieldType.object "AlgolHouse$Mode"), [], ow17 hN, (fun h => by cases h), ⟨_, rfl, Or.inl ⟨_, rfl⟩⟩, rowsB_s rw_X3_soft, (plainFor_of_name pl_17), Or.inl ⟨rfl, rfl, rfl⟩⟩
theorem rw_X3_lead : rowsB 16261186 prog_18_method_10_code Om17 Ok17 Ol17 false 5 = true := by decide +kernel
theorem mt_X3_lead {s0 : State} (hN : NCs s0) : MethOK s0 16261186 := ⟨Om17, Ok17, Ol17, false, 5, prog_18_method_10_code, some (Jvm.ClassFile.FieldType.object "AlgolHouse$Mode"), [], ow17 hN, (fun h => by cases h), ⟨_, rfl, Or.inl ⟨_, rfl⟩⟩, rowsB_s rw_X3_lead, (plainFor_of_name pl_17), Or.inl ⟨rfl, rfl, rfl⟩⟩
theorem rw_X3_leader : rowsB 16523330 prog_18_method_9_code Om17 Ok17 Ol17 false 5 = true := by decide +kernel
theorem mt_X3_leader {s0 : State} (hN : NCs s0) : MethOK s0 16523330 := ⟨Om17, Ok17, Ol17, false, 5, prog_18_method_9_code, some (Jvm.ClassFile.FieldType.object "AlgolHouse$Node"), [], ow17 hN, (fun h => by cases h), ⟨_, rfl, Or.inl ⟨_, rfl⟩⟩, rowsB_s rw_X3_leader, (plainFor_of_name pl_17), Or.inl ⟨rfl, rfl, rfl⟩⟩
theorem rw_X3_others : rowsB 16785475 prog_18_method_11_code Om17 Ok17 Ol17 false 0 = true := by decide +kernel
theorem mt_X3_others {s0 : State} (hN : NCs s0) : MethOK s0 16785475 := ⟨Om17, Ok17, Ol17, false, 0, prog_18_method_11_code, none, [], ow17 hN, (fun h => by cases h), rfl, rowsB_s rw_X3_others, (plainFor_of_name pl_17), Or.inl ⟨rfl, rfl, rfl⟩⟩
theorem rw_X3_strong : rowsB 17047619 prog_18_method_8_code Om17 Ok17 Ol17 false 0 = true := by decide +kernel
theorem mt_X3_strong {s0 : State} (hN : NCs s0) : MethOK s0 17047619 := ⟨Om17, Ok17, Ol17, false, 0, prog_18_method_8_code, none, [], ow17 hN, (fun h => by cases h), rfl, rowsB_s rw_X3_strong, (plainFor_of_name pl_17), Or.inl ⟨rfl, rfl, rfl⟩⟩
theorem rw_X3_come : rowsB 17309764 prog_18_method_12_code Om17 Ok17 Ol17 false 5 = true := by decide +kernel
theorem mt_X3_come {s0 : State} (hN : NCs s0) : MethOK s0 17309764 := ⟨Om17, Ok17, Ol17, false, 5, prog_18_method_12_code, some (Jvm.ClassFile.FieldType.object "AlgolHouse$Mode"), [], ow17 hN, (fun h => by cases h), ⟨_, rfl, Or.inl ⟨_, rfl⟩⟩, rowsB_s rw_X3_come, (plainFor_of_name pl_17), Or.inl ⟨rfl, rfl, rfl⟩⟩
theorem rw_X3_isWanted : rowsB 17571907 prog_18_method_13_code Om17 Ok17 Ol17 false 2 = true := by decide +kernel
theorem mt_X3_isWanted {s0 : State} (hN : NCs s0) : MethOK s0 17571907 := ⟨Om17, Ok17, Ol17, false, 2, prog_18_method_13_code, some Jvm.ClassFile.FieldType.boolean, [], ow17 hN, (fun h => by cases h), rfl, rowsB_s rw_X3_isWanted, (plainFor_of_name pl_17), Or.inl ⟨rfl, rfl, rfl⟩⟩
theorem rw_X3_end : rowsB 17834049 prog_18_method_5_code Om17 Ok17 Ol17 false 0 = true := by decide +kernel
theorem mt_X3_end {s0 : State} (hN : NCs s0) : MethOK s0 17834049 := ⟨Om17, Ok17, Ol17, false, 0, prog_18_method_5_code, none, [], ow17 hN, (fun h => by cases h), rfl, rowsB_s rw_X3_end, (plainFor_of_name pl_17), Or.inl ⟨rfl, rfl, rfl⟩⟩
theorem rw_X3_firm : rowsB 18096196 prog_18_method_15_code Om17 Ok17 Ol17 false 2 = true := by decide +kernel
theorem mt_X3_firm {s0 : State} (hN : NCs s0) : MethOK s0 18096196 := ⟨Om17, Ok17, Ol17, false, 2, prog_18_method_15_code, some Jvm.ClassFile.FieldType.boolean, [], ow17 hN, (fun h => by cases h), rfl, rowsB_s rw_X3_firm, (plainFor_of_name pl_17), Or.inl ⟨rfl, rfl, rfl⟩⟩
theorem rw_X3_bring : rowsB 18358340 prog_18_method_16_code Om17 Ok17 Ol17 false 0 = true := by decide +kernel
theorem mt_X3_bring {s0 : State} (hN : NCs s0) : MethOK s0 18358340 := ⟨Om17, Ok17, Ol17, false, 0, prog_18_method_16_code, none, [], ow17 hN, (fun h => by cases h), rfl, rowsB_s rw_X3_bring, (plainFor_of_name pl_17), Or.inl ⟨rfl, rfl, rfl⟩⟩
theorem rw_X4_init : rowsB 18632865 prog_24_method_1_code Om23 Ok23 Ol23 true 0 = true := by decide +kernel
theorem mt_X4_init {s0 : State} (hN : NCs s0) : MethOK s0 18632865 := ⟨Om23, Ok23, Ol23, true, 0, prog_24_method_1_code, none, [], ow23 hN, fun _ => rfl, rfl, rowsB_s rw_X4_init, (plainFor_of_name pl_23), Or.inl ⟨rfl, rfl, rfl⟩⟩
theorem rw_X4_unlike : rowsB 18895010 prog_24_method_12_code Om23 Ok23 Ol23 false 1 = true := by decide +kernel
theorem mt_X4_unlike {s0 : State} (hN : NCs s0) : MethOK s0 18895010 := ⟨Om23, Ok23, Ol23, false, 1, prog_24_method_12_code, some Jvm.ClassFile.FieldType.int, [], ow23 hN, (fun h => by cases h), rfl, rowsB_s rw_X4_unlike, (plainFor_of_name pl_23), Or.inl ⟨rfl, rfl, rfl⟩⟩
theorem rw_X4_members : rowsB 19136513 prog_24_method_10_code Om23 Ok23 Ol23 false 5 = true := by decide +kernel
theorem mt_X4_members {s0 : State} (hN : NCs s0) : MethOK s0 19136513 := ⟨Om23, Ok23, Ol23, false, 5, prog_24_method_10_code, some (Jvm.ClassFile.FieldType.object "java/util/ArrayList"), [], ow23 hN, (fun h => by cases h), ⟨_, rfl, Or.inl ⟨_, rfl⟩⟩, rowsB_s rw_X4_members, (plainFor_of_name pl_23), Or.inl ⟨rfl, rfl, rfl⟩⟩
theorem rw_X4_gather : rowsB 19398659 prog_24_method_11_code Om23 Ok23 Ol23 false 0 = true := by decide +kernel
theorem mt_X4_gather {s0 : State} (hN : NCs s0) : MethOK s0 19398659 := ⟨Om23, Ok23, Ol23, false, 0, prog_24_method_11_code, none, [], ow23 hN, (fun h => by cases h), rfl, rowsB_s rw_X4_gather, (plainFor_of_name pl_23), Or.inl ⟨rfl, rfl, rfl⟩⟩
theorem rw_X4_one : rowsB 19681443 prog_24_method_2_code Om23 Ok23 Ol23 false 2 = true := by decide +kernel
theorem mt_X4_one {s0 : State} (hN : NCs s0) : MethOK s0 19681443 := ⟨Om23, Ok23, Ol23, false, 2, prog_24_method_2_code, some Jvm.ClassFile.FieldType.boolean, [], ow23 hN, (fun h => by cases h), rfl, rowsB_s rw_X4_one, (plainFor_of_name pl_23), Or.inl ⟨rfl, rfl, rfl⟩⟩
theorem rw_X4_reach : rowsB 19943586 prog_24_method_3_code Om23 Ok23 Ol23 false 0 = true := by decide +kernel
theorem mt_X4_reach {s0 : State} (hN : NCs s0) : MethOK s0 19943586 := ⟨Om23, Ok23, Ol23, false, 0, prog_24_method_3_code, none, [], ow23 hN, (fun h => by cases h), rfl, rowsB_s rw_X4_reach, (plainFor_of_name pl_23), Or.inl ⟨rfl, rfl, rfl⟩⟩
theorem rw_X4_spread : rowsB 20205730 prog_24_method_4_code Om23 Ok23 Ol23 false 0 = true := by decide +kernel
theorem mt_X4_spread {s0 : State} (hN : NCs s0) : MethOK s0 20205730 := ⟨Om23, Ok23, Ol23, false, 0, prog_24_method_4_code, none, [], ow23 hN, (fun h => by cases h), rfl, rowsB_s rw_X4_spread, (plainFor_of_name pl_23), Or.inl ⟨rfl, rfl, rfl⟩⟩
theorem rw_X4_parts : rowsB 20467873 prog_24_method_5_code Om23 Ok23 Ol23 false 2 = true := by decide +kernel
theorem mt_X4_parts {s0 : State} (hN : NCs s0) : MethOK s0 20467873 := ⟨Om23, Ok23, Ol23, false, 2, prog_24_method_5_code, some Jvm.ClassFile.FieldType.boolean, [], ow23 hN, (fun h => by cases h), rfl, rowsB_s rw_X4_parts, (plainFor_of_name pl_23), Or.inl ⟨rfl, rfl, rfl⟩⟩
theorem rw_X4_areParts : rowsB 20730019 prog_24_method_7_code Om23 Ok23 Ol23 false 2 = true := by decide +kernel
theorem mt_X4_areParts {s0 : State} (hN : NCs s0) : MethOK s0 20730019 := ⟨Om23, Ok23, Ol23, false, 2, prog_24_method_7_code, some Jvm.ClassFile.FieldType.boolean, [], ow23 hN, (fun h => by cases h), rfl, rowsB_s rw_X4_areParts, (plainFor_of_name pl_23), Or.inl ⟨rfl, rfl, rfl⟩⟩
theorem rw_X4_isLike : rowsB 20992163 prog_24_method_6_code Om23 Ok23 Ol23 false 2 = true := by decide +kernel
theorem mt_X4_isLike {s0 : State} (hN : NCs s0) : MethOK s0 20992163 := ⟨Om23, Ok23, Ol23, false, 2, prog_24_method_6_code, some Jvm.ClassFile.FieldType.boolean, [], ow23 hN, (fun h => by cases h), rfl, rowsB_s rw_X4_isLike, (plainFor_of_name pl_23), Or.inl ⟨rfl, rfl, rfl⟩⟩
theorem rw_X4_areInOrder : rowsB 21254307 prog_24_method_8_code Om23 Ok23 Ol23 false 2 = true := by decide +kernel
theorem mt_X4_areInOrder {s0 : State} (hN : NCs s0) : MethOK s0 21254307 := ⟨Om23, Ok23, Ol23, false, 2, prog_24_method_8_code, some Jvm.ClassFile.FieldType.boolean, [], ow23 hN, (fun h => by cases h), rfl, rowsB_s rw_X4_areInOrder, (plainFor_of_name pl_23), Or.inl ⟨rfl, rfl, rfl⟩⟩
theorem rw_X4_has : rowsB 21516451 prog_24_method_9_code Om23 Ok23 Ol23 false 2 = true := by decide +kernel
theorem mt_X4_has {s0 : State} (hN : NCs s0) : MethOK s0 21516451 := ⟨Om23, Ok23, Ol23, false, 2, prog_24_method_9_code, some Jvm.ClassFile.FieldType.boolean, [], ow23 hN, (fun h => by cases h), rfl, rowsB_s rw_X4_has, (plainFor_of_name pl_23), Or.inl ⟨rfl, rfl, rfl⟩⟩
theorem rw_X4_areRelated : rowsB 21778594 prog_24_method_13_code Om23 Ok23 Ol23 false 2 = true := by decide +kernel
theorem mt_X4_areRelated {s0 : State} (hN : NCs s0) : MethOK s0 21778594 := ⟨Om23, Ok23, Ol23, false, 2, prog_24_method_13_code, some Jvm.ClassFile.FieldType.boolean, [], ow23 hN, (fun h => by cases h), rfl, rowsB_s rw_X4_areRelated, (plainFor_of_name pl_23), Or.inl ⟨rfl, rfl, rfl⟩⟩
theorem rw_X4_less : rowsB 22020097 prog_24_method_14_code Om23 Ok23 Ol23 false 5 = true := by decide +kernel
theorem mt_X4_less {s0 : State} (hN : NCs s0) : MethOK s0 22020097 := ⟨Om23, Ok23, Ol23, false, 5, prog_24_method_14_code, some (Jvm.ClassFile.FieldType.object "AlgolHouse$Mode"), [], ow23 hN, (fun h => by cases h), ⟨_, rfl, Or.inl ⟨_, rfl⟩⟩, rowsB_s rw_X4_less, (plainFor_of_name pl_23), Or.inl ⟨rfl, rfl, rfl⟩⟩
theorem rw_X4_unites : rowsB 22302883 prog_24_method_15_code Om23 Ok23 Ol23 false 2 = true := by decide +kernel
theorem mt_X4_unites {s0 : State} (hN : NCs s0) : MethOK s0 22302883 := ⟨Om23, Ok23, Ol23, false, 2, prog_24_method_15_code, some Jvm.ClassFile.FieldType.boolean, [], ow23 hN, (fun h => by cases h), rfl, rowsB_s rw_X4_unites, (plainFor_of_name pl_23), Or.inl ⟨rfl, rfl, rfl⟩⟩
theorem rw_X4_isAmong : rowsB 22565027 prog_24_method_16_code Om23 Ok23 Ol23 false 2 = true := by decide +kernel
theorem mt_X4_isAmong {s0 : State} (hN : NCs s0) : MethOK s0 22565027 := ⟨Om23, Ok23, Ol23, false, 2, prog_24_method_16_code, some Jvm.ClassFile.FieldType.boolean, [], ow23 hN, (fun h => by cases h), rfl, rowsB_s rw_X4_isAmong, (plainFor_of_name pl_23), Or.inl ⟨rfl, rfl, rfl⟩⟩
theorem rw_X5_init : rowsB 22882897 prog_31_method_1_code Om30 Ok30 Ol30 true 0 = true := by decide +kernel
theorem mt_X5_init {s0 : State} (hN : NCs s0) : MethOK s0 22882897 := ⟨Om30, Ok30, Ol30, true, 0, prog_31_method_1_code, none, [], ow30 hN, fun _ => rfl, rfl, rowsB_s rw_X5_init, (plainFor_of_name pl_30), Or.inl ⟨rfl, rfl, rfl⟩⟩
theorem rw_X5_strong : rowsB 23145044 prog_31_method_6_code Om30 Ok30 Ol30 false 2 = true := by decide +kernel
theorem mt_X5_strong {s0 : State} (hN : NCs s0) : MethOK s0 23145044 := ⟨Om30, Ok30, Ol30, false, 2, prog_31_method_6_code, some Jvm.ClassFile.FieldType.boolean, [], ow30 hN, (fun h => by cases h), rfl, rowsB_s rw_X5_strong, (plainFor_of_name pl_30), Or.inl ⟨rfl, rfl, rfl⟩⟩
theorem rw_X5_begin : rowsB 23407186 prog_31_method_2_code Om30 Ok30 Ol30 false 5 = true := by decide +kernel
theorem mt_X5_begin {s0 : State} (hN : NCs s0) : MethOK s0 23407186 := ⟨Om30, Ok30, Ol30, false, 5, prog_31_method_2_code, some (Jvm.ClassFile.FieldType.object "AlgolHouse$Path"), [], ow30 hN, (fun h => by cases h), ⟨_, rfl, Or.inl ⟨_, rfl⟩⟩, rowsB_s rw_X5_begin, (plainFor_of_name pl_30), Or.inl ⟨rfl, rfl, rfl⟩⟩
theorem rw_X5_firm : rowsB 23669332 prog_31_method_5_code Om30 Ok30 Ol30 false 2 = true := by decide +kernel
theorem mt_X5_firm {s0 : State} (hN : NCs s0) : MethOK s0 23669332 := ⟨Om30, Ok30, Ol30, false, 2, prog_31_method_5_code, some Jvm.ClassFile.FieldType.boolean, [], ow30 hN, (fun h => by cases h), rfl, rowsB_s rw_X5_firm, (plainFor_of_name pl_30), Or.inl ⟨rfl, rfl, rfl⟩⟩
theorem rw_X5_add : rowsB 23931474 prog_31_method_3_code Om30 Ok30 Ol30 false 0 = true := by decide +kernel
theorem mt_X5_add {s0 : State} (hN : NCs s0) : MethOK s0 23931474 := ⟨Om30, Ok30, Ol30, false, 0, prog_31_method_3_code, none, [], ow30 hN, (fun h => by cases h), rfl, rowsB_s rw_X5_add, (plainFor_of_name pl_30), Or.inl ⟨rfl, rfl, rfl⟩⟩
theorem rw_X5_goes : rowsB 24193618 prog_31_method_4_code Om30 Ok30 Ol30 false 2 = true := by decide +kernel
theorem mt_X5_goes {s0 : State} (hN : NCs s0) : MethOK s0 24193618 := ⟨Om30, Ok30, Ol30, false, 2, prog_31_method_4_code, some Jvm.ClassFile.FieldType.boolean, [], ow30 hN, (fun h => by cases h), rfl, rowsB_s rw_X5_goes, (plainFor_of_name pl_30), Or.inl ⟨rfl, rfl, rfl⟩⟩
theorem rw_X6_init : rowsB 24397970 prog_23_method_1_code Om22 Ok22 Ol22 true 0 = true := by decide +kernel
theorem mt_X6_init {s0 : State} (hN : NCs s0) : MethOK s0 24397970 := ⟨Om22, Ok22, Ol22, true, 0, prog_23_method_1_code, none, [], ow22 hN, fun _ => rfl, rfl, rowsB_s rw_X6_init, (plainFor_of_name pl_22), Or.inl ⟨rfl, rfl, rfl⟩⟩
theorem rw_X6_init_2 : rowsB 24660115 prog_23_method_2_code Om22 Ok22 Ol22 true 0 = true := by decide +kernel
theorem mt_X6_init_2 {s0 : State} (hN : NCs s0) : MethOK s0 24660115 := ⟨Om22, Ok22, Ol22, true, 0, prog_23_method_2_code, none, [], ow22 hN, fun _ => rfl, rfl, rowsB_s rw_X6_init_2, (plainFor_of_name pl_22), Or.inl ⟨rfl, rfl, rfl⟩⟩
theorem rw_X6_real : rowsB 24922257 prog_23_method_3_code Om22 Ok22 Ol22 false 5 = true := by decide +kernel
theorem mt_X6_real {s0 : State} (hN : NCs s0) : MethOK s0 24922257 := ⟨Om22, Ok22, Ol22, false, 5, prog_23_method_3_code, some (Jvm.ClassFile.FieldType.object "AlgolHouse$Mode"), [], ow22 hN, (fun h => by cases h), ⟨_, rfl, Or.inl ⟨_, rfl⟩⟩, rowsB_s rw_X6_real, (plainFor_of_name pl_22), Or.inl ⟨rfl, rfl, rfl⟩⟩
theorem rw_X6_isCall : rowsB 25184401 prog_23_method_5_code Om22 Ok22 Ol22 false 2 = true := by decide +kernel
theorem mt_X6_isCall {s0 : State} (hN : NCs s0) : MethOK s0 25184401 := ⟨Om22, Ok22, Ol22, false, 2, prog_23_method_5_code, some Jvm.ClassFile.FieldType.boolean, [], ow22 hN, (fun h => by cases h), rfl, rowsB_s rw_X6_isCall, (plainFor_of_name pl_22), Or.inl ⟨rfl, rfl, rfl⟩⟩
theorem rw_X6_isPlain : rowsB 25446546 prog_23_method_4_code Om22 Ok22 Ol22 false 2 = true := by decide +kernel
theorem mt_X6_isPlain {s0 : State} (hN : NCs s0) : MethOK s0 25446546 := ⟨Om22, Ok22, Ol22, false, 2, prog_23_method_4_code, some Jvm.ClassFile.FieldType.boolean, [], ow22 hN, (fun h => by cases h), rfl, rowsB_s rw_X6_isPlain, (plainFor_of_name pl_22), Or.inl ⟨rfl, rfl, rfl⟩⟩
theorem rw_X7_init : rowsB 25702497 prog_21_method_1_code Om20 Ok20 Ol20 true 0 = true := by decide +kernel
theorem mt_X7_init {s0 : State} (hN : NCs s0) : MethOK s0 25702497 := ⟨Om20, Ok20, Ol20, true, 0, prog_21_method_1_code, none, [], ow20 hN, fun _ => rfl, rfl, rowsB_s rw_X7_init, (plainFor_of_name pl_20), Or.inl ⟨rfl, rfl, rfl⟩⟩
theorem rw_X7_seed : rowsB 25964642 prog_21_method_3_code Om20 Ok20 Ol20 false 0 = true := by decide +kernel
theorem mt_X7_seed {s0 : State} (hN : NCs s0) : MethOK s0 25964642 := ⟨Om20, Ok20, Ol20, false, 0, prog_21_method_3_code, none, [], ow20 hN, (fun h => by cases h), rfl, rowsB_s rw_X7_seed, (plainFor_of_name pl_20), Or.inl ⟨rfl, rfl, rfl⟩⟩
theorem rw_X7_run : rowsB 26226787 prog_21_method_4_code Om20 Ok20 Ol20 false 0 = true := by decide +kernel
theorem mt_X7_run {s0 : State} (hN : NCs s0) : MethOK s0 26226787 := ⟨Om20, Ok20, Ol20, false, 0, prog_21_method_4_code, none, [(65, 122, 125, 51)], ow20 hN, (fun h => by cases h), rfl, rowsB_s rw_X7_run, (plainFor_of_name pl_20), Or.inr rfl⟩
theorem rw_X7_push : rowsB 26488930 prog_21_method_6_code Om20 Ok20 Ol20 false 0 = true := by decide +kernel
theorem mt_X7_push {s0 : State} (hN : NCs s0) : MethOK s0 26488930 := ⟨Om20, Ok20, Ol20, false, 0, prog_21_method_6_code, none, [], ow20 hN, (fun h => by cases h), rfl, rowsB_s rw_X7_push, (plainFor_of_name pl_20), Or.inl ⟨rfl, rfl, rfl⟩⟩
theorem rw_X7_tick : rowsB 26751075 prog_21_method_5_code Om20 Ok20 Ol20 false 0 = true := by decide +kernel
theorem mt_X7_tick {s0 : State} (hN : NCs s0) : MethOK s0 26751075 := ⟨Om20, Ok20, Ol20, false, 0, prog_21_method_5_code, none, [], ow20 hN, (fun h => by cases h), rfl, rowsB_s rw_X7_tick, (plainFor_of_name pl_20), Or.inl ⟨rfl, rfl, rfl⟩⟩
theorem rw_X7_need : rowsB 27013220 prog_21_method_2_code Om20 Ok20 Ol20 false 0 = true := by decide +kernel
theorem mt_X7_need {s0 : State} (hN : NCs s0) : MethOK s0 27013220 := ⟨Om20, Ok20, Ol20, false, 0, prog_21_method_2_code, none, [], ow20 hN, (fun h => by cases h), rfl, rowsB_s rw_X7_need, (plainFor_of_name pl_20), Or.inl ⟨rfl, rfl, rfl⟩⟩
theorem rw_X7_all : rowsB 27275364 prog_21_method_9_code Om20 Ok20 Ol20 false 2 = true := by decide +kernel
theorem mt_X7_all {s0 : State} (hN : NCs s0) : MethOK s0 27275364 := ⟨Om20, Ok20, Ol20, false, 2, prog_21_method_9_code, some Jvm.ClassFile.FieldType.boolean, [], ow20 hN, (fun h => by cases h), rfl, rowsB_s rw_X7_all, (plainFor_of_name pl_20), Or.inl ⟨rfl, rfl, rfl⟩⟩
theorem rw_X7_draw : rowsB 27537506 prog_21_method_8_code Om20 Ok20 Ol20 false 1 = true := by decide +kernel
theorem mt_X7_draw {s0 : State} (hN : NCs s0) : MethOK s0 27537506 := ⟨Om20, Ok20, Ol20, false, 1, prog_21_method_8_code, some Jvm.ClassFile.FieldType.int, [], ow20 hN, (fun h => by cases h), rfl, rowsB_s rw_X7_draw, (plainFor_of_name pl_20), Or.inl ⟨rfl, rfl, rfl⟩⟩
theorem rw_X7_followed : rowsB 27799651 prog_21_method_30_code Om20 Ok20 Ol20 false 5 = true := by decide +kernel
theorem mt_X7_followed {s0 : State} (hN : NCs s0) : MethOK s0 27799651 := ⟨Om20, Ok20, Ol20, false, 5, prog_21_method_30_code, some (Jvm.ClassFile.FieldType.object "AlgolHouse$Place"), [], ow20 hN, (fun h => by cases h), ⟨_, rfl, Or.inl ⟨_, rfl⟩⟩, rowsB_s rw_X7_followed, (plainFor_of_name pl_20), Or.inl ⟨rfl, rfl, rfl⟩⟩
theorem rw_X7_put : rowsB 28061796 prog_21_method_28_code Om20 Ok20 Ol20 false 0 = true := by decide +kernel
theorem mt_X7_put {s0 : State} (hN : NCs s0) : MethOK s0 28061796 := ⟨Om20, Ok20, Ol20, false, 0, prog_21_method_28_code, none, [], ow20 hN, (fun h => by cases h), rfl, rowsB_s rw_X7_put, (plainFor_of_name pl_20), Or.inl ⟨rfl, rfl, rfl⟩⟩
theorem rw_X7_age : rowsB 28311553 prog_21_method_23_code Om20 Ok20 Ol20 false 1 = true := by decide +kernel
theorem mt_X7_age {s0 : State} (hN : NCs s0) : MethOK s0 28311553 := ⟨Om20, Ok20, Ol20, false, 1, prog_21_method_23_code, some Jvm.ClassFile.FieldType.int, [], ow20 hN, (fun h => by cases h), rfl, rowsB_s rw_X7_age, (plainFor_of_name pl_20), Or.inl ⟨rfl, rfl, rfl⟩⟩
theorem rw_X7_sizeToPut : rowsB 28573698 prog_21_method_25_code Om20 Ok20 Ol20 false 1 = true := by decide +kernel
theorem mt_X7_sizeToPut {s0 : State} (hN : NCs s0) : MethOK s0 28573698 := ⟨Om20, Ok20, Ol20, false, 1, prog_21_method_25_code, some Jvm.ClassFile.FieldType.int, [], ow20 hN, (fun h => by cases h), rfl, rowsB_s rw_X7_sizeToPut, (plainFor_of_name pl_20), Or.inl ⟨rfl, rfl, rfl⟩⟩
theorem rw_X7_size : rowsB 28835841 prog_21_method_24_code Om20 Ok20 Ol20 false 1 = true := by decide +kernel
theorem mt_X7_size {s0 : State} (hN : NCs s0) : MethOK s0 28835841 := ⟨Om20, Ok20, Ol20, false, 1, prog_21_method_24_code, some Jvm.ClassFile.FieldType.int, [], ow20 hN, (fun h => by cases h), rfl, rowsB_s rw_X7_size, (plainFor_of_name pl_20), Or.inl ⟨rfl, rfl, rfl⟩⟩
theorem rw_X7_lay : rowsB 29110371 prog_21_method_29_code Om20 Ok20 Ol20 false 0 = true := by decide +kernel
theorem mt_X7_lay {s0 : State} (hN : NCs s0) : MethOK s0 29110371 := ⟨Om20, Ok20, Ol20, false, 0, prog_21_method_29_code, none, [], ow20 hN, (fun h => by cases h), rfl, rowsB_s rw_X7_lay, (plainFor_of_name pl_20), Or.inl ⟨rfl, rfl, rfl⟩⟩
theorem rw_X7_fresh : rowsB 29372515 prog_21_method_26_code Om20 Ok20 Ol20 false 5 = true := by decide +kernel
theorem mt_X7_fresh {s0 : State} (hN : NCs s0) : MethOK s0 29372515 := ⟨Om20, Ok20, Ol20, false, 5, prog_21_method_26_code, some (Jvm.ClassFile.FieldType.object "AlgolHouse$Place"), [], ow20 hN, (fun h => by cases h), ⟨_, rfl, Or.inl ⟨_, rfl⟩⟩, rowsB_s rw_X7_fresh, (plainFor_of_name pl_20), Or.inl ⟨rfl, rfl, rfl⟩⟩
theorem rw_X7_done : rowsB 29634659 prog_21_method_7_code Om20 Ok20 Ol20 false 0 = true := by decide +kernel
theorem mt_X7_done {s0 : State} (hN : NCs s0) : MethOK s0 29634659 := ⟨Om20, Ok20, Ol20, false, 0, prog_21_method_7_code, none, [], ow20 hN, (fun h => by cases h), rfl, rowsB_s rw_X7_done, (plainFor_of_name pl_20), Or.inl ⟨rfl, rfl, rfl⟩⟩
theorem rw_X7_call : rowsB 29896806 prog_21_method_15_code Om20 Ok20 Ol20 false 0 = true := by decide +kernel
theorem mt_X7_call {s0 : State} (hN : NCs s0) : MethOK s0 29896806 := ⟨Om20, Ok20, Ol20, false, 0, prog_21_method_15_code, none, [], ow20 hN, (fun h => by cases h), rfl, rowsB_s rw_X7_call, (plainFor_of_name pl_20), Or.inl ⟨rfl, rfl, rfl⟩⟩
theorem rw_X7_enter : rowsB 30158948 prog_21_method_10_code Om20 Ok20 Ol20 false 0 = true := by decide +kernel
theorem mt_X7_enter {s0 : State} (hN : NCs s0) : MethOK s0 30158948 := ⟨Om20, Ok20, Ol20, false, 0, prog_21_method_10_code, none, [], ow20 hN, (fun h => by cases h), rfl, rowsB_s rw_X7_enter, (plainFor_of_name pl_20), Or.inl ⟨rfl, rfl, rfl⟩⟩
theorem rw_X7_returned : rowsB 30421091 prog_21_method_16_code Om20 Ok20 Ol20 false 0 = true := by decide +kernel
theorem mt_X7_returned {s0 : State} (hN : NCs s0) : MethOK s0 30421091 := ⟨Om20, Ok20, Ol20, false, 0, prog_21_method_16_code, none, [], ow20 hN, (fun h => by cases h), rfl, rowsB_s rw_X7_returned, (plainFor_of_name pl_20), Or.inl ⟨rfl, rfl, rfl⟩⟩
theorem rw_X7_leave : rowsB 30683236 prog_21_method_11_code Om20 Ok20 Ol20 false 0 = true := by decide +kernel
theorem mt_X7_leave {s0 : State} (hN : NCs s0) : MethOK s0 30683236 := ⟨Om20, Ok20, Ol20, false, 0, prog_21_method_11_code, none, [], ow20 hN, (fun h => by cases h), rfl, rowsB_s rw_X7_leave, (plainFor_of_name pl_20), Or.inl ⟨rfl, rfl, rfl⟩⟩
theorem rw_X7_undefined : rowsB 30945377 prog_21_method_18_code Om20 Ok20 Ol20 false 5 = true := by decide +kernel
theorem mt_X7_undefined {s0 : State} (hN : NCs s0) : MethOK s0 30945377 := ⟨Om20, Ok20, Ol20, false, 5, prog_21_method_18_code, some (Jvm.ClassFile.FieldType.object "AlgolHouse$Value"), [], ow20 hN, (fun h => by cases h), ⟨_, rfl, Or.inl ⟨_, rfl⟩⟩, rowsB_s rw_X7_undefined, (plainFor_of_name pl_20), Or.inl ⟨rfl, rfl, rfl⟩⟩
theorem rw_X7_value : rowsB 31207521 prog_21_method_17_code Om20 Ok20 Ol20 false 5 = true := by decide +kernel
theorem mt_X7_value {s0 : State} (hN : NCs s0) : MethOK s0 31207521 := ⟨Om20, Ok20, Ol20, false, 5, prog_21_method_17_code, some (Jvm.ClassFile.FieldType.object "AlgolHouse$Value"), [], ow20 hN, (fun h => by cases h), ⟨_, rfl, Or.inl ⟨_, rfl⟩⟩, rowsB_s rw_X7_value, (plainFor_of_name pl_20), Or.inl ⟨rfl, rfl, rfl⟩⟩
theorem rw_X7_row : rowsB 31469666 prog_21_method_21_code Om20 Ok20 Ol20 false 5 = true := by decide +kernel
theorem mt_X7_row {s0 : State} (hN : NCs s0) : MethOK s0 31469666 := ⟨Om20, Ok20, Ol20, false, 5, prog_21_method_21_code, some (Jvm.ClassFile.FieldType.object "AlgolHouse$Value"), [], ow20 hN, (fun h => by cases h), ⟨_, rfl, Or.inl ⟨_, rfl⟩⟩, rowsB_s rw_X7_row, (plainFor_of_name pl_20), Or.inl ⟨rfl, rfl, rfl⟩⟩
theorem rw_X7_again : rowsB 31731810 prog_21_method_22_code Om20 Ok20 Ol20 false 5 = true := by decide +kernel
theorem mt_X7_again {s0 : State} (hN : NCs s0) : MethOK s0 31731810 := ⟨Om20, Ok20, Ol20, false, 5, prog_21_method_22_code, some (Jvm.ClassFile.FieldType.object "AlgolHouse$Value"), [], ow20 hN, (fun h => by cases h), ⟨_, rfl, Or.inl ⟨_, rfl⟩⟩, rowsB_s rw_X7_again, (plainFor_of_name pl_20), Or.inl ⟨rfl, rfl, rfl⟩⟩
theorem rw_X7_fits : rowsB 31993955 prog_21_method_33_code Om20 Ok20 Ol20 false 5 = true := by decide +kernel
theorem mt_X7_fits {s0 : State} (hN : NCs s0) : MethOK s0 31993955 := ⟨Om20, Ok20, Ol20, false, 5, prog_21_method_33_code, some (Jvm.ClassFile.FieldType.object "AlgolHouse$Value"), [], ow20 hN, (fun h => by cases h), ⟨_, rfl, Or.inl ⟨_, rfl⟩⟩, rowsB_s rw_X7_fits, (plainFor_of_name pl_20), Or.inl ⟨rfl, rfl, rfl⟩⟩
theorem rw_X7_number : rowsB 32256098 prog_21_method_19_code Om20 Ok20 Ol20 false 5 = true := by decide +kernel
theorem mt_X7_number {s0 : State} (hN : NCs s0) : MethOK s0 32256098 := ⟨Om20, Ok20, Ol20, false, 5, prog_21_method_19_code, some (Jvm.ClassFile.FieldType.object "AlgolHouse$Value"), [], ow20 hN, (fun h => by cases h), ⟨_, rfl, Or.inl ⟨_, rfl⟩⟩, rowsB_s rw_X7_number, (plainFor_of_name pl_20), Or.inl ⟨rfl, rfl, rfl⟩⟩
theorem rw_X7_range : rowsB 32518242 prog_21_method_12_code Om20 Ok20 Ol20 false 5 = true := by decide +kernel
theorem mt_X7_range {s0 : State} (hN : NCs s0) : MethOK s0 32518242 := ⟨Om20, Ok20, Ol20, false, 5, prog_21_method_12_code, some (Jvm.ClassFile.FieldType.object "AlgolHouse$Range"), [], ow20 hN, (fun h => by cases h), ⟨_, rfl, Or.inl ⟨_, rfl⟩⟩, rowsB_s rw_X7_range, (plainFor_of_name pl_20), Or.inl ⟨rfl, rfl, rfl⟩⟩
theorem rw_X7_make : rowsB 32780389 prog_21_method_27_code Om20 Ok20 Ol20 false 5 = true := by decide +kernel
theorem mt_X7_make {s0 : State} (hN : NCs s0) : MethOK s0 32780389 := ⟨Om20, Ok20, Ol20, false, 5, prog_21_method_27_code, some (Jvm.ClassFile.FieldType.object "AlgolHouse$Place"), [], ow20 hN, (fun h => by cases h), ⟨_, rfl, Or.inl ⟨_, rfl⟩⟩, rowsB_s rw_X7_make, (plainFor_of_name pl_20), Or.inl ⟨rfl, rfl, rfl⟩⟩
theorem rw_X7_name : rowsB 33042530 prog_21_method_20_code Om20 Ok20 Ol20 false 5 = true := by decide +kernel
theorem mt_X7_name {s0 : State} (hN : NCs s0) : MethOK s0 33042530 := ⟨Om20, Ok20, Ol20, false, 5, prog_21_method_20_code, some (Jvm.ClassFile.FieldType.object "AlgolHouse$Value"), [], ow20 hN, (fun h => by cases h), ⟨_, rfl, Or.inl ⟨_, rfl⟩⟩, rowsB_s rw_X7_name, (plainFor_of_name pl_20), Or.inl ⟨rfl, rfl, rfl⟩⟩
theorem rw_X7_print : rowsB 33304676 prog_21_method_37_code Om20 Ok20 Ol20 false 0 = true := by decide +kernel
theorem mt_X7_print {s0 : State} (hN : NCs s0) : MethOK s0 33304676 := ⟨Om20, Ok20, Ol20, false, 0, prog_21_method_37_code, none, [], ow20 hN, (fun h => by cases h), rfl, rowsB_s rw_X7_print, (plainFor_of_name pl_20), Or.inl ⟨rfl, rfl, rfl⟩⟩
theorem rw_X7_needed : rowsB 33566818 prog_21_method_14_code Om20 Ok20 Ol20 false 5 = true := by decide +kernel
theorem mt_X7_needed {s0 : State} (hN : NCs s0) : MethOK s0 33566818 := ⟨Om20, Ok20, Ol20, false, 5, prog_21_method_14_code, some (Jvm.ClassFile.FieldType.object "AlgolHouse$Range"), [], ow20 hN, (fun h => by cases h), ⟨_, rfl, Or.inl ⟨_, rfl⟩⟩, rowsB_s rw_X7_needed, (plainFor_of_name pl_20), Or.inl ⟨rfl, rfl, rfl⟩⟩
theorem rw_X7_copy : rowsB 33828965 prog_21_method_34_code Om20 Ok20 Ol20 false 5 = true := by decide +kernel
theorem mt_X7_copy {s0 : State} (hN : NCs s0) : MethOK s0 33828965 := ⟨Om20, Ok20, Ol20, false, 5, prog_21_method_34_code, some (Jvm.ClassFile.FieldType.object "AlgolHouse$Value"), [], ow20 hN, (fun h => by cases h), ⟨_, rfl, Or.inl ⟨_, rfl⟩⟩, rowsB_s rw_X7_copy, (plainFor_of_name pl_20), Or.inl ⟨rfl, rfl, rfl⟩⟩
theorem rw_X7_sizeOf : rowsB 34078721 prog_21_method_32_code Om20 Ok20 Ol20 false 1 = true := by decide +kernel
theorem mt_X7_sizeOf {s0 : State} (hN : NCs s0) : MethOK s0 34078721 := ⟨Om20, Ok20, Ol20, false, 1, prog_21_method_32_code, some Jvm.ClassFile.FieldType.int, [], ow20 hN, (fun h => by cases h), rfl, rowsB_s rw_X7_sizeOf, (plainFor_of_name pl_20), Or.inl ⟨rfl, rfl, rfl⟩⟩
theorem rw_X7_sizeToCopy : rowsB 34340865 prog_21_method_31_code Om20 Ok20 Ol20 false 1 = true := by decide +kernel
theorem mt_X7_sizeToCopy {s0 : State} (hN : NCs s0) : MethOK s0 34340865 := ⟨Om20, Ok20, Ol20, false, 1, prog_21_method_31_code, some Jvm.ClassFile.FieldType.int, [], ow20 hN, (fun h => by cases h), rfl, rowsB_s rw_X7_sizeToCopy, (plainFor_of_name pl_20), Or.inl ⟨rfl, rfl, rfl⟩⟩
theorem rw_X7_copy_2 : rowsB 34615394 prog_21_method_35_code Om20 Ok20 Ol20 false 5 = true := by decide +kernel
theorem mt_X7_copy_2 {s0 : State} (hN : NCs s0) : MethOK s0 34615394 := ⟨Om20, Ok20, Ol20, false, 5, prog_21_method_35_code, some (Jvm.ClassFile.FieldType.object "AlgolHouse$Value"), [], ow20 hN, (fun h => by cases h), ⟨_, rfl, Or.inl ⟨_, rfl⟩⟩, rowsB_s rw_X7_copy_2, (plainFor_of_name pl_20), Or.inl ⟨rfl, rfl, rfl⟩⟩
theorem rw_X7_lookUp : rowsB 34877538 prog_21_method_13_code Om20 Ok20 Ol20 false 5 = true := by decide +kernel
theorem mt_X7_lookUp {s0 : State} (hN : NCs s0) : MethOK s0 34877538 := ⟨Om20, Ok20, Ol20, false, 5, prog_21_method_13_code, some (Jvm.ClassFile.FieldType.object "AlgolHouse$Value"), [], ow20 hN, (fun h => by cases h), ⟨_, rfl, Or.inl ⟨_, rfl⟩⟩, rowsB_s rw_X7_lookUp, (plainFor_of_name pl_20), Or.inl ⟨rfl, rfl, rfl⟩⟩
theorem rw_X7_coerce : rowsB 35139682 prog_21_method_36_code Om20 Ok20 Ol20 false 0 = true := by decide +kernel
theorem mt_X7_coerce {s0 : State} (hN : NCs s0) : MethOK s0 35139682 := ⟨Om20, Ok20, Ol20, false, 0, prog_21_method_36_code, none, [], ow20 hN, (fun h => by cases h), rfl, rowsB_s rw_X7_coerce, (plainFor_of_name pl_20), Or.inl ⟨rfl, rfl, rfl⟩⟩
theorem rw_X7_beginTries : rowsB 35401825 prog_21_method_38_code Om20 Ok20 Ol20 false 0 = true := by decide +kernel
theorem mt_X7_beginTries {s0 : State} (hN : NCs s0) : MethOK s0 35401825 := ⟨Om20, Ok20, Ol20, false, 0, prog_21_method_38_code, none, [], ow20 hN, (fun h => by cases h), rfl, rowsB_s rw_X7_beginTries, (plainFor_of_name pl_20), Or.inl ⟨rfl, rfl, rfl⟩⟩
theorem rw_X7_goesOn : rowsB 35663969 prog_21_method_39_code Om20 Ok20 Ol20 false 2 = true := by decide +kernel
theorem mt_X7_goesOn {s0 : State} (hN : NCs s0) : MethOK s0 35663969 := ⟨Om20, Ok20, Ol20, false, 2, prog_21_method_39_code, some Jvm.ClassFile.FieldType.boolean, [], ow20 hN, (fun h => by cases h), rfl, rowsB_s rw_X7_goesOn, (plainFor_of_name pl_20), Or.inl ⟨rfl, rfl, rfl⟩⟩
theorem rw_X8_init : rowsB 36004547 prog_11_method_1_code Om10 Ok10 Ol10 true 0 = true := by decide +kernel
theorem mt_X8_init {s0 : State} (hN : NCs s0) : MethOK s0 36004547 := ⟨Om10, Ok10, Ol10, true, 0, prog_11_method_1_code, none, [], ow10 hN, fun _ => rfl, rfl, rowsB_s rw_X8_init, (plainFor_of_name pl_10), Or.inl ⟨rfl, rfl, rfl⟩⟩
theorem rw_X8_as : rowsB 36266691 prog_11_method_2_code Om10 Ok10 Ol10 false 5 = true := by decide +kernel
theorem mt_X8_as {s0 : State} (hN : NCs s0) : MethOK s0 36266691 := ⟨Om10, Ok10, Ol10, false, 5, prog_11_method_2_code, some (Jvm.ClassFile.FieldType.object "AlgolHouse$Fault"), [], ow10 hN, (fun h => by cases h), ⟨_, rfl, Or.inl ⟨_, rfl⟩⟩, rowsB_s rw_X8_as, (plainFor_of_name pl_10), Or.inl ⟨rfl, rfl, rfl⟩⟩
theorem rw_X9_init : rowsB 36520577 prog_36_method_1_code Om35 Ok35 Ol35 true 0 = true := by decide +kernel
theorem mt_X9_init {s0 : State} (hN : NCs s0) : MethOK s0 36520577 := ⟨Om35, Ok35, Ol35, true, 0, prog_36_method_1_code, none, [], ow35 hN, fun _ => rfl, rfl, rowsB_s rw_X9_init, (plainFor_of_name pl_35), Or.inl ⟨rfl, rfl, rfl⟩⟩
theorem rw_X10_init : rowsB 36788913 prog_49_method_1_code Om47 Ok47 Ol47 true 0 = true := by decide +kernel
theorem mt_X10_init {s0 : State} (hN : NCs s0) : MethOK s0 36788913 := ⟨Om47, Ok47, Ol47, true, 0, prog_49_method_1_code, none, [], ow47 hN, fun _ => rfl, rfl, rowsB_s rw_X10_init, (plainFor_of_name pl_47), Or.inl ⟨rfl, rfl, rfl⟩⟩
theorem rw_X10_thrown : rowsB 37051057 prog_49_method_2_code Om47 Ok47 Ol47 false 1 = true := by decide +kernel
theorem mt_X10_thrown {s0 : State} (hN : NCs s0) : MethOK s0 37051057 := ⟨Om47, Ok47, Ol47, false, 1, prog_49_method_2_code, some Jvm.ClassFile.FieldType.int, [], ow47 hN, (fun h => by cases h), rfl, rowsB_s rw_X10_thrown, (plainFor_of_name pl_47), Or.inl ⟨rfl, rfl, rfl⟩⟩
theorem rw_X10_type : rowsB 37313202 prog_49_method_4_code Om47 Ok47 Ol47 false 1 = true := by decide +kernel
theorem mt_X10_type {s0 : State} (hN : NCs s0) : MethOK s0 37313202 := ⟨Om47, Ok47, Ol47, false, 1, prog_49_method_4_code, some Jvm.ClassFile.FieldType.int, [], ow47 hN, (fun h => by cases h), rfl, rowsB_s rw_X10_type, (plainFor_of_name pl_47), Or.inl ⟨rfl, rfl, rfl⟩⟩
theorem rw_X10_read : rowsB 37575345 prog_49_method_154_code Om47 Ok47 Ol47 false 1 = true := by decide +kernel
theorem mt_X10_read {s0 : State} (hN : NCs s0) : MethOK s0 37575345 := ⟨Om47, Ok47, Ol47, false, 1, prog_49_method_154_code, some Jvm.ClassFile.FieldType.int, [], ow47 hN, (fun h => by cases h), rfl, rowsB_s rw_X10_read, (plainFor_of_name pl_47), Or.inl ⟨rfl, rfl, rfl⟩⟩
theorem rw_X10_tokenize : rowsB 37837489 prog_49_method_12_code Om47 Ok47 Ol47 false 0 = true := by decide +kernel
theorem mt_X10_tokenize {s0 : State} (hN : NCs s0) : MethOK s0 37837489 := ⟨Om47, Ok47, Ol47, false, 0, prog_49_method_12_code, none, [], ow47 hN, (fun h => by cases h), rfl, rowsB_s rw_X10_tokenize, (plainFor_of_name pl_47), Or.inl ⟨rfl, rfl, rfl⟩⟩
theorem rw_X10_oneToken : rowsB 38099634 prog_49_method_13_code Om47 Ok47 Ol47 false 1 = true := by decide +kernel
theorem mt_X10_oneToken {s0 : State} (hN : NCs s0) : MethOK s0 38099634 := ⟨Om47, Ok47, Ol47, false, 1, prog_49_method_13_code, some Jvm.ClassFile.FieldType.int, [], ow47 hN, (fun h => by cases h), rfl, rowsB_s rw_X10_oneToken, (plainFor_of_name pl_47), Or.inl ⟨rfl, rfl, rfl⟩⟩
theorem rw_X10_isGreat : rowsB 38273025 prog_49_method_7_code Om47 Ok47 Ol47 false 2 = true := by decide +kernel
theorem mt_X10_isGreat {s0 : State} (hN : NCs s0) : MethOK s0 38273025 := ⟨Om47, Ok47, Ol47, false, 2, prog_49_method_7_code, some Jvm.ClassFile.FieldType.boolean, [], ow47 hN, (fun h => by cases h), rfl, rowsB_s rw_X10_isGreat, (plainFor_of_name pl_47), Or.inl ⟨rfl, rfl, rfl⟩⟩
theorem rw_X10_byteAt : rowsB 38623922 prog_49_method_5_code Om47 Ok47 Ol47 false 1 = true := by decide +kernel
theorem mt_X10_byteAt {s0 : State} (hN : NCs s0) : MethOK s0 38623922 := ⟨Om47, Ok47, Ol47, false, 1, prog_49_method_5_code, some Jvm.ClassFile.FieldType.int, [], ow47 hN, (fun h => by cases h), rfl, rowsB_s rw_X10_byteAt, (plainFor_of_name pl_47), Or.inl ⟨rfl, rfl, rfl⟩⟩
theorem rw_X10_keptWord : rowsB 38886067 prog_49_method_11_code Om47 Ok47 Ol47 false 1 = true := by decide +kernel
theorem mt_X10_keptWord {s0 : State} (hN : NCs s0) : MethOK s0 38886067 := ⟨Om47, Ok47, Ol47, false, 1, prog_49_method_11_code, some Jvm.ClassFile.FieldType.int, [], ow47 hN, (fun h => by cases h), rfl, rowsB_s rw_X10_keptWord, (plainFor_of_name pl_47), Or.inl ⟨rfl, rfl, rfl⟩⟩
theorem rw_X10_token : rowsB 39148213 prog_49_method_9_code Om47 Ok47 Ol47 false 0 = true := by decide +kernel
theorem mt_X10_token {s0 : State} (hN : NCs s0) : MethOK s0 39148213 := ⟨Om47, Ok47, Ol47, false, 0, prog_49_method_9_code, none, [], ow47 hN, (fun h => by cases h), rfl, rowsB_s rw_X10_token, (plainFor_of_name pl_47), Or.inl ⟨rfl, rfl, rfl⟩⟩
theorem rw_X10_packed : rowsB 39410355 prog_49_method_10_code Om47 Ok47 Ol47 false 4 = true := by decide +kernel
theorem mt_X10_packed {s0 : State} (hN : NCs s0) : MethOK s0 39410355 := ⟨Om47, Ok47, Ol47, false, 4, prog_49_method_10_code, some Jvm.ClassFile.FieldType.long, [], ow47 hN, (fun h => by cases h), rfl, rowsB_s rw_X10_packed, (plainFor_of_name pl_47), Or.inl ⟨rfl, rfl, rfl⟩⟩
theorem rw_X10_isSmall : rowsB 39583745 prog_49_method_6_code Om47 Ok47 Ol47 false 2 = true := by decide +kernel
theorem mt_X10_isSmall {s0 : State} (hN : NCs s0) : MethOK s0 39583745 := ⟨Om47, Ok47, Ol47, false, 2, prog_49_method_6_code, some Jvm.ClassFile.FieldType.boolean, [], ow47 hN, (fun h => by cases h), rfl, rowsB_s rw_X10_isSmall, (plainFor_of_name pl_47), Or.inl ⟨rfl, rfl, rfl⟩⟩
theorem rw_X10_isDigit : rowsB 39845889 prog_49_method_8_code Om47 Ok47 Ol47 false 2 = true := by decide +kernel
theorem mt_X10_isDigit {s0 : State} (hN : NCs s0) : MethOK s0 39845889 := ⟨Om47, Ok47, Ol47, false, 2, prog_49_method_8_code, some Jvm.ClassFile.FieldType.boolean, [], ow47 hN, (fun h => by cases h), rfl, rowsB_s rw_X10_isDigit, (plainFor_of_name pl_47), Or.inl ⟨rfl, rfl, rfl⟩⟩
theorem rw_X10_parse : rowsB 40196785 prog_49_method_39_code Om47 Ok47 Ol47 false 2 = true := by decide +kernel
theorem mt_X10_parse {s0 : State} (hN : NCs s0) : MethOK s0 40196785 := ⟨Om47, Ok47, Ol47, false, 2, prog_49_method_39_code, some Jvm.ClassFile.FieldType.boolean, [], ow47 hN, (fun h => by cases h), rfl, rowsB_s rw_X10_parse, (plainFor_of_name pl_47), Or.inl ⟨rfl, rfl, rfl⟩⟩
theorem rw_X10_beginModes : rowsB 40458929 prog_49_method_32_code Om47 Ok47 Ol47 false 0 = true := by decide +kernel
theorem mt_X10_beginModes {s0 : State} (hN : NCs s0) : MethOK s0 40458929 := ⟨Om47, Ok47, Ol47, false, 0, prog_49_method_32_code, none, [], ow47 hN, (fun h => by cases h), rfl, rowsB_s rw_X10_beginModes, (plainFor_of_name pl_47), Or.inl ⟨rfl, rfl, rfl⟩⟩
theorem rw_X10_newMode : rowsB 40721076 prog_49_method_31_code Om47 Ok47 Ol47 false 1 = true := by decide +kernel
theorem mt_X10_newMode {s0 : State} (hN : NCs s0) : MethOK s0 40721076 := ⟨Om47, Ok47, Ol47, false, 1, prog_49_method_31_code, some Jvm.ClassFile.FieldType.int, [], ow47 hN, (fun h => by cases h), rfl, rowsB_s rw_X10_newMode, (plainFor_of_name pl_47), Or.inl ⟨rfl, rfl, rfl⟩⟩
theorem rw_X10_push : rowsB 40983222 prog_49_method_36_code Om47 Ok47 Ol47 false 1 = true := by decide +kernel
theorem mt_X10_push {s0 : State} (hN : NCs s0) : MethOK s0 40983222 := ⟨Om47, Ok47, Ol47, false, 1, prog_49_method_36_code, some Jvm.ClassFile.FieldType.int, [], ow47 hN, (fun h => by cases h), rfl, rowsB_s rw_X10_push, (plainFor_of_name pl_47), Or.inl ⟨rfl, rfl, rfl⟩⟩
theorem rw_X10_stepGoal : rowsB 41245362 prog_49_method_40_code Om47 Ok47 Ol47 false 0 = true := by decide +kernel
theorem mt_X10_stepGoal {s0 : State} (hN : NCs s0) : MethOK s0 41245362 := ⟨Om47, Ok47, Ol47, false, 0, prog_49_method_40_code, none, [], ow47 hN, (fun h => by cases h), rfl, rowsB_s rw_X10_stepGoal, (plainFor_of_name pl_47), Or.inl ⟨rfl, rfl, rfl⟩⟩
theorem rw_X10_serial : rowsB 41507506 prog_49_method_41_code Om47 Ok47 Ol47 false 0 = true := by decide +kernel
theorem mt_X10_serial {s0 : State} (hN : NCs s0) : MethOK s0 41507506 := ⟨Om47, Ok47, Ol47, false, 0, prog_49_method_41_code, none, [], ow47 hN, (fun h => by cases h), rfl, rowsB_s rw_X10_serial, (plainFor_of_name pl_47), Or.inl ⟨rfl, rfl, rfl⟩⟩
theorem rw_X10_newNode : rowsB 41769651 prog_49_method_33_code Om47 Ok47 Ol47 false 1 = true := by decide +kernel
theorem mt_X10_newNode {s0 : State} (hN : NCs s0) : MethOK s0 41769651 := ⟨Om47, Ok47, Ol47, false, 1, prog_49_method_33_code, some Jvm.ClassFile.FieldType.int, [], ow47 hN, (fun h => by cases h), rfl, rowsB_s rw_X10_newNode, (plainFor_of_name pl_47), Or.inl ⟨rfl, rfl, rfl⟩⟩
theorem rw_X10_item : rowsB 42031794 prog_49_method_43_code Om47 Ok47 Ol47 false 0 = true := by decide +kernel
theorem mt_X10_item {s0 : State} (hN : NCs s0) : MethOK s0 42031794 := ⟨Om47, Ok47, Ol47, false, 0, prog_49_method_43_code, none, [], ow47 hN, (fun h => by cases h), rfl, rowsB_s rw_X10_item, (plainFor_of_name pl_47), Or.inl ⟨rfl, rfl, rfl⟩⟩
theorem rw_X10_fails : rowsB 42293937 prog_49_method_14_code Om47 Ok47 Ol47 false 2 = true := by decide +kernel
theorem mt_X10_fails {s0 : State} (hN : NCs s0) : MethOK s0 42293937 := ⟨Om47, Ok47, Ol47, false, 2, prog_49_method_14_code, some Jvm.ClassFile.FieldType.boolean, [], ow47 hN, (fun h => by cases h), rfl, rowsB_s rw_X10_fails, (plainFor_of_name pl_47), Or.inl ⟨rfl, rfl, rfl⟩⟩
theorem rw_X10_isKept : rowsB 42556082 prog_49_method_16_code Om47 Ok47 Ol47 false 2 = true := by decide +kernel
theorem mt_X10_isKept {s0 : State} (hN : NCs s0) : MethOK s0 42556082 := ⟨Om47, Ok47, Ol47, false, 2, prog_49_method_16_code, some Jvm.ClassFile.FieldType.boolean, [], ow47 hN, (fun h => by cases h), rfl, rowsB_s rw_X10_isKept, (plainFor_of_name pl_47), Or.inl ⟨rfl, rfl, rfl⟩⟩
theorem rw_X10_isModeIndicant : rowsB 42818226 prog_49_method_23_code Om47 Ok47 Ol47 false 2 = true := by decide +kernel
theorem mt_X10_isModeIndicant {s0 : State} (hN : NCs s0) : MethOK s0 42818226 := ⟨Om47, Ok47, Ol47, false, 2, prog_49_method_23_code, some Jvm.ClassFile.FieldType.boolean, [], ow47 hN, (fun h => by cases h), rfl, rowsB_s rw_X10_isModeIndicant, (plainFor_of_name pl_47), Or.inl ⟨rfl, rfl, rfl⟩⟩
theorem rw_X10_isModeWord : rowsB 43080370 prog_49_method_22_code Om47 Ok47 Ol47 false 2 = true := by decide +kernel
theorem mt_X10_isModeWord {s0 : State} (hN : NCs s0) : MethOK s0 43080370 := ⟨Om47, Ok47, Ol47, false, 2, prog_49_method_22_code, some Jvm.ClassFile.FieldType.boolean, [], ow47 hN, (fun h => by cases h), rfl, rowsB_s rw_X10_isModeWord, (plainFor_of_name pl_47), Or.inl ⟨rfl, rfl, rfl⟩⟩
theorem rw_X10_opensSign : rowsB 43342514 prog_49_method_20_code Om47 Ok47 Ol47 false 2 = true := by decide +kernel
theorem mt_X10_opensSign {s0 : State} (hN : NCs s0) : MethOK s0 43342514 := ⟨Om47, Ok47, Ol47, false, 2, prog_49_method_20_code, some Jvm.ClassFile.FieldType.boolean, [], ow47 hN, (fun h => by cases h), rfl, rowsB_s rw_X10_opensSign, (plainFor_of_name pl_47), Or.inl ⟨rfl, rfl, rfl⟩⟩
theorem rw_X10_isSign : rowsB 43604658 prog_49_method_15_code Om47 Ok47 Ol47 false 2 = true := by decide +kernel
theorem mt_X10_isSign {s0 : State} (hN : NCs s0) : MethOK s0 43604658 := ⟨Om47, Ok47, Ol47, false, 2, prog_49_method_15_code, some Jvm.ClassFile.FieldType.boolean, [], ow47 hN, (fun h => by cases h), rfl, rowsB_s rw_X10_isSign, (plainFor_of_name pl_47), Or.inl ⟨rfl, rfl, rfl⟩⟩
theorem rw_X10_opens : rowsB 43866801 prog_49_method_19_code Om47 Ok47 Ol47 false 2 = true := by decide +kernel
theorem mt_X10_opens {s0 : State} (hN : NCs s0) : MethOK s0 43866801 := ⟨Om47, Ok47, Ol47, false, 2, prog_49_method_19_code, some Jvm.ClassFile.FieldType.boolean, [], ow47 hN, (fun h => by cases h), rfl, rowsB_s rw_X10_opens, (plainFor_of_name pl_47), Or.inl ⟨rfl, rfl, rfl⟩⟩
theorem rw_X10_prio : rowsB 44128946 prog_49_method_44_code Om47 Ok47 Ol47 false 0 = true := by decide +kernel
theorem mt_X10_prio {s0 : State} (hN : NCs s0) : MethOK s0 44128946 := ⟨Om47, Ok47, Ol47, false, 0, prog_49_method_44_code, none, [], ow47 hN, (fun h => by cases h), rfl, rowsB_s rw_X10_prio, (plainFor_of_name pl_47), Or.inl ⟨rfl, rfl, rfl⟩⟩
