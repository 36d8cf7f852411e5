/-! ROWS OF THE METHODS (printed by gen/rows.py) -/
set_option maxRecDepth 100000
theorem rw_X10_puts : rowsB 88693428 prog_49_method_212_code Om47 Ok47 Ol47 false 2 = true := by decide +kernel
theorem mt_X10_puts {s0 : State} (hN : NCs s0) : MethOK s0 88693428 := ⟨Om47, Ok47, Ol47, false, 2, prog_49_method_212_code, some Jvm.ClassFile.FieldType.boolean, [], ow47 hN, (fun h => by cases h), rfl, rowsB_s rw_X10_puts, (plainFor_of_name pl_47), Or.inl ⟨rfl, rfl, rfl⟩⟩
theorem rw_X10_newPlaces : rowsB 88955571 prog_49_method_181_code Om47 Ok47 Ol47 false 1 = true := by decide +kernel
theorem mt_X10_newPlaces {s0 : State} (hN : NCs s0) : MethOK s0 88955571 := ⟨Om47, Ok47, Ol47, false, 1, prog_49_method_181_code, some Jvm.ClassFile.FieldType.int, [], ow47 hN, (fun h => by cases h), rfl, rowsB_s rw_X10_newPlaces, (plainFor_of_name pl_47), Or.inl ⟨rfl, rfl, rfl⟩⟩
theorem rw_X10_sizeWith : rowsB 89217715 prog_49_method_173_code Om47 Ok47 Ol47 false 1 = true := by decide +kernel
theorem mt_X10_sizeWith {s0 : State} (hN : NCs s0) : MethOK s0 89217715 := ⟨Om47, Ok47, Ol47, false, 1, prog_49_method_173_code, some Jvm.ClassFile.FieldType.int, [], ow47 hN, (fun h => by cases h), rfl, rowsB_s rw_X10_sizeWith, (plainFor_of_name pl_47), Or.inl ⟨rfl, rfl, rfl⟩⟩
theorem rw_X10_put : rowsB 89479859 prog_49_method_182_code Om47 Ok47 Ol47 false 0 = true := by decide +kernel
theorem mt_X10_put {s0 : State} (hN : NCs s0) : MethOK s0 89479859 := ⟨Om47, Ok47, Ol47, false, 0, prog_49_method_182_code, none, [], ow47 hN, (fun h => by cases h), rfl, rowsB_s rw_X10_put, (plainFor_of_name pl_47), Or.inl ⟨rfl, rfl, rfl⟩⟩
theorem rw_X10_stale : rowsB 89742002 prog_49_method_177_code Om47 Ok47 Ol47 false 0 = true := by decide +kernel
theorem mt_X10_stale {s0 : State} (hN : NCs s0) : MethOK s0 89742002 := ⟨Om47, Ok47, Ol47, false, 0, prog_49_method_177_code, none, [], ow47 hN, (fun h => by cases h), rfl, rowsB_s rw_X10_stale, (plainFor_of_name pl_47), Or.inl ⟨rfl, rfl, rfl⟩⟩
theorem rw_X10_operation : rowsB 90004147 prog_49_method_214_code Om47 Ok47 Ol47 false 0 = true := by decide +kernel
theorem mt_X10_operation {s0 : State} (hN : NCs s0) : MethOK s0 90004147 := ⟨Om47, Ok47, Ol47, false, 0, prog_49_method_214_code, none, [], ow47 hN, (fun h => by cases h), rfl, rowsB_s rw_X10_operation, (plainFor_of_name pl_47), Or.inl ⟨rfl, rfl, rfl⟩⟩
theorem rw_X10_callsRoutine : rowsB 90266294 prog_49_method_205_code Om47 Ok47 Ol47 false 0 = true := by decide +kernel
theorem mt_X10_callsRoutine {s0 : State} (hN : NCs s0) : MethOK s0 90266294 := ⟨Om47, Ok47, Ol47, false, 0, prog_49_method_205_code, none, [], ow47 hN, (fun h => by cases h), rfl, rowsB_s rw_X10_callsRoutine, (plainFor_of_name pl_47), Or.inl ⟨rfl, rfl, rfl⟩⟩
theorem rw_X10_fitsLong : rowsB 90439684 prog_49_method_215_code Om47 Ok47 Ol47 false 2 = true := by decide +kernel
theorem mt_X10_fitsLong {s0 : State} (hN : NCs s0) : MethOK s0 90439684 := ⟨Om47, Ok47, Ol47, false, 2, prog_49_method_215_code, some Jvm.ClassFile.FieldType.boolean, [], ow47 hN, (fun h => by cases h), rfl, rowsB_s rw_X10_fitsLong, (plainFor_of_name pl_47), Or.inl ⟨rfl, rfl, rfl⟩⟩
theorem rw_X10_standard : rowsB 90701827 prog_49_method_216_code Om47 Ok47 Ol47 false 4 = true := by decide +kernel
theorem mt_X10_standard {s0 : State} (hN : NCs s0) : MethOK s0 90701827 := ⟨Om47, Ok47, Ol47, false, 4, prog_49_method_216_code, some Jvm.ClassFile.FieldType.long, [], ow47 hN, (fun h => by cases h), rfl, rowsB_s rw_X10_standard, (plainFor_of_name pl_47), Or.inl ⟨rfl, rfl, rfl⟩⟩
theorem rw_X10_single : rowsB 90963970 prog_49_method_217_code Om47 Ok47 Ol47 false 4 = true := by decide +kernel
theorem mt_X10_single {s0 : State} (hN : NCs s0) : MethOK s0 90963970 := ⟨Om47, Ok47, Ol47, false, 4, prog_49_method_217_code, some Jvm.ClassFile.FieldType.long, [], ow47 hN, (fun h => by cases h), rfl, rowsB_s rw_X10_single, (plainFor_of_name pl_47), Or.inl ⟨rfl, rfl, rfl⟩⟩
theorem rw_X10_bounds : rowsB 91314867 prog_49_method_222_code Om47 Ok47 Ol47 false 0 = true := by decide +kernel
theorem mt_X10_bounds {s0 : State} (hN : NCs s0) : MethOK s0 91314867 := ⟨Om47, Ok47, Ol47, false, 0, prog_49_method_222_code, none, [], ow47 hN, (fun h => by cases h), rfl, rowsB_s rw_X10_bounds, (plainFor_of_name pl_47), Or.inl ⟨rfl, rfl, rfl⟩⟩
theorem rw_X10_isRow : rowsB 91577011 prog_49_method_218_code Om47 Ok47 Ol47 false 2 = true := by decide +kernel
theorem mt_X10_isRow {s0 : State} (hN : NCs s0) : MethOK s0 91577011 := ⟨Om47, Ok47, Ol47, false, 2, prog_49_method_218_code, some Jvm.ClassFile.FieldType.boolean, [], ow47 hN, (fun h => by cases h), rfl, rowsB_s rw_X10_isRow, (plainFor_of_name pl_47), Or.inl ⟨rfl, rfl, rfl⟩⟩
theorem rw_X10_lowOf : rowsB 91839154 prog_49_method_219_code Om47 Ok47 Ol47 false 1 = true := by decide +kernel
theorem mt_X10_lowOf {s0 : State} (hN : NCs s0) : MethOK s0 91839154 := ⟨Om47, Ok47, Ol47, false, 1, prog_49_method_219_code, some Jvm.ClassFile.FieldType.int, [], ow47 hN, (fun h => by cases h), rfl, rowsB_s rw_X10_lowOf, (plainFor_of_name pl_47), Or.inl ⟨rfl, rfl, rfl⟩⟩
theorem rw_X10_manyOf : rowsB 92101298 prog_49_method_220_code Om47 Ok47 Ol47 false 1 = true := by decide +kernel
theorem mt_X10_manyOf {s0 : State} (hN : NCs s0) : MethOK s0 92101298 := ⟨Om47, Ok47, Ol47, false, 1, prog_49_method_220_code, some Jvm.ClassFile.FieldType.int, [], ow47 hN, (fun h => by cases h), rfl, rowsB_s rw_X10_manyOf, (plainFor_of_name pl_47), Or.inl ⟨rfl, rfl, rfl⟩⟩
theorem rw_X10_selected : rowsB 92363443 prog_49_method_223_code Om47 Ok47 Ol47 false 0 = true := by decide +kernel
theorem mt_X10_selected {s0 : State} (hN : NCs s0) : MethOK s0 92363443 := ⟨Om47, Ok47, Ol47, false, 0, prog_49_method_223_code, none, [], ow47 hN, (fun h => by cases h), rfl, rowsB_s rw_X10_selected, (plainFor_of_name pl_47), Or.inl ⟨rfl, rfl, rfl⟩⟩
theorem rw_X10_inside : rowsB 92625587 prog_49_method_221_code Om47 Ok47 Ol47 false 1 = true := by decide +kernel
theorem mt_X10_inside {s0 : State} (hN : NCs s0) : MethOK s0 92625587 := ⟨Om47, Ok47, Ol47, false, 1, prog_49_method_221_code, some Jvm.ClassFile.FieldType.int, [], ow47 hN, (fun h => by cases h), rfl, rowsB_s rw_X10_inside, (plainFor_of_name pl_47), Or.inl ⟨rfl, rfl, rfl⟩⟩
theorem rw_X10_sliced : rowsB 92887731 prog_49_method_224_code Om47 Ok47 Ol47 false 0 = true := by decide +kernel
theorem mt_X10_sliced {s0 : State} (hN : NCs s0) : MethOK s0 92887731 := ⟨Om47, Ok47, Ol47, false, 0, prog_49_method_224_code, none, [], ow47 hN, (fun h => by cases h), rfl, rowsB_s rw_X10_sliced, (plainFor_of_name pl_47), Or.inl ⟨rfl, rfl, rfl⟩⟩
theorem rw_X10_trimmed : rowsB 93149876 prog_49_method_225_code Om47 Ok47 Ol47 false 1 = true := by decide +kernel
theorem mt_X10_trimmed {s0 : State} (hN : NCs s0) : MethOK s0 93149876 := ⟨Om47, Ok47, Ol47, false, 1, prog_49_method_225_code, some Jvm.ClassFile.FieldType.int, [], ow47 hN, (fun h => by cases h), rfl, rowsB_s rw_X10_trimmed, (plainFor_of_name pl_47), Or.inl ⟨rfl, rfl, rfl⟩⟩
theorem rw_X10_valueOf : rowsB 93412018 prog_49_method_179_code Om47 Ok47 Ol47 false 1 = true := by decide +kernel
theorem mt_X10_valueOf {s0 : State} (hN : NCs s0) : MethOK s0 93412018 := ⟨Om47, Ok47, Ol47, false, 1, prog_49_method_179_code, some Jvm.ClassFile.FieldType.int, [], ow47 hN, (fun h => by cases h), rfl, rowsB_s rw_X10_valueOf, (plainFor_of_name pl_47), Or.inl ⟨rfl, rfl, rfl⟩⟩
theorem rw_X10_gathered : rowsB 93674162 prog_49_method_180_code Om47 Ok47 Ol47 false 1 = true := by decide +kernel
theorem mt_X10_gathered {s0 : State} (hN : NCs s0) : MethOK s0 93674162 := ⟨Om47, Ok47, Ol47, false, 1, prog_49_method_180_code, some Jvm.ClassFile.FieldType.int, [], ow47 hN, (fun h => by cases h), rfl, rowsB_s rw_X10_gathered, (plainFor_of_name pl_47), Or.inl ⟨rfl, rfl, rfl⟩⟩
theorem rw_X10_placesIn : rowsB 93936306 prog_49_method_178_code Om47 Ok47 Ol47 false 1 = true := by decide +kernel
theorem mt_X10_placesIn {s0 : State} (hN : NCs s0) : MethOK s0 93936306 := ⟨Om47, Ok47, Ol47, false, 1, prog_49_method_178_code, some Jvm.ClassFile.FieldType.int, [], ow47 hN, (fun h => by cases h), rfl, rowsB_s rw_X10_placesIn, (plainFor_of_name pl_47), Or.inl ⟨rfl, rfl, rfl⟩⟩
theorem rw_X10_isSmall_2 : rowsB 94198451 prog_49_method_203_code Om47 Ok47 Ol47 false 2 = true := by decide +kernel
theorem mt_X10_isSmall_2 {s0 : State} (hN : NCs s0) : MethOK s0 94198451 := ⟨Om47, Ok47, Ol47, false, 2, prog_49_method_203_code, some Jvm.ClassFile.FieldType.boolean, [], ow47 hN, (fun h => by cases h), rfl, rowsB_s rw_X10_isSmall_2, (plainFor_of_name pl_47), Or.inl ⟨rfl, rfl, rfl⟩⟩
theorem rw_X10_takesSteps : rowsB 94460595 prog_49_method_202_code Om47 Ok47 Ol47 false 2 = true := by decide +kernel
theorem mt_X10_takesSteps {s0 : State} (hN : NCs s0) : MethOK s0 94460595 := ⟨Om47, Ok47, Ol47, false, 2, prog_49_method_202_code, some Jvm.ClassFile.FieldType.boolean, [], ow47 hN, (fun h => by cases h), rfl, rowsB_s rw_X10_takesSteps, (plainFor_of_name pl_47), Or.inl ⟨rfl, rfl, rfl⟩⟩
theorem rw_X10_displayed : rowsB 94722739 prog_49_method_226_code Om47 Ok47 Ol47 false 0 = true := by decide +kernel
theorem mt_X10_displayed {s0 : State} (hN : NCs s0) : MethOK s0 94722739 := ⟨Om47, Ok47, Ol47, false, 0, prog_49_method_226_code, none, [], ow47 hN, (fun h => by cases h), rfl, rowsB_s rw_X10_displayed, (plainFor_of_name pl_47), Or.inl ⟨rfl, rfl, rfl⟩⟩
theorem rw_X10_chosen : rowsB 94984884 prog_49_method_227_code Om47 Ok47 Ol47 false 0 = true := by decide +kernel
theorem mt_X10_chosen {s0 : State} (hN : NCs s0) : MethOK s0 94984884 := ⟨Om47, Ok47, Ol47, false, 0, prog_49_method_227_code, none, [], ow47 hN, (fun h => by cases h), rfl, rowsB_s rw_X10_chosen, (plainFor_of_name pl_47), Or.inl ⟨rfl, rfl, rfl⟩⟩
theorem rw_X10_whens : rowsB 95247027 prog_49_method_228_code Om47 Ok47 Ol47 false 0 = true := by decide +kernel
theorem mt_X10_whens {s0 : State} (hN : NCs s0) : MethOK s0 95247027 := ⟨Om47, Ok47, Ol47, false, 0, prog_49_method_228_code, none, [], ow47 hN, (fun h => by cases h), rfl, rowsB_s rw_X10_whens, (plainFor_of_name pl_47), Or.inl ⟨rfl, rfl, rfl⟩⟩
theorem rw_X10_loopBegins : rowsB 95509171 prog_49_method_230_code Om47 Ok47 Ol47 false 0 = true := by decide +kernel
theorem mt_X10_loopBegins {s0 : State} (hN : NCs s0) : MethOK s0 95509171 := ⟨Om47, Ok47, Ol47, false, 0, prog_49_method_230_code, none, [], ow47 hN, (fun h => by cases h), rfl, rowsB_s rw_X10_loopBegins, (plainFor_of_name pl_47), Or.inl ⟨rfl, rfl, rfl⟩⟩
theorem rw_X10_numberAt : rowsB 95771317 prog_49_method_229_code Om47 Ok47 Ol47 false 4 = true := by decide +kernel
theorem mt_X10_numberAt {s0 : State} (hN : NCs s0) : MethOK s0 95771317 := ⟨Om47, Ok47, Ol47, false, 4, prog_49_method_229_code, some Jvm.ClassFile.FieldType.long, [], ow47 hN, (fun h => by cases h), rfl, rowsB_s rw_X10_numberAt, (plainFor_of_name pl_47), Or.inl ⟨rfl, rfl, rfl⟩⟩
theorem rw_X10_prints : rowsB 96033459 prog_49_method_232_code Om47 Ok47 Ol47 false 0 = true := by decide +kernel
theorem mt_X10_prints {s0 : State} (hN : NCs s0) : MethOK s0 96033459 := ⟨Om47, Ok47, Ol47, false, 0, prog_49_method_232_code, none, [], ow47 hN, (fun h => by cases h), rfl, rowsB_s rw_X10_prints, (plainFor_of_name pl_47), Or.inl ⟨rfl, rfl, rfl⟩⟩
theorem rw_X10_leaves : rowsB 96295603 prog_49_method_199_code Om47 Ok47 Ol47 false 0 = true := by decide +kernel
theorem mt_X10_leaves {s0 : State} (hN : NCs s0) : MethOK s0 96295603 := ⟨Om47, Ok47, Ol47, false, 0, prog_49_method_199_code, none, [], ow47 hN, (fun h => by cases h), rfl, rowsB_s rw_X10_leaves, (plainFor_of_name pl_47), Or.inl ⟨rfl, rfl, rfl⟩⟩
theorem rw_X10_mayLeave : rowsB 96557746 prog_49_method_198_code Om47 Ok47 Ol47 false 2 = true := by decide +kernel
theorem mt_X10_mayLeave {s0 : State} (hN : NCs s0) : MethOK s0 96557746 := ⟨Om47, Ok47, Ol47, false, 2, prog_49_method_198_code, some Jvm.ClassFile.FieldType.boolean, [], ow47 hN, (fun h => by cases h), rfl, rowsB_s rw_X10_mayLeave, (plainFor_of_name pl_47), Or.inl ⟨rfl, rfl, rfl⟩⟩
theorem rw_X10_unitOfVariable : rowsB 96819891 prog_49_method_211_code Om47 Ok47 Ol47 false 0 = true := by decide +kernel
theorem mt_X10_unitOfVariable {s0 : State} (hN : NCs s0) : MethOK s0 96819891 := ⟨Om47, Ok47, Ol47, false, 0, prog_49_method_211_code, none, [], ow47 hN, (fun h => by cases h), rfl, rowsB_s rw_X10_unitOfVariable, (plainFor_of_name pl_47), Or.inl ⟨rfl, rfl, rfl⟩⟩
theorem rw_X10_nextStep : rowsB 97082035 prog_49_method_200_code Om47 Ok47 Ol47 false 0 = true := by decide +kernel
theorem mt_X10_nextStep {s0 : State} (hN : NCs s0) : MethOK s0 97082035 := ⟨Om47, Ok47, Ol47, false, 0, prog_49_method_200_code, none, [], ow47 hN, (fun h => by cases h), rfl, rowsB_s rw_X10_nextStep, (plainFor_of_name pl_47), Or.inl ⟨rfl, rfl, rfl⟩⟩
theorem rw_X10_follows : rowsB 97344178 prog_49_method_201_code Om47 Ok47 Ol47 false 0 = true := by decide +kernel
theorem mt_X10_follows {s0 : State} (hN : NCs s0) : MethOK s0 97344178 := ⟨Om47, Ok47, Ol47, false, 0, prog_49_method_201_code, none, [], ow47 hN, (fun h => by cases h), rfl, rowsB_s rw_X10_follows, (plainFor_of_name pl_47), Or.inl ⟨rfl, rfl, rfl⟩⟩
theorem rw_X10_nextItem : rowsB 97606323 prog_49_method_197_code Om47 Ok47 Ol47 false 0 = true := by decide +kernel
theorem mt_X10_nextItem {s0 : State} (hN : NCs s0) : MethOK s0 97606323 := ⟨Om47, Ok47, Ol47, false, 0, prog_49_method_197_code, none, [], ow47 hN, (fun h => by cases h), rfl, rowsB_s rw_X10_nextItem, (plainFor_of_name pl_47), Or.inl ⟨rfl, rfl, rfl⟩⟩
theorem rw_X10_loopTurn : rowsB 97868467 prog_49_method_231_code Om47 Ok47 Ol47 false 0 = true := by decide +kernel
theorem mt_X10_loopTurn {s0 : State} (hN : NCs s0) : MethOK s0 97868467 := ⟨Om47, Ok47, Ol47, false, 0, prog_49_method_231_code, none, [], ow47 hN, (fun h => by cases h), rfl, rowsB_s rw_X10_loopTurn, (plainFor_of_name pl_47), Or.inl ⟨rfl, rfl, rfl⟩⟩
theorem rw_X10_told : rowsB 98130609 prog_49_method_235_code Om47 Ok47 Ol47 false 1 = true := by decide +kernel
theorem mt_X10_told {s0 : State} (hN : NCs s0) : MethOK s0 98130609 := ⟨Om47, Ok47, Ol47, false, 1, prog_49_method_235_code, some Jvm.ClassFile.FieldType.int, [], ow47 hN, (fun h => by cases h), rfl, rowsB_s rw_X10_told, (plainFor_of_name pl_47), Or.inl ⟨rfl, rfl, rfl⟩⟩
theorem rw_X10_number : rowsB 98392754 prog_49_method_236_code Om47 Ok47 Ol47 false 4 = true := by decide +kernel
theorem mt_X10_number {s0 : State} (hN : NCs s0) : MethOK s0 98392754 := ⟨Om47, Ok47, Ol47, false, 4, prog_49_method_236_code, some Jvm.ClassFile.FieldType.long, [], ow47 hN, (fun h => by cases h), rfl, rowsB_s rw_X10_number, (plainFor_of_name pl_47), Or.inl ⟨rfl, rfl, rfl⟩⟩
theorem rw_X10_kind : rowsB 98654898 prog_49_method_237_code Om47 Ok47 Ol47 false 1 = true := by decide +kernel
theorem mt_X10_kind {s0 : State} (hN : NCs s0) : MethOK s0 98654898 := ⟨Om47, Ok47, Ol47, false, 1, prog_49_method_237_code, some Jvm.ClassFile.FieldType.int, [], ow47 hN, (fun h => by cases h), rfl, rowsB_s rw_X10_kind, (plainFor_of_name pl_47), Or.inl ⟨rfl, rfl, rfl⟩⟩
theorem rw_X10_ran : rowsB 98917042 prog_49_method_238_code Om47 Ok47 Ol47 false 1 = true := by decide +kernel
theorem mt_X10_ran {s0 : State} (hN : NCs s0) : MethOK s0 98917042 := ⟨Om47, Ok47, Ol47, false, 1, prog_49_method_238_code, some Jvm.ClassFile.FieldType.int, [], ow47 hN, (fun h => by cases h), rfl, rowsB_s rw_X10_ran, (plainFor_of_name pl_47), Or.inl ⟨rfl, rfl, rfl⟩⟩
theorem rw_X10_orders : rowsB 99179188 prog_49_method_242_code Om47 Ok47 Ol47 false 1 = true := by decide +kernel
theorem mt_X10_orders {s0 : State} (hN : NCs s0) : MethOK s0 99179188 := ⟨Om47, Ok47, Ol47, false, 1, prog_49_method_242_code, some Jvm.ClassFile.FieldType.int, [], ow47 hN, (fun h => by cases h), rfl, rowsB_s rw_X10_orders, (plainFor_of_name pl_47), Or.inl ⟨rfl, rfl, rfl⟩⟩
theorem rw_X10_counted : rowsB 99441329 prog_49_method_240_code Om47 Ok47 Ol47 false 2 = true := by decide +kernel
theorem mt_X10_counted {s0 : State} (hN : NCs s0) : MethOK s0 99441329 := ⟨Om47, Ok47, Ol47, false, 2, prog_49_method_240_code, some Jvm.ClassFile.FieldType.boolean, [], ow47 hN, (fun h => by cases h), rfl, rowsB_s rw_X10_counted, (plainFor_of_name pl_47), Or.inl ⟨rfl, rfl, rfl⟩⟩
theorem rw_X10_isOutcome : rowsB 99703474 prog_49_method_239_code Om47 Ok47 Ol47 false 2 = true := by decide +kernel
theorem mt_X10_isOutcome {s0 : State} (hN : NCs s0) : MethOK s0 99703474 := ⟨Om47, Ok47, Ol47, false, 2, prog_49_method_239_code, some Jvm.ClassFile.FieldType.boolean, [], ow47 hN, (fun h => by cases h), rfl, rowsB_s rw_X10_isOutcome, (plainFor_of_name pl_47), Or.inl ⟨rfl, rfl, rfl⟩⟩
theorem rw_X10_nextDigits : rowsB 99965617 prog_49_method_241_code Om47 Ok47 Ol47 false 2 = true := by decide +kernel
theorem mt_X10_nextDigits {s0 : State} (hN : NCs s0) : MethOK s0 99965617 := ⟨Om47, Ok47, Ol47, false, 2, prog_49_method_241_code, some Jvm.ClassFile.FieldType.boolean, [], ow47 hN, (fun h => by cases h), rfl, rowsB_s rw_X10_nextDigits, (plainFor_of_name pl_47), Or.inl ⟨rfl, rfl, rfl⟩⟩
theorem rw_X10_outcome : rowsB 100227763 prog_49_method_243_code Om47 Ok47 Ol47 false 1 = true := by decide +kernel
theorem mt_X10_outcome {s0 : State} (hN : NCs s0) : MethOK s0 100227763 := ⟨Om47, Ok47, Ol47, false, 1, prog_49_method_243_code, some Jvm.ClassFile.FieldType.int, [], ow47 hN, (fun h => by cases h), rfl, rowsB_s rw_X10_outcome, (plainFor_of_name pl_47), Or.inl ⟨rfl, rfl, rfl⟩⟩
theorem rw_X10_outcomes : rowsB 100489907 prog_49_method_244_code Om47 Ok47 Ol47 false 4 = true := by decide +kernel
theorem mt_X10_outcomes {s0 : State} (hN : NCs s0) : MethOK s0 100489907 := ⟨Om47, Ok47, Ol47, false, 4, prog_49_method_244_code, some Jvm.ClassFile.FieldType.long, [], ow47 hN, (fun h => by cases h), rfl, rowsB_s rw_X10_outcomes, (plainFor_of_name pl_47), Or.inl ⟨rfl, rfl, rfl⟩⟩
theorem rw_X11_init : rowsB 100737603 prog_30_method_1_code Om29 Ok29 Ol29 true 0 = true := by decide +kernel
theorem mt_X11_init {s0 : State} (hN : NCs s0) : MethOK s0 100737603 := ⟨Om29, Ok29, Ol29, true, 0, prog_30_method_1_code, none, [], ow29 hN, fun _ => rfl, rfl, rowsB_s rw_X11_init, (plainFor_of_name pl_29), Or.inl ⟨rfl, rfl, rfl⟩⟩
theorem rw_X11_program : rowsB 100999745 prog_30_method_31_code Om29 Ok29 Ol29 false 5 = true := by decide +kernel
theorem mt_X11_program {s0 : State} (hN : NCs s0) : MethOK s0 100999745 := ⟨Om29, Ok29, Ol29, false, 5, prog_30_method_31_code, some (Jvm.ClassFile.FieldType.object "AlgolHouse$Serial"), [], ow29 hN, (fun h => by cases h), ⟨_, rfl, Or.inl ⟨_, rfl⟩⟩, rowsB_s rw_X11_program, (plainFor_of_name pl_29), Or.inl ⟨rfl, rfl, rfl⟩⟩
theorem rw_X11_serial : rowsB 101261889 prog_30_method_32_code Om29 Ok29 Ol29 false 5 = true := by decide +kernel
theorem mt_X11_serial {s0 : State} (hN : NCs s0) : MethOK s0 101261889 := ⟨Om29, Ok29, Ol29, false, 5, prog_30_method_32_code, some (Jvm.ClassFile.FieldType.object "AlgolHouse$Serial"), [], ow29 hN, (fun h => by cases h), ⟨_, rfl, Or.inl ⟨_, rfl⟩⟩, rowsB_s rw_X11_serial, (plainFor_of_name pl_29), Or.inl ⟨rfl, rfl, rfl⟩⟩
theorem rw_X11_place : rowsB 101524033 prog_30_method_3_code Om29 Ok29 Ol29 false 1 = true := by decide +kernel
theorem mt_X11_place {s0 : State} (hN : NCs s0) : MethOK s0 101524033 := ⟨Om29, Ok29, Ol29, false, 1, prog_30_method_3_code, some Jvm.ClassFile.FieldType.int, [], ow29 hN, (fun h => by cases h), rfl, rowsB_s rw_X11_place, (plainFor_of_name pl_29), Or.inl ⟨rfl, rfl, rfl⟩⟩
theorem rw_X11_rest : rowsB 101786179 prog_30_method_33_code Om29 Ok29 Ol29 false 0 = true := by decide +kernel
theorem mt_X11_rest {s0 : State} (hN : NCs s0) : MethOK s0 101786179 := ⟨Om29, Ok29, Ol29, false, 0, prog_30_method_33_code, none, [], ow29 hN, (fun h => by cases h), rfl, rowsB_s rw_X11_rest, (plainFor_of_name pl_29), Or.inl ⟨rfl, rfl, rfl⟩⟩
theorem rw_X11_wrong : rowsB 102048321 prog_30_method_2_code Om29 Ok29 Ol29 false 5 = true := by decide +kernel
theorem mt_X11_wrong {s0 : State} (hN : NCs s0) : MethOK s0 102048321 := ⟨Om29, Ok29, Ol29, false, 5, prog_30_method_2_code, some (Jvm.ClassFile.FieldType.object "AlgolHouse$Fault"), [], ow29 hN, (fun h => by cases h), ⟨_, rfl, Or.inl ⟨_, rfl⟩⟩, rowsB_s rw_X11_wrong, (plainFor_of_name pl_29), Or.inl ⟨rfl, rfl, rfl⟩⟩
theorem rw_X11_item : rowsB 102310466 prog_30_method_34_code Om29 Ok29 Ol29 false 2 = true := by decide +kernel
theorem mt_X11_item {s0 : State} (hN : NCs s0) : MethOK s0 102310466 := ⟨Om29, Ok29, Ol29, false, 2, prog_30_method_34_code, some Jvm.ClassFile.FieldType.boolean, [], ow29 hN, (fun h => by cases h), rfl, rowsB_s rw_X11_item, (plainFor_of_name pl_29), Or.inl ⟨rfl, rfl, rfl⟩⟩
theorem rw_X11_isWord : rowsB 102572610 prog_30_method_6_code Om29 Ok29 Ol29 false 2 = true := by decide +kernel
theorem mt_X11_isWord {s0 : State} (hN : NCs s0) : MethOK s0 102572610 := ⟨Om29, Ok29, Ol29, false, 2, prog_30_method_6_code, some Jvm.ClassFile.FieldType.boolean, [], ow29 hN, (fun h => by cases h), rfl, rowsB_s rw_X11_isWord, (plainFor_of_name pl_29), Or.inl ⟨rfl, rfl, rfl⟩⟩
theorem rw_X11_isWord_2 : rowsB 102834755 prog_30_method_5_code Om29 Ok29 Ol29 false 2 = true := by decide +kernel
theorem mt_X11_isWord_2 {s0 : State} (hN : NCs s0) : MethOK s0 102834755 := ⟨Om29, Ok29, Ol29, false, 2, prog_30_method_5_code, some Jvm.ClassFile.FieldType.boolean, [], ow29 hN, (fun h => by cases h), rfl, rowsB_s rw_X11_isWord_2, (plainFor_of_name pl_29), Or.inl ⟨rfl, rfl, rfl⟩⟩
theorem rw_X11_kind : rowsB 103096898 prog_30_method_4_code Om29 Ok29 Ol29 false 5 = true := by decide +kernel
theorem mt_X11_kind {s0 : State} (hN : NCs s0) : MethOK s0 103096898 := ⟨Om29, Ok29, Ol29, false, 5, prog_30_method_4_code, some (Jvm.ClassFile.FieldType.object "AlgolHouse$Token"), [], ow29 hN, (fun h => by cases h), ⟨_, rfl, Or.inl ⟨_, rfl⟩⟩, rowsB_s rw_X11_kind, (plainFor_of_name pl_29), Or.inl ⟨rfl, rfl, rfl⟩⟩
theorem rw_X11_modeDeclared : rowsB 103359041 prog_30_method_37_code Om29 Ok29 Ol29 false 2 = true := by decide +kernel
theorem mt_X11_modeDeclared {s0 : State} (hN : NCs s0) : MethOK s0 103359041 := ⟨Om29, Ok29, Ol29, false, 2, prog_30_method_37_code, some Jvm.ClassFile.FieldType.boolean, [], ow29 hN, (fun h => by cases h), rfl, rowsB_s rw_X11_modeDeclared, (plainFor_of_name pl_29), Or.inl ⟨rfl, rfl, rfl⟩⟩
theorem rw_X11_equalsOpens : rowsB 103621185 prog_30_method_36_code Om29 Ok29 Ol29 false 0 = true := by decide +kernel
theorem mt_X11_equalsOpens {s0 : State} (hN : NCs s0) : MethOK s0 103621185 := ⟨Om29, Ok29, Ol29, false, 0, prog_30_method_36_code, none, [], ow29 hN, (fun h => by cases h), rfl, rowsB_s rw_X11_equalsOpens, (plainFor_of_name pl_29), Or.inl ⟨rfl, rfl, rfl⟩⟩
theorem rw_X11_open : rowsB 103883329 prog_30_method_15_code Om29 Ok29 Ol29 false 0 = true := by decide +kernel
theorem mt_X11_open {s0 : State} (hN : NCs s0) : MethOK s0 103883329 := ⟨Om29, Ok29, Ol29, false, 0, prog_30_method_15_code, none, [], ow29 hN, (fun h => by cases h), rfl, rowsB_s rw_X11_open, (plainFor_of_name pl_29), Or.inl ⟨rfl, rfl, rfl⟩⟩
theorem rw_X11_declarer : rowsB 104145474 prog_30_method_24_code Om29 Ok29 Ol29 false 5 = true := by decide +kernel
theorem mt_X11_declarer {s0 : State} (hN : NCs s0) : MethOK s0 104145474 := ⟨Om29, Ok29, Ol29, false, 5, prog_30_method_24_code, some (Jvm.ClassFile.FieldType.object "AlgolHouse$Mode"), [], ow29 hN, (fun h => by cases h), ⟨_, rfl, Or.inl ⟨_, rfl⟩⟩, rowsB_s rw_X11_declarer, (plainFor_of_name pl_29), Or.inl ⟨rfl, rfl, rfl⟩⟩
theorem rw_X11_declarer_2 : rowsB 104407619 prog_30_method_25_code Om29 Ok29 Ol29 false 5 = true := by decide +kernel
theorem mt_X11_declarer_2 {s0 : State} (hN : NCs s0) : MethOK s0 104407619 := ⟨Om29, Ok29, Ol29, false, 5, prog_30_method_25_code, some (Jvm.ClassFile.FieldType.object "AlgolHouse$Mode"), [], ow29 hN, (fun h => by cases h), ⟨_, rfl, Or.inl ⟨_, rfl⟩⟩, rowsB_s rw_X11_declarer_2, (plainFor_of_name pl_29), Or.inl ⟨rfl, rfl, rfl⟩⟩
theorem rw_X11_isModeTag : rowsB 104669762 prog_30_method_17_code Om29 Ok29 Ol29 false 2 = true := by decide +kernel
theorem mt_X11_isModeTag {s0 : State} (hN : NCs s0) : MethOK s0 104669762 := ⟨Om29, Ok29, Ol29, false, 2, prog_30_method_17_code, some Jvm.ClassFile.FieldType.boolean, [], ow29 hN, (fun h => by cases h), rfl, rowsB_s rw_X11_isModeTag, (plainFor_of_name pl_29), Or.inl ⟨rfl, rfl, rfl⟩⟩
theorem rw_X11_isMark : rowsB 104931906 prog_30_method_8_code Om29 Ok29 Ol29 false 2 = true := by decide +kernel
theorem mt_X11_isMark {s0 : State} (hN : NCs s0) : MethOK s0 104931906 := ⟨Om29, Ok29, Ol29, false, 2, prog_30_method_8_code, some Jvm.ClassFile.FieldType.boolean, [], ow29 hN, (fun h => by cases h), rfl, rowsB_s rw_X11_isMark, (plainFor_of_name pl_29), Or.inl ⟨rfl, rfl, rfl⟩⟩
theorem rw_X11_isMark_2 : rowsB 105194051 prog_30_method_7_code Om29 Ok29 Ol29 false 2 = true := by decide +kernel
theorem mt_X11_isMark_2 {s0 : State} (hN : NCs s0) : MethOK s0 105194051 := ⟨Om29, Ok29, Ol29, false, 2, prog_30_method_7_code, some Jvm.ClassFile.FieldType.boolean, [], ow29 hN, (fun h => by cases h), rfl, rowsB_s rw_X11_isMark_2, (plainFor_of_name pl_29), Or.inl ⟨rfl, rfl, rfl⟩⟩
theorem rw_X11_row : rowsB 105456194 prog_30_method_29_code Om29 Ok29 Ol29 false 5 = true := by decide +kernel
theorem mt_X11_row {s0 : State} (hN : NCs s0) : MethOK s0 105456194 := ⟨Om29, Ok29, Ol29, false, 5, prog_30_method_29_code, some (Jvm.ClassFile.FieldType.object "AlgolHouse$Mode"), [], ow29 hN, (fun h => by cases h), ⟨_, rfl, Or.inl ⟨_, rfl⟩⟩, rowsB_s rw_X11_row, (plainFor_of_name pl_29), Or.inl ⟨rfl, rfl, rfl⟩⟩
theorem rw_X11_unit : rowsB 105718337 prog_30_method_45_code Om29 Ok29 Ol29 false 5 = true := by decide +kernel
theorem mt_X11_unit {s0 : State} (hN : NCs s0) : MethOK s0 105718337 := ⟨Om29, Ok29, Ol29, false, 5, prog_30_method_45_code, some (Jvm.ClassFile.FieldType.object "AlgolHouse$Node"), [], ow29 hN, (fun h => by cases h), ⟨_, rfl, Or.inl ⟨_, rfl⟩⟩, rowsB_s rw_X11_unit, (plainFor_of_name pl_29), Or.inl ⟨rfl, rfl, rfl⟩⟩
theorem rw_X11_bracket : rowsB 105980482 prog_30_method_57_code Om29 Ok29 Ol29 false 5 = true := by decide +kernel
theorem mt_X11_bracket {s0 : State} (hN : NCs s0) : MethOK s0 105980482 := ⟨Om29, Ok29, Ol29, false, 5, prog_30_method_57_code, some (Jvm.ClassFile.FieldType.object "AlgolHouse$Node"), [], ow29 hN, (fun h => by cases h), ⟨_, rfl, Or.inl ⟨_, rfl⟩⟩, rowsB_s rw_X11_bracket, (plainFor_of_name pl_29), Or.inl ⟨rfl, rfl, rfl⟩⟩
theorem rw_X11_takes : rowsB 106242626 prog_30_method_9_code Om29 Ok29 Ol29 false 2 = true := by decide +kernel
theorem mt_X11_takes {s0 : State} (hN : NCs s0) : MethOK s0 106242626 := ⟨Om29, Ok29, Ol29, false, 2, prog_30_method_9_code, some Jvm.ClassFile.FieldType.boolean, [], ow29 hN, (fun h => by cases h), rfl, rowsB_s rw_X11_takes, (plainFor_of_name pl_29), Or.inl ⟨rfl, rfl, rfl⟩⟩
theorem rw_X11_close : rowsB 106504769 prog_30_method_16_code Om29 Ok29 Ol29 false 0 = true := by decide +kernel
theorem mt_X11_close {s0 : State} (hN : NCs s0) : MethOK s0 106504769 := ⟨Om29, Ok29, Ol29, false, 0, prog_30_method_16_code, none, [], ow29 hN, (fun h => by cases h), rfl, rowsB_s rw_X11_close, (plainFor_of_name pl_29), Or.inl ⟨rfl, rfl, rfl⟩⟩
theorem rw_X11_isDeclarer : rowsB 106766914 prog_30_method_23_code Om29 Ok29 Ol29 false 2 = true := by decide +kernel
theorem mt_X11_isDeclarer {s0 : State} (hN : NCs s0) : MethOK s0 106766914 := ⟨Om29, Ok29, Ol29, false, 2, prog_30_method_23_code, some Jvm.ClassFile.FieldType.boolean, [], ow29 hN, (fun h => by cases h), rfl, rowsB_s rw_X11_isDeclarer, (plainFor_of_name pl_29), Or.inl ⟨rfl, rfl, rfl⟩⟩
theorem rw_X11_parameters : rowsB 107029061 prog_30_method_59_code Om29 Ok29 Ol29 false 5 = true := by decide +kernel
theorem mt_X11_parameters {s0 : State} (hN : NCs s0) : MethOK s0 107029061 := ⟨Om29, Ok29, Ol29, false, 5, prog_30_method_59_code, some (Jvm.ClassFile.FieldType.object "AlgolHouse$Node"), [], ow29 hN, (fun h => by cases h), ⟨_, rfl, Or.inl ⟨_, rfl⟩⟩, rowsB_s rw_X11_parameters, (plainFor_of_name pl_29), Or.inl ⟨rfl, rfl, rfl⟩⟩
theorem rw_X11_parameter : rowsB 107291204 prog_30_method_41_code Om29 Ok29 Ol29 false 0 = true := by decide +kernel
theorem mt_X11_parameter {s0 : State} (hN : NCs s0) : MethOK s0 107291204 := ⟨Om29, Ok29, Ol29, false, 0, prog_30_method_41_code, none, [], ow29 hN, (fun h => by cases h), rfl, rowsB_s rw_X11_parameter, (plainFor_of_name pl_29), Or.inl ⟨rfl, rfl, rfl⟩⟩
theorem rw_X11_voidAt : rowsB 107553346 prog_30_method_42_code Om29 Ok29 Ol29 false 0 = true := by decide +kernel
theorem mt_X11_voidAt {s0 : State} (hN : NCs s0) : MethOK s0 107553346 := ⟨Om29, Ok29, Ol29, false, 0, prog_30_method_42_code, none, [], ow29 hN, (fun h => by cases h), rfl, rowsB_s rw_X11_voidAt, (plainFor_of_name pl_29), Or.inl ⟨rfl, rfl, rfl⟩⟩
theorem rw_X11_tag : rowsB 107815489 prog_30_method_14_code Om29 Ok29 Ol29 false 4 = true := by decide +kernel
theorem mt_X11_tag {s0 : State} (hN : NCs s0) : MethOK s0 107815489 := ⟨Om29, Ok29, Ol29, false, 4, prog_30_method_14_code, some Jvm.ClassFile.FieldType.long, [], ow29 hN, (fun h => by cases h), rfl, rowsB_s rw_X11_tag, (plainFor_of_name pl_29), Or.inl ⟨rfl, rfl, rfl⟩⟩
theorem rw_X11_mark : rowsB 108077634 prog_30_method_11_code Om29 Ok29 Ol29 false 0 = true := by decide +kernel
theorem mt_X11_mark {s0 : State} (hN : NCs s0) : MethOK s0 108077634 := ⟨Om29, Ok29, Ol29, false, 0, prog_30_method_11_code, none, [], ow29 hN, (fun h => by cases h), rfl, rowsB_s rw_X11_mark, (plainFor_of_name pl_29), Or.inl ⟨rfl, rfl, rfl⟩⟩
theorem rw_X11_body : rowsB 108339778 prog_30_method_43_code Om29 Ok29 Ol29 false 0 = true := by decide +kernel
theorem mt_X11_body {s0 : State} (hN : NCs s0) : MethOK s0 108339778 := ⟨Om29, Ok29, Ol29, false, 0, prog_30_method_43_code, none, [], ow29 hN, (fun h => by cases h), rfl, rowsB_s rw_X11_body, (plainFor_of_name pl_29), Or.inl ⟨rfl, rfl, rfl⟩⟩
theorem rw_X11_unitOf : rowsB 108601922 prog_30_method_44_code Om29 Ok29 Ol29 false 0 = true := by decide +kernel
theorem mt_X11_unitOf {s0 : State} (hN : NCs s0) : MethOK s0 108601922 := ⟨Om29, Ok29, Ol29, false, 0, prog_30_method_44_code, none, [], ow29 hN, (fun h => by cases h), rfl, rowsB_s rw_X11_unitOf, (plainFor_of_name pl_29), Or.inl ⟨rfl, rfl, rfl⟩⟩
theorem rw_X11_identity : rowsB 108864067 prog_30_method_35_code Om29 Ok29 Ol29 false 5 = true := by decide +kernel
theorem mt_X11_identity {s0 : State} (hN : NCs s0) : MethOK s0 108864067 := ⟨Om29, Ok29, Ol29, false, 5, prog_30_method_35_code, some (Jvm.ClassFile.FieldType.object "AlgolHouse$Node"), [], ow29 hN, (fun h => by cases h), ⟨_, rfl, Or.inl ⟨_, rfl⟩⟩, rowsB_s rw_X11_identity, (plainFor_of_name pl_29), Or.inl ⟨rfl, rfl, rfl⟩⟩
theorem rw_X11_unitFrom : rowsB 109126211 prog_30_method_46_code Om29 Ok29 Ol29 false 5 = true := by decide +kernel
theorem mt_X11_unitFrom {s0 : State} (hN : NCs s0) : MethOK s0 109126211 := ⟨Om29, Ok29, Ol29, false, 5, prog_30_method_46_code, some (Jvm.ClassFile.FieldType.object "AlgolHouse$Node"), [], ow29 hN, (fun h => by cases h), ⟨_, rfl, Or.inl ⟨_, rfl⟩⟩, rowsB_s rw_X11_unitFrom, (plainFor_of_name pl_29), Or.inl ⟨rfl, rfl, rfl⟩⟩
theorem rw_X11_cast : rowsB 109388355 prog_30_method_47_code Om29 Ok29 Ol29 false 5 = true := by decide +kernel
theorem mt_X11_cast {s0 : State} (hN : NCs s0) : MethOK s0 109388355 := ⟨Om29, Ok29, Ol29, false, 5, prog_30_method_47_code, some (Jvm.ClassFile.FieldType.object "AlgolHouse$Node"), [], ow29 hN, (fun h => by cases h), ⟨_, rfl, Or.inl ⟨_, rfl⟩⟩, rowsB_s rw_X11_cast, (plainFor_of_name pl_29), Or.inl ⟨rfl, rfl, rfl⟩⟩
theorem rw_X11_primaryBehind : rowsB 109650498 prog_30_method_54_code Om29 Ok29 Ol29 false 5 = true := by decide +kernel
theorem mt_X11_primaryBehind {s0 : State} (hN : NCs s0) : MethOK s0 109650498 := ⟨Om29, Ok29, Ol29, false, 5, prog_30_method_54_code, some (Jvm.ClassFile.FieldType.object "AlgolHouse$Node"), [], ow29 hN, (fun h => by cases h), ⟨_, rfl, Or.inl ⟨_, rfl⟩⟩, rowsB_s rw_X11_primaryBehind, (plainFor_of_name pl_29), Or.inl ⟨rfl, rfl, rfl⟩⟩
theorem rw_X11_units : rowsB 109912643 prog_30_method_55_code Om29 Ok29 Ol29 false 0 = true := by decide +kernel
theorem mt_X11_units {s0 : State} (hN : NCs s0) : MethOK s0 109912643 := ⟨Om29, Ok29, Ol29, false, 0, prog_30_method_55_code, none, [], ow29 hN, (fun h => by cases h), rfl, rowsB_s rw_X11_units, (plainFor_of_name pl_29), Or.inl ⟨rfl, rfl, rfl⟩⟩
theorem rw_X11_tertiaryBehind : rowsB 110174786 prog_30_method_50_code Om29 Ok29 Ol29 false 5 = true := by decide +kernel
theorem mt_X11_tertiaryBehind {s0 : State} (hN : NCs s0) : MethOK s0 110174786 := ⟨Om29, Ok29, Ol29, false, 5, prog_30_method_50_code, some (Jvm.ClassFile.FieldType.object "AlgolHouse$Node"), [], ow29 hN, (fun h => by cases h), ⟨_, rfl, Or.inl ⟨_, rfl⟩⟩, rowsB_s rw_X11_tertiaryBehind, (plainFor_of_name pl_29), Or.inl ⟨rfl, rfl, rfl⟩⟩
theorem rw_X11_isDyadic : rowsB 110436930 prog_30_method_22_code Om29 Ok29 Ol29 false 2 = true := by decide +kernel
theorem mt_X11_isDyadic {s0 : State} (hN : NCs s0) : MethOK s0 110436930 := ⟨Om29, Ok29, Ol29, false, 2, prog_30_method_22_code, some Jvm.ClassFile.FieldType.boolean, [], ow29 hN, (fun h => by cases h), rfl, rowsB_s rw_X11_isDyadic, (plainFor_of_name pl_29), Or.inl ⟨rfl, rfl, rfl⟩⟩
theorem rw_X11_isOperation : rowsB 110699074 prog_30_method_19_code Om29 Ok29 Ol29 false 2 = true := by decide +kernel
theorem mt_X11_isOperation {s0 : State} (hN : NCs s0) : MethOK s0 110699074 := ⟨Om29, Ok29, Ol29, false, 2, prog_30_method_19_code, some Jvm.ClassFile.FieldType.boolean, [], ow29 hN, (fun h => by cases h), rfl, rowsB_s rw_X11_isOperation, (plainFor_of_name pl_29), Or.inl ⟨rfl, rfl, rfl⟩⟩
theorem rw_X11_priority : rowsB 110961218 prog_30_method_18_code Om29 Ok29 Ol29 false 1 = true := by decide +kernel
theorem mt_X11_priority {s0 : State} (hN : NCs s0) : MethOK s0 110961218 := ⟨Om29, Ok29, Ol29, false, 1, prog_30_method_18_code, some Jvm.ClassFile.FieldType.int, [], ow29 hN, (fun h => by cases h), rfl, rowsB_s rw_X11_priority, (plainFor_of_name pl_29), Or.inl ⟨rfl, rfl, rfl⟩⟩
theorem rw_X11_join : rowsB 111223363 prog_30_method_51_code Om29 Ok29 Ol29 false 0 = true := by decide +kernel
theorem mt_X11_join {s0 : State} (hN : NCs s0) : MethOK s0 111223363 := ⟨Om29, Ok29, Ol29, false, 0, prog_30_method_51_code, none, [], ow29 hN, (fun h => by cases h), rfl, rowsB_s rw_X11_join, (plainFor_of_name pl_29), Or.inl ⟨rfl, rfl, rfl⟩⟩
theorem rw_X11_sign : rowsB 111485506 prog_30_method_20_code Om29 Ok29 Ol29 false 4 = true := by decide +kernel
theorem mt_X11_sign {s0 : State} (hN : NCs s0) : MethOK s0 111485506 := ⟨Om29, Ok29, Ol29, false, 4, prog_30_method_20_code, some Jvm.ClassFile.FieldType.long, [], ow29 hN, (fun h => by cases h), rfl, rowsB_s rw_X11_sign, (plainFor_of_name pl_29), Or.inl ⟨rfl, rfl, rfl⟩⟩
theorem rw_X11_operand : rowsB 111747649 prog_30_method_52_code Om29 Ok29 Ol29 false 5 = true := by decide +kernel
theorem mt_X11_operand {s0 : State} (hN : NCs s0) : MethOK s0 111747649 := ⟨Om29, Ok29, Ol29, false, 5, prog_30_method_52_code, some (Jvm.ClassFile.FieldType.object "AlgolHouse$Node"), [], ow29 hN, (fun h => by cases h), ⟨_, rfl, Or.inl ⟨_, rfl⟩⟩, rowsB_s rw_X11_operand, (plainFor_of_name pl_29), Or.inl ⟨rfl, rfl, rfl⟩⟩
theorem rw_X11_isMonadic : rowsB 112009794 prog_30_method_21_code Om29 Ok29 Ol29 false 2 = true := by decide +kernel
theorem mt_X11_isMonadic {s0 : State} (hN : NCs s0) : MethOK s0 112009794 := ⟨Om29, Ok29, Ol29, false, 2, prog_30_method_21_code, some Jvm.ClassFile.FieldType.boolean, [], ow29 hN, (fun h => by cases h), rfl, rowsB_s rw_X11_isMonadic, (plainFor_of_name pl_29), Or.inl ⟨rfl, rfl, rfl⟩⟩
theorem rw_X11_secondary : rowsB 112271937 prog_30_method_53_code Om29 Ok29 Ol29 false 5 = true := by decide +kernel
theorem mt_X11_secondary {s0 : State} (hN : NCs s0) : MethOK s0 112271937 := ⟨Om29, Ok29, Ol29, false, 5, prog_30_method_53_code, some (Jvm.ClassFile.FieldType.object "AlgolHouse$Node"), [], ow29 hN, (fun h => by cases h), ⟨_, rfl, Or.inl ⟨_, rfl⟩⟩, rowsB_s rw_X11_secondary, (plainFor_of_name pl_29), Or.inl ⟨rfl, rfl, rfl⟩⟩
theorem rw_X11_generated : rowsB 112534081 prog_30_method_30_code Om29 Ok29 Ol29 false 5 = true := by decide +kernel
theorem mt_X11_generated {s0 : State} (hN : NCs s0) : MethOK s0 112534081 := ⟨Om29, Ok29, Ol29, false, 5, prog_30_method_30_code, some (Jvm.ClassFile.FieldType.object "AlgolHouse$Mode"), [], ow29 hN, (fun h => by cases h), ⟨_, rfl, Or.inl ⟨_, rfl⟩⟩, rowsB_s rw_X11_generated, (plainFor_of_name pl_29), Or.inl ⟨rfl, rfl, rfl⟩⟩
theorem rw_X11_base : rowsB 112796225 prog_30_method_56_code Om29 Ok29 Ol29 false 5 = true := by decide +kernel
theorem mt_X11_base {s0 : State} (hN : NCs s0) : MethOK s0 112796225 := ⟨Om29, Ok29, Ol29, false, 5, prog_30_method_56_code, some (Jvm.ClassFile.FieldType.object "AlgolHouse$Node"), [], ow29 hN, (fun h => by cases h), ⟨_, rfl, Or.inl ⟨_, rfl⟩⟩, rowsB_s rw_X11_base, (plainFor_of_name pl_29), Or.inl ⟨rfl, rfl, rfl⟩⟩
theorem rw_X11_takesWord : rowsB 113058370 prog_30_method_10_code Om29 Ok29 Ol29 false 2 = true := by decide +kernel
theorem mt_X11_takesWord {s0 : State} (hN : NCs s0) : MethOK s0 113058370 := ⟨Om29, Ok29, Ol29, false, 2, prog_30_method_10_code, some Jvm.ClassFile.FieldType.boolean, [], ow29 hN, (fun h => by cases h), rfl, rowsB_s rw_X11_takesWord, (plainFor_of_name pl_29), Or.inl ⟨rfl, rfl, rfl⟩⟩
theorem rw_X11_word : rowsB 113320514 prog_30_method_12_code Om29 Ok29 Ol29 false 0 = true := by decide +kernel
theorem mt_X11_word {s0 : State} (hN : NCs s0) : MethOK s0 113320514 := ⟨Om29, Ok29, Ol29, false, 0, prog_30_method_12_code, none, [], ow29 hN, (fun h => by cases h), rfl, rowsB_s rw_X11_word, (plainFor_of_name pl_29), Or.inl ⟨rfl, rfl, rfl⟩⟩
theorem rw_X11_choice : rowsB 113582658 prog_30_method_60_code Om29 Ok29 Ol29 false 5 = true := by decide +kernel
theorem mt_X11_choice {s0 : State} (hN : NCs s0) : MethOK s0 113582658 := ⟨Om29, Ok29, Ol29, false, 5, prog_30_method_60_code, some (Jvm.ClassFile.FieldType.object "AlgolHouse$Node"), [], ow29 hN, (fun h => by cases h), ⟨_, rfl, Or.inl ⟨_, rfl⟩⟩, rowsB_s rw_X11_choice, (plainFor_of_name pl_29), Or.inl ⟨rfl, rfl, rfl⟩⟩
theorem rw_X11_choices : rowsB 113844802 prog_30_method_61_code Om29 Ok29 Ol29 false 5 = true := by decide +kernel
theorem mt_X11_choices {s0 : State} (hN : NCs s0) : MethOK s0 113844802 := ⟨Om29, Ok29, Ol29, false, 5, prog_30_method_61_code, some (Jvm.ClassFile.FieldType.object "AlgolHouse$Node"), [], ow29 hN, (fun h => by cases h), ⟨_, rfl, Or.inl ⟨_, rfl⟩⟩, rowsB_s rw_X11_choices, (plainFor_of_name pl_29), Or.inl ⟨rfl, rfl, rfl⟩⟩
theorem rw_X11_when : rowsB 114106946 prog_30_method_62_code Om29 Ok29 Ol29 false 0 = true := by decide +kernel
theorem mt_X11_when {s0 : State} (hN : NCs s0) : MethOK s0 114106946 := ⟨Om29, Ok29, Ol29, false, 0, prog_30_method_62_code, none, [], ow29 hN, (fun h => by cases h), rfl, rowsB_s rw_X11_when, (plainFor_of_name pl_29), Or.inl ⟨rfl, rfl, rfl⟩⟩
theorem rw_X11_loop : rowsB 114369090 prog_30_method_63_code Om29 Ok29 Ol29 false 5 = true := by decide +kernel
theorem mt_X11_loop {s0 : State} (hN : NCs s0) : MethOK s0 114369090 := ⟨Om29, Ok29, Ol29, false, 5, prog_30_method_63_code, some (Jvm.ClassFile.FieldType.object "AlgolHouse$Node"), [], ow29 hN, (fun h => by cases h), ⟨_, rfl, Or.inl ⟨_, rfl⟩⟩, rowsB_s rw_X11_loop, (plainFor_of_name pl_29), Or.inl ⟨rfl, rfl, rfl⟩⟩
theorem rw_X11_loopPart : rowsB 114631235 prog_30_method_64_code Om29 Ok29 Ol29 false 1 = true := by decide +kernel
theorem mt_X11_loopPart {s0 : State} (hN : NCs s0) : MethOK s0 114631235 := ⟨Om29, Ok29, Ol29, false, 1, prog_30_method_64_code, some Jvm.ClassFile.FieldType.int, [], ow29 hN, (fun h => by cases h), rfl, rowsB_s rw_X11_loopPart, (plainFor_of_name pl_29), Or.inl ⟨rfl, rfl, rfl⟩⟩
theorem rw_X11_unitBehind : rowsB 114893378 prog_30_method_48_code Om29 Ok29 Ol29 false 5 = true := by decide +kernel
theorem mt_X11_unitBehind {s0 : State} (hN : NCs s0) : MethOK s0 114893378 := ⟨Om29, Ok29, Ol29, false, 5, prog_30_method_48_code, some (Jvm.ClassFile.FieldType.object "AlgolHouse$Node"), [], ow29 hN, (fun h => by cases h), ⟨_, rfl, Or.inl ⟨_, rfl⟩⟩, rowsB_s rw_X11_unitBehind, (plainFor_of_name pl_29), Or.inl ⟨rfl, rfl, rfl⟩⟩
theorem rw_X11_tertiary : rowsB 115155521 prog_30_method_49_code Om29 Ok29 Ol29 false 5 = true := by decide +kernel
theorem mt_X11_tertiary {s0 : State} (hN : NCs s0) : MethOK s0 115155521 := ⟨Om29, Ok29, Ol29, false, 5, prog_30_method_49_code, some (Jvm.ClassFile.FieldType.object "AlgolHouse$Node"), [], ow29 hN, (fun h => by cases h), ⟨_, rfl, Or.inl ⟨_, rfl⟩⟩, rowsB_s rw_X11_tertiary, (plainFor_of_name pl_29), Or.inl ⟨rfl, rfl, rfl⟩⟩
theorem rw_X11_display : rowsB 115417667 prog_30_method_58_code Om29 Ok29 Ol29 false 5 = true := by decide +kernel
theorem mt_X11_display {s0 : State} (hN : NCs s0) : MethOK s0 115417667 := ⟨Om29, Ok29, Ol29, false, 5, prog_30_method_58_code, some (Jvm.ClassFile.FieldType.object "AlgolHouse$Node"), [], ow29 hN, (fun h => by cases h), ⟨_, rfl, Or.inl ⟨_, rfl⟩⟩, rowsB_s rw_X11_display, (plainFor_of_name pl_29), Or.inl ⟨rfl, rfl, rfl⟩⟩
theorem rw_X11_procedure : rowsB 115679809 prog_30_method_27_code Om29 Ok29 Ol29 false 5 = true := by decide +kernel
theorem mt_X11_procedure {s0 : State} (hN : NCs s0) : MethOK s0 115679809 := ⟨Om29, Ok29, Ol29, false, 5, prog_30_method_27_code, some (Jvm.ClassFile.FieldType.object "AlgolHouse$Mode"), [], ow29 hN, (fun h => by cases h), ⟨_, rfl, Or.inl ⟨_, rfl⟩⟩, rowsB_s rw_X11_procedure, (plainFor_of_name pl_29), Or.inl ⟨rfl, rfl, rfl⟩⟩
theorem rw_X11_declarers : rowsB 115941954 prog_30_method_26_code Om29 Ok29 Ol29 false 0 = true := by decide +kernel
theorem mt_X11_declarers {s0 : State} (hN : NCs s0) : MethOK s0 115941954 := ⟨Om29, Ok29, Ol29, false, 0, prog_30_method_26_code, none, [], ow29 hN, (fun h => by cases h), rfl, rowsB_s rw_X11_declarers, (plainFor_of_name pl_29), Or.inl ⟨rfl, rfl, rfl⟩⟩
theorem rw_X11_structure : rowsB 116204097 prog_30_method_28_code Om29 Ok29 Ol29 false 5 = true := by decide +kernel
theorem mt_X11_structure {s0 : State} (hN : NCs s0) : MethOK s0 116204097 := ⟨Om29, Ok29, Ol29, false, 5, prog_30_method_28_code, some (Jvm.ClassFile.FieldType.object "AlgolHouse$Mode"), [], ow29 hN, (fun h => by cases h), ⟨_, rfl, Or.inl ⟨_, rfl⟩⟩, rowsB_s rw_X11_structure, (plainFor_of_name pl_29), Or.inl ⟨rfl, rfl, rfl⟩⟩
theorem rw_X11_prioDeclared : rowsB 116466241 prog_30_method_38_code Om29 Ok29 Ol29 false 2 = true := by decide +kernel
theorem mt_X11_prioDeclared {s0 : State} (hN : NCs s0) : MethOK s0 116466241 := ⟨Om29, Ok29, Ol29, false, 2, prog_30_method_38_code, some Jvm.ClassFile.FieldType.boolean, [], ow29 hN, (fun h => by cases h), rfl, rowsB_s rw_X11_prioDeclared, (plainFor_of_name pl_29), Or.inl ⟨rfl, rfl, rfl⟩⟩
theorem rw_X11_operation : rowsB 116728385 prog_30_method_39_code Om29 Ok29 Ol29 false 5 = true := by decide +kernel
theorem mt_X11_operation {s0 : State} (hN : NCs s0) : MethOK s0 116728385 := ⟨Om29, Ok29, Ol29, false, 5, prog_30_method_39_code, some (Jvm.ClassFile.FieldType.object "AlgolHouse$Node"), [], ow29 hN, (fun h => by cases h), ⟨_, rfl, Or.inl ⟨_, rfl⟩⟩, rowsB_s rw_X11_operation, (plainFor_of_name pl_29), Or.inl ⟨rfl, rfl, rfl⟩⟩
theorem rw_X11_named : rowsB 116990530 prog_30_method_40_code Om29 Ok29 Ol29 false 2 = true := by decide +kernel
theorem mt_X11_named {s0 : State} (hN : NCs s0) : MethOK s0 116990530 := ⟨Om29, Ok29, Ol29, false, 2, prog_30_method_40_code, some Jvm.ClassFile.FieldType.boolean, [], ow29 hN, (fun h => by cases h), rfl, rowsB_s rw_X11_named, (plainFor_of_name pl_29), Or.inl ⟨rfl, rfl, rfl⟩⟩
theorem rw_X11_settle : rowsB 117252673 prog_30_method_65_code Om29 Ok29 Ol29 false 0 = true := by decide +kernel
theorem mt_X11_settle {s0 : State} (hN : NCs s0) : MethOK s0 117252673 := ⟨Om29, Ok29, Ol29, false, 0, prog_30_method_65_code, none, [], ow29 hN, (fun h => by cases h), rfl, rowsB_s rw_X11_settle, (plainFor_of_name pl_29), Or.inl ⟨rfl, rfl, rfl⟩⟩
theorem rw_X11_declared : rowsB 117514818 prog_30_method_66_code Om29 Ok29 Ol29 false 1 = true := by decide +kernel
theorem mt_X11_declared {s0 : State} (hN : NCs s0) : MethOK s0 117514818 := ⟨Om29, Ok29, Ol29, false, 1, prog_30_method_66_code, some Jvm.ClassFile.FieldType.int, [], ow29 hN, (fun h => by cases h), rfl, rowsB_s rw_X11_declared, (plainFor_of_name pl_29), Or.inl ⟨rfl, rfl, rfl⟩⟩
theorem rw_X11_comesBack : rowsB 117776965 prog_30_method_67_code Om29 Ok29 Ol29 false 2 = true := by decide +kernel
theorem mt_X11_comesBack {s0 : State} (hN : NCs s0) : MethOK s0 117776965 := ⟨Om29, Ok29, Ol29, false, 2, prog_30_method_67_code, some Jvm.ClassFile.FieldType.boolean, [], ow29 hN, (fun h => by cases h), rfl, rowsB_s rw_X11_comesBack, (plainFor_of_name pl_29), Or.inl ⟨rfl, rfl, rfl⟩⟩
theorem rw_X12_init : rowsB 118034610 prog_26_method_1_code Om25 Ok25 Ol25 true 0 = true := by decide +kernel
theorem mt_X12_init {s0 : State} (hN : NCs s0) : MethOK s0 118034610 := ⟨Om25, Ok25, Ol25, true, 0, prog_26_method_1_code, none, [], ow25 hN, fun _ => rfl, rfl, rowsB_s rw_X12_init, (plainFor_of_name pl_25), Or.inl ⟨rfl, rfl, rfl⟩⟩
theorem rw_X12_with : rowsB 118296754 prog_26_method_3_code Om25 Ok25 Ol25 false 5 = true := by decide +kernel
theorem mt_X12_with {s0 : State} (hN : NCs s0) : MethOK s0 118296754 := ⟨Om25, Ok25, Ol25, false, 5, prog_26_method_3_code, some (Jvm.ClassFile.FieldType.object "AlgolHouse$Node"), [], ow25 hN, (fun h => by cases h), ⟨_, rfl, Or.inl ⟨_, rfl⟩⟩, rowsB_s rw_X12_with, (plainFor_of_name pl_25), Or.inl ⟨rfl, rfl, rfl⟩⟩
theorem rw_X12_part : rowsB 118558898 prog_26_method_4_code Om25 Ok25 Ol25 false 5 = true := by decide +kernel
theorem mt_X12_part {s0 : State} (hN : NCs s0) : MethOK s0 118558898 := ⟨Om25, Ok25, Ol25, false, 5, prog_26_method_4_code, some (Jvm.ClassFile.FieldType.object "AlgolHouse$Node"), [], ow25 hN, (fun h => by cases h), ⟨_, rfl, Or.inl ⟨_, rfl⟩⟩, rowsB_s rw_X12_part, (plainFor_of_name pl_25), Or.inl ⟨rfl, rfl, rfl⟩⟩
theorem rw_X12_enter : rowsB 118821042 prog_26_method_6_code Om25 Ok25 Ol25 false 0 = true := by decide +kernel
theorem mt_X12_enter {s0 : State} (hN : NCs s0) : MethOK s0 118821042 := ⟨Om25, Ok25, Ol25, false, 0, prog_26_method_6_code, none, [], ow25 hN, (fun h => by cases h), rfl, rowsB_s rw_X12_enter, (plainFor_of_name pl_25), Or.inl ⟨rfl, rfl, rfl⟩⟩
theorem rw_X12_ends : rowsB 119083185 prog_26_method_10_code Om25 Ok25 Ol25 false 1 = true := by decide +kernel
theorem mt_X12_ends {s0 : State} (hN : NCs s0) : MethOK s0 119083185 := ⟨Om25, Ok25, Ol25, false, 1, prog_26_method_10_code, some Jvm.ClassFile.FieldType.int, [], ow25 hN, (fun h => by cases h), rfl, rowsB_s rw_X12_ends, (plainFor_of_name pl_25), Or.inl ⟨rfl, rfl, rfl⟩⟩
theorem rw_X12_end : rowsB 119345330 prog_26_method_11_code Om25 Ok25 Ol25 false 5 = true := by decide +kernel
theorem mt_X12_end {s0 : State} (hN : NCs s0) : MethOK s0 119345330 := ⟨Om25, Ok25, Ol25, false, 5, prog_26_method_11_code, some (Jvm.ClassFile.FieldType.object "AlgolHouse$Node"), [], ow25 hN, (fun h => by cases h), ⟨_, rfl, Or.inl ⟨_, rfl⟩⟩, rowsB_s rw_X12_end, (plainFor_of_name pl_25), Or.inl ⟨rfl, rfl, rfl⟩⟩
theorem rw_X12_comes : rowsB 119607475 prog_26_method_12_code Om25 Ok25 Ol25 false 0 = true := by decide +kernel
theorem mt_X12_comes {s0 : State} (hN : NCs s0) : MethOK s0 119607475 := ⟨Om25, Ok25, Ol25, false, 0, prog_26_method_12_code, none, [], ow25 hN, (fun h => by cases h), rfl, rowsB_s rw_X12_comes, (plainFor_of_name pl_25), Or.inl ⟨rfl, rfl, rfl⟩⟩
theorem rw_X12_keep : rowsB 119869618 prog_26_method_13_code Om25 Ok25 Ol25 false 0 = true := by decide +kernel
theorem mt_X12_keep {s0 : State} (hN : NCs s0) : MethOK s0 119869618 := ⟨Om25, Ok25, Ol25, false, 0, prog_26_method_13_code, none, [], ow25 hN, (fun h => by cases h), rfl, rowsB_s rw_X12_keep, (plainFor_of_name pl_25), Or.inl ⟨rfl, rfl, rfl⟩⟩
theorem rw_X12_behind : rowsB 120131763 prog_26_method_8_code Om25 Ok25 Ol25 false 0 = true := by decide +kernel
theorem mt_X12_behind {s0 : State} (hN : NCs s0) : MethOK s0 120131763 := ⟨Om25, Ok25, Ol25, false, 0, prog_26_method_8_code, none, [], ow25 hN, (fun h => by cases h), rfl, rowsB_s rw_X12_behind, (plainFor_of_name pl_25), Or.inl ⟨rfl, rfl, rfl⟩⟩
theorem rw_X12_judged : rowsB 120393906 prog_26_method_9_code Om25 Ok25 Ol25 false 0 = true := by decide +kernel
theorem mt_X12_judged {s0 : State} (hN : NCs s0) : MethOK s0 120393906 := ⟨Om25, Ok25, Ol25, false, 0, prog_26_method_9_code, none, [], ow25 hN, (fun h => by cases h), rfl, rowsB_s rw_X12_judged, (plainFor_of_name pl_25), Or.inl ⟨rfl, rfl, rfl⟩⟩
theorem rw_X12_before : rowsB 120656051 prog_26_method_7_code Om25 Ok25 Ol25 false 0 = true := by decide +kernel
theorem mt_X12_before {s0 : State} (hN : NCs s0) : MethOK s0 120656051 := ⟨Om25, Ok25, Ol25, false, 0, prog_26_method_7_code, none, [], ow25 hN, (fun h => by cases h), rfl, rowsB_s rw_X12_before, (plainFor_of_name pl_25), Or.inl ⟨rfl, rfl, rfl⟩⟩
theorem rw_X12_steps : rowsB 120918193 prog_26_method_5_code Om25 Ok25 Ol25 false 1 = true := by decide +kernel
theorem mt_X12_steps {s0 : State} (hN : NCs s0) : MethOK s0 120918193 := ⟨Om25, Ok25, Ol25, false, 1, prog_26_method_5_code, some Jvm.ClassFile.FieldType.int, [], ow25 hN, (fun h => by cases h), rfl, rowsB_s rw_X12_steps, (plainFor_of_name pl_25), Or.inl ⟨rfl, rfl, rfl⟩⟩
theorem rw_X13_init : rowsB 121155890 prog_10_method_1_code Om9 Ok9 Ol9 true 0 = true := by decide +kernel
theorem mt_X13_init {s0 : State} (hN : NCs s0) : MethOK s0 121155890 := ⟨Om9, Ok9, Ol9, true, 0, prog_10_method_1_code, none, [], ow9 hN, fun _ => rfl, rfl, rowsB_s rw_X13_init, (plainFor_of_name pl_9), Or.inl ⟨rfl, rfl, rfl⟩⟩
theorem rw_X13_judged : rowsB 121418034 prog_10_method_2_code Om9 Ok9 Ol9 false 0 = true := by decide +kernel
theorem mt_X13_judged {s0 : State} (hN : NCs s0) : MethOK s0 121418034 := ⟨Om9, Ok9, Ol9, false, 0, prog_10_method_2_code, none, [], ow9 hN, (fun h => by cases h), rfl, rowsB_s rw_X13_judged, (plainFor_of_name pl_9), Or.inl ⟨rfl, rfl, rfl⟩⟩
theorem rw_X13_closed : rowsB 121680178 prog_10_method_3_code Om9 Ok9 Ol9 false 0 = true := by decide +kernel
theorem mt_X13_closed {s0 : State} (hN : NCs s0) : MethOK s0 121680178 := ⟨Om9, Ok9, Ol9, false, 0, prog_10_method_3_code, none, [], ow9 hN, (fun h => by cases h), rfl, rowsB_s rw_X13_closed, (plainFor_of_name pl_9), Or.inl ⟨rfl, rfl, rfl⟩⟩
theorem rw_X14_init : rowsB 121940306 prog_40_method_1_code Om39 Ok39 Ol39 true 0 = true := by decide +kernel
theorem mt_X14_init {s0 : State} (hN : NCs s0) : MethOK s0 121940306 := ⟨Om39, Ok39, Ol39, true, 0, prog_40_method_1_code, none, [], ow39 hN, fun _ => rfl, rfl, rowsB_s rw_X14_init, (plainFor_of_name pl_39), Or.inl ⟨rfl, rfl, rfl⟩⟩
theorem rw_X14_enter : rowsB 122202450 prog_40_method_5_code Om39 Ok39 Ol39 false 0 = true := by decide +kernel
theorem mt_X14_enter {s0 : State} (hN : NCs s0) : MethOK s0 122202450 := ⟨Om39, Ok39, Ol39, false, 0, prog_40_method_5_code, none, [], ow39 hN, (fun h => by cases h), rfl, rowsB_s rw_X14_enter, (plainFor_of_name pl_39), Or.inl ⟨rfl, rfl, rfl⟩⟩
theorem rw_X14_ends : rowsB 122464593 prog_40_method_3_code Om39 Ok39 Ol39 false 1 = true := by decide +kernel
theorem mt_X14_ends {s0 : State} (hN : NCs s0) : MethOK s0 122464593 := ⟨Om39, Ok39, Ol39, false, 1, prog_40_method_3_code, some Jvm.ClassFile.FieldType.int, [], ow39 hN, (fun h => by cases h), rfl, rowsB_s rw_X14_ends, (plainFor_of_name pl_39), Or.inl ⟨rfl, rfl, rfl⟩⟩
theorem rw_X14_end : rowsB 122726738 prog_40_method_4_code Om39 Ok39 Ol39 false 5 = true := by decide +kernel
theorem mt_X14_end {s0 : State} (hN : NCs s0) : MethOK s0 122726738 := ⟨Om39, Ok39, Ol39, false, 5, prog_40_method_4_code, some (Jvm.ClassFile.FieldType.object "AlgolHouse$Node"), [], ow39 hN, (fun h => by cases h), ⟨_, rfl, Or.inl ⟨_, rfl⟩⟩, rowsB_s rw_X14_end, (plainFor_of_name pl_39), Or.inl ⟨rfl, rfl, rfl⟩⟩
theorem rw_X14_behind : rowsB 122988883 prog_40_method_6_code Om39 Ok39 Ol39 false 0 = true := by decide +kernel
theorem mt_X14_behind {s0 : State} (hN : NCs s0) : MethOK s0 122988883 := ⟨Om39, Ok39, Ol39, false, 0, prog_40_method_6_code, none, [], ow39 hN, (fun h => by cases h), rfl, rowsB_s rw_X14_behind, (plainFor_of_name pl_39), Or.inl ⟨rfl, rfl, rfl⟩⟩
theorem rw_X14_closed : rowsB 123251026 prog_40_method_7_code Om39 Ok39 Ol39 false 0 = true := by decide +kernel
theorem mt_X14_closed {s0 : State} (hN : NCs s0) : MethOK s0 123251026 := ⟨Om39, Ok39, Ol39, false, 0, prog_40_method_7_code, none, [], ow39 hN, (fun h => by cases h), rfl, rowsB_s rw_X14_closed, (plainFor_of_name pl_39), Or.inl ⟨rfl, rfl, rfl⟩⟩
theorem rw_X14_kind : rowsB 123513169 prog_40_method_2_code Om39 Ok39 Ol39 false 1 = true := by decide +kernel
theorem mt_X14_kind {s0 : State} (hN : NCs s0) : MethOK s0 123513169 := ⟨Om39, Ok39, Ol39, false, 1, prog_40_method_2_code, some Jvm.ClassFile.FieldType.int, [], ow39 hN, (fun h => by cases h), rfl, rowsB_s rw_X14_kind, (plainFor_of_name pl_39), Or.inl ⟨rfl, rfl, rfl⟩⟩
theorem rw_X14_work : rowsB 123775315 prog_40_method_8_code Om39 Ok39 Ol39 false 0 = true := by decide +kernel
theorem mt_X14_work {s0 : State} (hN : NCs s0) : MethOK s0 123775315 := ⟨Om39, Ok39, Ol39, false, 0, prog_40_method_8_code, none, [], ow39 hN, (fun h => by cases h), rfl, rowsB_s rw_X14_work, (plainFor_of_name pl_39), Or.inl ⟨rfl, rfl, rfl⟩⟩
theorem rw_X15_init : rowsB 124060162 prog_41_method_1_code Om40 Ok40 Ol40 true 0 = true := by decide +kernel
theorem mt_X15_init {s0 : State} (hN : NCs s0) : MethOK s0 124060162 := ⟨Om40, Ok40, Ol40, true, 0, prog_41_method_1_code, none, [], ow40 hN, fun _ => rfl, rfl, rowsB_s rw_X15_init, (plainFor_of_name pl_40), Or.inl ⟨rfl, rfl, rfl⟩⟩
theorem rw_X15_comes : rowsB 124322307 prog_41_method_3_code Om40 Ok40 Ol40 false 0 = true := by decide +kernel
theorem mt_X15_comes {s0 : State} (hN : NCs s0) : MethOK s0 124322307 := ⟨Om40, Ok40, Ol40, false, 0, prog_41_method_3_code, none, [], ow40 hN, (fun h => by cases h), rfl, rowsB_s rw_X15_comes, (plainFor_of_name pl_40), Or.inl ⟨rfl, rfl, rfl⟩⟩
theorem rw_X15_kind : rowsB 124584449 prog_41_method_2_code Om40 Ok40 Ol40 false 1 = true := by decide +kernel
theorem mt_X15_kind {s0 : State} (hN : NCs s0) : MethOK s0 124584449 := ⟨Om40, Ok40, Ol40, false, 1, prog_41_method_2_code, some Jvm.ClassFile.FieldType.int, [], ow40 hN, (fun h => by cases h), rfl, rowsB_s rw_X15_kind, (plainFor_of_name pl_40), Or.inl ⟨rfl, rfl, rfl⟩⟩
theorem rw_X15_work : rowsB 124846595 prog_41_method_4_code Om40 Ok40 Ol40 false 0 = true := by decide +kernel
theorem mt_X15_work {s0 : State} (hN : NCs s0) : MethOK s0 124846595 := ⟨Om40, Ok40, Ol40, false, 0, prog_41_method_4_code, none, [], ow40 hN, (fun h => by cases h), rfl, rowsB_s rw_X15_work, (plainFor_of_name pl_40), Or.inl ⟨rfl, rfl, rfl⟩⟩
theorem rw_X16_init : rowsB 125077778 prog_8_method_1_code Om7 Ok7 Ol7 true 0 = true := by decide +kernel
theorem mt_X16_init {s0 : State} (hN : NCs s0) : MethOK s0 125077778 := ⟨Om7, Ok7, Ol7, true, 0, prog_8_method_1_code, none, [], ow7 hN, fun _ => rfl, rfl, rowsB_s rw_X16_init, (plainFor_of_name pl_7), Or.inl ⟨rfl, rfl, rfl⟩⟩
theorem rw_X16_comes : rowsB 125339923 prog_8_method_3_code Om7 Ok7 Ol7 false 0 = true := by decide +kernel
theorem mt_X16_comes {s0 : State} (hN : NCs s0) : MethOK s0 125339923 := ⟨Om7, Ok7, Ol7, false, 0, prog_8_method_3_code, none, [], ow7 hN, (fun h => by cases h), rfl, rowsB_s rw_X16_comes, (plainFor_of_name pl_7), Or.inl ⟨rfl, rfl, rfl⟩⟩
theorem rw_X16_kind : rowsB 125602065 prog_8_method_2_code Om7 Ok7 Ol7 false 1 = true := by decide +kernel
theorem mt_X16_kind {s0 : State} (hN : NCs s0) : MethOK s0 125602065 := ⟨Om7, Ok7, Ol7, false, 1, prog_8_method_2_code, some Jvm.ClassFile.FieldType.int, [], ow7 hN, (fun h => by cases h), rfl, rowsB_s rw_X16_kind, (plainFor_of_name pl_7), Or.inl ⟨rfl, rfl, rfl⟩⟩
theorem rw_X16_work : rowsB 125864211 prog_8_method_4_code Om7 Ok7 Ol7 false 0 = true := by decide +kernel
theorem mt_X16_work {s0 : State} (hN : NCs s0) : MethOK s0 125864211 := ⟨Om7, Ok7, Ol7, false, 0, prog_8_method_4_code, none, [], ow7 hN, (fun h => by cases h), rfl, rowsB_s rw_X16_work, (plainFor_of_name pl_7), Or.inl ⟨rfl, rfl, rfl⟩⟩
theorem rw_X17_init : rowsB 126153186 prog_37_method_1_code Om36 Ok36 Ol36 true 0 = true := by decide +kernel
theorem mt_X17_init {s0 : State} (hN : NCs s0) : MethOK s0 126153186 := ⟨Om36, Ok36, Ol36, true, 0, prog_37_method_1_code, none, [], ow36 hN, fun _ => rfl, rfl, rowsB_s rw_X17_init, (plainFor_of_name pl_36), Or.inl ⟨rfl, rfl, rfl⟩⟩
theorem rw_X17_enter : rowsB 126415330 prog_37_method_4_code Om36 Ok36 Ol36 false 0 = true := by decide +kernel
theorem mt_X17_enter {s0 : State} (hN : NCs s0) : MethOK s0 126415330 := ⟨Om36, Ok36, Ol36, false, 0, prog_37_method_4_code, none, [], ow36 hN, (fun h => by cases h), rfl, rowsB_s rw_X17_enter, (plainFor_of_name pl_36), Or.inl ⟨rfl, rfl, rfl⟩⟩
theorem rw_X17_has : rowsB 126677474 prog_37_method_3_code Om36 Ok36 Ol36 false 2 = true := by decide +kernel
theorem mt_X17_has {s0 : State} (hN : NCs s0) : MethOK s0 126677474 := ⟨Om36, Ok36, Ol36, false, 2, prog_37_method_3_code, some Jvm.ClassFile.FieldType.boolean, [], ow36 hN, (fun h => by cases h), rfl, rowsB_s rw_X17_has, (plainFor_of_name pl_36), Or.inl ⟨rfl, rfl, rfl⟩⟩
theorem rw_X17_behind : rowsB 126939619 prog_37_method_5_code Om36 Ok36 Ol36 false 0 = true := by decide +kernel
theorem mt_X17_behind {s0 : State} (hN : NCs s0) : MethOK s0 126939619 := ⟨Om36, Ok36, Ol36, false, 0, prog_37_method_5_code, none, [], ow36 hN, (fun h => by cases h), rfl, rowsB_s rw_X17_behind, (plainFor_of_name pl_36), Or.inl ⟨rfl, rfl, rfl⟩⟩
theorem rw_X17_kind : rowsB 127201761 prog_37_method_2_code Om36 Ok36 Ol36 false 1 = true := by decide +kernel
theorem mt_X17_kind {s0 : State} (hN : NCs s0) : MethOK s0 127201761 := ⟨Om36, Ok36, Ol36, false, 1, prog_37_method_2_code, some Jvm.ClassFile.FieldType.int, [], ow36 hN, (fun h => by cases h), rfl, rowsB_s rw_X17_kind, (plainFor_of_name pl_36), Or.inl ⟨rfl, rfl, rfl⟩⟩
theorem rw_X17_work : rowsB 127463907 prog_37_method_6_code Om36 Ok36 Ol36 false 0 = true := by decide +kernel
theorem mt_X17_work {s0 : State} (hN : NCs s0) : MethOK s0 127463907 := ⟨Om36, Ok36, Ol36, false, 0, prog_37_method_6_code, none, [], ow36 hN, (fun h => by cases h), rfl, rowsB_s rw_X17_work, (plainFor_of_name pl_36), Or.inl ⟨rfl, rfl, rfl⟩⟩
theorem rw_X18_init : rowsB 127668260 prog_4_method_1_code Om3 Ok3 Ol3 true 0 = true := by decide +kernel
theorem mt_X18_init {s0 : State} (hN : NCs s0) : MethOK s0 127668260 := ⟨Om3, Ok3, Ol3, true, 0, prog_4_method_1_code, none, [], ow3 hN, fun _ => rfl, rfl, rowsB_s rw_X18_init, (plainFor_of_name pl_3), Or.inl ⟨rfl, rfl, rfl⟩⟩
theorem rw_X19_init : rowsB 127959266 prog_7_method_1_code Om6 Ok6 Ol6 true 0 = true := by decide +kernel
theorem mt_X19_init {s0 : State} (hN : NCs s0) : MethOK s0 127959266 := ⟨Om6, Ok6, Ol6, true, 0, prog_7_method_1_code, none, [], ow6 hN, fun _ => rfl, rfl, rowsB_s rw_X19_init, (plainFor_of_name pl_6), Or.inl ⟨rfl, rfl, rfl⟩⟩
theorem rw_X20_init : rowsB 128217317 prog_15_method_1_code Om14 Ok14 Ol14 true 0 = true := by decide +kernel
theorem mt_X20_init {s0 : State} (hN : NCs s0) : MethOK s0 128217317 := ⟨Om14, Ok14, Ol14, true, 0, prog_15_method_1_code, none, [], ow14 hN, fun _ => rfl, rfl, rowsB_s rw_X20_init, (plainFor_of_name pl_14), Or.inl ⟨rfl, rfl, rfl⟩⟩
theorem rw_X20_declare : rowsB 128479458 prog_15_method_3_code Om14 Ok14 Ol14 false 0 = true := by decide +kernel
theorem mt_X20_declare {s0 : State} (hN : NCs s0) : MethOK s0 128479458 := ⟨Om14, Ok14, Ol14, false, 0, prog_15_method_3_code, none, [], ow14 hN, (fun h => by cases h), rfl, rowsB_s rw_X20_declare, (plainFor_of_name pl_14), Or.inl ⟨rfl, rfl, rfl⟩⟩
theorem rw_X20_behind : rowsB 128741603 prog_15_method_4_code Om14 Ok14 Ol14 false 0 = true := by decide +kernel
theorem mt_X20_behind {s0 : State} (hN : NCs s0) : MethOK s0 128741603 := ⟨Om14, Ok14, Ol14, false, 0, prog_15_method_4_code, none, [], ow14 hN, (fun h => by cases h), rfl, rowsB_s rw_X20_behind, (plainFor_of_name pl_14), Or.inl ⟨rfl, rfl, rfl⟩⟩
theorem rw_X20_kind : rowsB 129003745 prog_15_method_2_code Om14 Ok14 Ol14 false 1 = true := by decide +kernel
theorem mt_X20_kind {s0 : State} (hN : NCs s0) : MethOK s0 129003745 := ⟨Om14, Ok14, Ol14, false, 1, prog_15_method_2_code, some Jvm.ClassFile.FieldType.int, [], ow14 hN, (fun h => by cases h), rfl, rowsB_s rw_X20_kind, (plainFor_of_name pl_14), Or.inl ⟨rfl, rfl, rfl⟩⟩
theorem rw_X20_work : rowsB 129265891 prog_15_method_5_code Om14 Ok14 Ol14 false 0 = true := by decide +kernel
theorem mt_X20_work {s0 : State} (hN : NCs s0) : MethOK s0 129265891 := ⟨Om14, Ok14, Ol14, false, 0, prog_15_method_5_code, none, [], ow14 hN, (fun h => by cases h), rfl, rowsB_s rw_X20_work, (plainFor_of_name pl_14), Or.inl ⟨rfl, rfl, rfl⟩⟩
theorem rw_X21_init : rowsB 129525971 prog_6_method_1_code Om5 Ok5 Ol5 true 0 = true := by decide +kernel
theorem mt_X21_init {s0 : State} (hN : NCs s0) : MethOK s0 129525971 := ⟨Om5, Ok5, Ol5, true, 0, prog_6_method_1_code, none, [], ow5 hN, fun _ => rfl, rfl, rowsB_s rw_X21_init, (plainFor_of_name pl_5), Or.inl ⟨rfl, rfl, rfl⟩⟩
theorem rw_X21_judged : rowsB 129788114 prog_6_method_3_code Om5 Ok5 Ol5 false 0 = true := by decide +kernel
theorem mt_X21_judged {s0 : State} (hN : NCs s0) : MethOK s0 129788114 := ⟨Om5, Ok5, Ol5, false, 0, prog_6_method_3_code, none, [], ow5 hN, (fun h => by cases h), rfl, rowsB_s rw_X21_judged, (plainFor_of_name pl_5), Or.inl ⟨rfl, rfl, rfl⟩⟩
theorem rw_X21_kind : rowsB 130050257 prog_6_method_2_code Om5 Ok5 Ol5 false 1 = true := by decide +kernel
theorem mt_X21_kind {s0 : State} (hN : NCs s0) : MethOK s0 130050257 := ⟨Om5, Ok5, Ol5, false, 1, prog_6_method_2_code, some Jvm.ClassFile.FieldType.int, [], ow5 hN, (fun h => by cases h), rfl, rowsB_s rw_X21_kind, (plainFor_of_name pl_5), Or.inl ⟨rfl, rfl, rfl⟩⟩
theorem rw_X21_work : rowsB 130312403 prog_6_method_4_code Om5 Ok5 Ol5 false 0 = true := by decide +kernel
theorem mt_X21_work {s0 : State} (hN : NCs s0) : MethOK s0 130312403 := ⟨Om5, Ok5, Ol5, false, 0, prog_6_method_4_code, none, [], ow5 hN, (fun h => by cases h), rfl, rowsB_s rw_X21_work, (plainFor_of_name pl_5), Or.inl ⟨rfl, rfl, rfl⟩⟩
theorem rw_X22_init : rowsB 130572482 prog_3_method_1_code Om2 Ok2 Ol2 true 0 = true := by decide +kernel
theorem mt_X22_init {s0 : State} (hN : NCs s0) : MethOK s0 130572482 := ⟨Om2, Ok2, Ol2, true, 0, prog_3_method_1_code, none, [], ow2 hN, fun _ => rfl, rfl, rowsB_s rw_X22_init, (plainFor_of_name pl_2), Or.inl ⟨rfl, rfl, rfl⟩⟩
theorem rw_X22_behind : rowsB 130834627 prog_3_method_3_code Om2 Ok2 Ol2 false 0 = true := by decide +kernel
theorem mt_X22_behind {s0 : State} (hN : NCs s0) : MethOK s0 130834627 := ⟨Om2, Ok2, Ol2, false, 0, prog_3_method_3_code, none, [], ow2 hN, (fun h => by cases h), rfl, rowsB_s rw_X22_behind, (plainFor_of_name pl_2), Or.inl ⟨rfl, rfl, rfl⟩⟩
theorem rw_X22_judged : rowsB 131096770 prog_3_method_4_code Om2 Ok2 Ol2 false 0 = true := by decide +kernel
theorem mt_X22_judged {s0 : State} (hN : NCs s0) : MethOK s0 131096770 := ⟨Om2, Ok2, Ol2, false, 0, prog_3_method_4_code, none, [], ow2 hN, (fun h => by cases h), rfl, rowsB_s rw_X22_judged, (plainFor_of_name pl_2), Or.inl ⟨rfl, rfl, rfl⟩⟩
theorem rw_X22_kind : rowsB 131358913 prog_3_method_2_code Om2 Ok2 Ol2 false 1 = true := by decide +kernel
theorem mt_X22_kind {s0 : State} (hN : NCs s0) : MethOK s0 131358913 := ⟨Om2, Ok2, Ol2, false, 1, prog_3_method_2_code, some Jvm.ClassFile.FieldType.int, [], ow2 hN, (fun h => by cases h), rfl, rowsB_s rw_X22_kind, (plainFor_of_name pl_2), Or.inl ⟨rfl, rfl, rfl⟩⟩
theorem rw_X22_work : rowsB 131621059 prog_3_method_5_code Om2 Ok2 Ol2 false 0 = true := by decide +kernel
theorem mt_X22_work {s0 : State} (hN : NCs s0) : MethOK s0 131621059 := ⟨Om2, Ok2, Ol2, false, 0, prog_3_method_5_code, none, [], ow2 hN, (fun h => by cases h), rfl, rowsB_s rw_X22_work, (plainFor_of_name pl_2), Or.inl ⟨rfl, rfl, rfl⟩⟩
theorem rw_X23_init : rowsB 131926546 prog_42_method_1_code Om41 Ok41 Ol41 true 0 = true := by decide +kernel
theorem mt_X23_init {s0 : State} (hN : NCs s0) : MethOK s0 131926546 := ⟨Om41, Ok41, Ol41, true, 0, prog_42_method_1_code, none, [], ow41 hN, fun _ => rfl, rfl, rowsB_s rw_X23_init, (plainFor_of_name pl_41), Or.inl ⟨rfl, rfl, rfl⟩⟩
theorem rw_X23_behind : rowsB 132188691 prog_42_method_4_code Om41 Ok41 Ol41 false 0 = true := by decide +kernel
theorem mt_X23_behind {s0 : State} (hN : NCs s0) : MethOK s0 132188691 := ⟨Om41, Ok41, Ol41, false, 0, prog_42_method_4_code, none, [], ow41 hN, (fun h => by cases h), rfl, rowsB_s rw_X23_behind, (plainFor_of_name pl_41), Or.inl ⟨rfl, rfl, rfl⟩⟩
theorem rw_X23_judged : rowsB 132450834 prog_42_method_5_code Om41 Ok41 Ol41 false 0 = true := by decide +kernel
theorem mt_X23_judged {s0 : State} (hN : NCs s0) : MethOK s0 132450834 := ⟨Om41, Ok41, Ol41, false, 0, prog_42_method_5_code, none, [], ow41 hN, (fun h => by cases h), rfl, rowsB_s rw_X23_judged, (plainFor_of_name pl_41), Or.inl ⟨rfl, rfl, rfl⟩⟩
theorem rw_X23_isTrim : rowsB 132712977 prog_42_method_3_code Om41 Ok41 Ol41 false 2 = true := by decide +kernel
theorem mt_X23_isTrim {s0 : State} (hN : NCs s0) : MethOK s0 132712977 := ⟨Om41, Ok41, Ol41, false, 2, prog_42_method_3_code, some Jvm.ClassFile.FieldType.boolean, [], ow41 hN, (fun h => by cases h), rfl, rowsB_s rw_X23_isTrim, (plainFor_of_name pl_41), Or.inl ⟨rfl, rfl, rfl⟩⟩
