/-! ROWS OF THE METHODS (printed by gen/rows.py) -/
set_option maxRecDepth 100000
theorem rw_X10_isOpIndicant : rowsB 44391090 prog_49_method_24_code Om47 Ok47 Ol47 false 2 = true := by decide +kernel
theorem mt_X10_isOpIndicant {s0 : State} (hN : NCs s0) : MethOK s0 44391090 := ⟨Om47, Ok47, Ol47, false, 2, prog_49_method_24_code, some Jvm.ClassFile.FieldType.boolean, [], ow47 hN, (fun h => by cases h), rfl, rowsB_s rw_X10_isOpIndicant, (plainFor_of_name pl_47), Or.inl ⟨rfl, rfl, rfl⟩⟩
theorem rw_X10_in : rowsB 44564483 prog_49_method_3_code Om47 Ok47 Ol47 false 2 = true := by decide +kernel
theorem mt_X10_in {s0 : State} (hN : NCs s0) : MethOK s0 44564483 := ⟨Om47, Ok47, Ol47, false, 2, prog_49_method_3_code, some Jvm.ClassFile.FieldType.boolean, [], ow47 hN, (fun h => by cases h), rfl, rowsB_s rw_X10_in, (plainFor_of_name pl_47), Or.inl ⟨rfl, rfl, rfl⟩⟩
theorem rw_X10_behindDeclaration : rowsB 44915378 prog_49_method_42_code Om47 Ok47 Ol47 false 0 = true := by decide +kernel
theorem mt_X10_behindDeclaration {s0 : State} (hN : NCs s0) : MethOK s0 44915378 := ⟨Om47, Ok47, Ol47, false, 0, prog_49_method_42_code, none, [], ow47 hN, (fun h => by cases h), rfl, rowsB_s rw_X10_behindDeclaration, (plainFor_of_name pl_47), Or.inl ⟨rfl, rfl, rfl⟩⟩
theorem rw_X10_takeSign : rowsB 45177522 prog_49_method_17_code Om47 Ok47 Ol47 false 2 = true := by decide +kernel
theorem mt_X10_takeSign {s0 : State} (hN : NCs s0) : MethOK s0 45177522 := ⟨Om47, Ok47, Ol47, false, 2, prog_49_method_17_code, some Jvm.ClassFile.FieldType.boolean, [], ow47 hN, (fun h => by cases h), rfl, rowsB_s rw_X10_takeSign, (plainFor_of_name pl_47), Or.inl ⟨rfl, rfl, rfl⟩⟩
theorem rw_X10_isOperation : rowsB 45439666 prog_49_method_26_code Om47 Ok47 Ol47 false 2 = true := by decide +kernel
theorem mt_X10_isOperation {s0 : State} (hN : NCs s0) : MethOK s0 45439666 := ⟨Om47, Ok47, Ol47, false, 2, prog_49_method_26_code, some Jvm.ClassFile.FieldType.boolean, [], ow47 hN, (fun h => by cases h), rfl, rowsB_s rw_X10_isOperation, (plainFor_of_name pl_47), Or.inl ⟨rfl, rfl, rfl⟩⟩
theorem rw_X10_isOpSign : rowsB 45613057 prog_49_method_25_code Om47 Ok47 Ol47 false 2 = true := by decide +kernel
theorem mt_X10_isOpSign {s0 : State} (hN : NCs s0) : MethOK s0 45613057 := ⟨Om47, Ok47, Ol47, false, 2, prog_49_method_25_code, some Jvm.ClassFile.FieldType.boolean, [], ow47 hN, (fun h => by cases h), rfl, rowsB_s rw_X10_isOpSign, (plainFor_of_name pl_47), Or.inl ⟨rfl, rfl, rfl⟩⟩
theorem rw_X10_opKey : rowsB 45963954 prog_49_method_35_code Om47 Ok47 Ol47 false 4 = true := by decide +kernel
theorem mt_X10_opKey {s0 : State} (hN : NCs s0) : MethOK s0 45963954 := ⟨Om47, Ok47, Ol47, false, 4, prog_49_method_35_code, some Jvm.ClassFile.FieldType.long, [], ow47 hN, (fun h => by cases h), rfl, rowsB_s rw_X10_opKey, (plainFor_of_name pl_47), Or.inl ⟨rfl, rfl, rfl⟩⟩
theorem rw_X10_isDeclarer : rowsB 46226098 prog_49_method_30_code Om47 Ok47 Ol47 false 2 = true := by decide +kernel
theorem mt_X10_isDeclarer {s0 : State} (hN : NCs s0) : MethOK s0 46226098 := ⟨Om47, Ok47, Ol47, false, 2, prog_49_method_30_code, some Jvm.ClassFile.FieldType.boolean, [], ow47 hN, (fun h => by cases h), rfl, rowsB_s rw_X10_isDeclarer, (plainFor_of_name pl_47), Or.inl ⟨rfl, rfl, rfl⟩⟩
theorem rw_X10_child : rowsB 46488243 prog_49_method_34_code Om47 Ok47 Ol47 false 0 = true := by decide +kernel
theorem mt_X10_child {s0 : State} (hN : NCs s0) : MethOK s0 46488243 := ⟨Om47, Ok47, Ol47, false, 0, prog_49_method_34_code, none, [], ow47 hN, (fun h => by cases h), rfl, rowsB_s rw_X10_child, (plainFor_of_name pl_47), Or.inl ⟨rfl, rfl, rfl⟩⟩
theorem rw_X10_behindPlace : rowsB 46750386 prog_49_method_45_code Om47 Ok47 Ol47 false 0 = true := by decide +kernel
theorem mt_X10_behindPlace {s0 : State} (hN : NCs s0) : MethOK s0 46750386 := ⟨Om47, Ok47, Ol47, false, 0, prog_49_method_45_code, none, [], ow47 hN, (fun h => by cases h), rfl, rowsB_s rw_X10_behindPlace, (plainFor_of_name pl_47), Or.inl ⟨rfl, rfl, rfl⟩⟩
theorem rw_X10_setPlace : rowsB 47012530 prog_49_method_46_code Om47 Ok47 Ol47 false 0 = true := by decide +kernel
theorem mt_X10_setPlace {s0 : State} (hN : NCs s0) : MethOK s0 47012530 := ⟨Om47, Ok47, Ol47, false, 0, prog_49_method_46_code, none, [], ow47 hN, (fun h => by cases h), rfl, rowsB_s rw_X10_setPlace, (plainFor_of_name pl_47), Or.inl ⟨rfl, rfl, rfl⟩⟩
theorem rw_X10_behindDeclarer : rowsB 47274674 prog_49_method_47_code Om47 Ok47 Ol47 false 0 = true := by decide +kernel
theorem mt_X10_behindDeclarer {s0 : State} (hN : NCs s0) : MethOK s0 47274674 := ⟨Om47, Ok47, Ol47, false, 0, prog_49_method_47_code, none, [], ow47 hN, (fun h => by cases h), rfl, rowsB_s rw_X10_behindDeclarer, (plainFor_of_name pl_47), Or.inl ⟨rfl, rfl, rfl⟩⟩
theorem rw_X10_parameter : rowsB 47536820 prog_49_method_72_code Om47 Ok47 Ol47 false 0 = true := by decide +kernel
theorem mt_X10_parameter {s0 : State} (hN : NCs s0) : MethOK s0 47536820 := ⟨Om47, Ok47, Ol47, false, 0, prog_49_method_72_code, none, [], ow47 hN, (fun h => by cases h), rfl, rowsB_s rw_X10_parameter, (plainFor_of_name pl_47), Or.inl ⟨rfl, rfl, rfl⟩⟩
theorem rw_X10_behindUnit : rowsB 47798962 prog_49_method_48_code Om47 Ok47 Ol47 false 0 = true := by decide +kernel
theorem mt_X10_behindUnit {s0 : State} (hN : NCs s0) : MethOK s0 47798962 := ⟨Om47, Ok47, Ol47, false, 0, prog_49_method_48_code, none, [], ow47 hN, (fun h => by cases h), rfl, rowsB_s rw_X10_behindUnit, (plainFor_of_name pl_47), Or.inl ⟨rfl, rfl, rfl⟩⟩
theorem rw_X10_give : rowsB 48061106 prog_49_method_37_code Om47 Ok47 Ol47 false 0 = true := by decide +kernel
theorem mt_X10_give {s0 : State} (hN : NCs s0) : MethOK s0 48061106 := ⟨Om47, Ok47, Ol47, false, 0, prog_49_method_37_code, none, [], ow47 hN, (fun h => by cases h), rfl, rowsB_s rw_X10_give, (plainFor_of_name pl_47), Or.inl ⟨rfl, rfl, rfl⟩⟩
theorem rw_X10_unit : rowsB 48323250 prog_49_method_49_code Om47 Ok47 Ol47 false 0 = true := by decide +kernel
theorem mt_X10_unit {s0 : State} (hN : NCs s0) : MethOK s0 48323250 := ⟨Om47, Ok47, Ol47, false, 0, prog_49_method_49_code, none, [], ow47 hN, (fun h => by cases h), rfl, rowsB_s rw_X10_unit, (plainFor_of_name pl_47), Or.inl ⟨rfl, rfl, rfl⟩⟩
theorem rw_X10_beginFormula : rowsB 48585395 prog_49_method_50_code Om47 Ok47 Ol47 false 0 = true := by decide +kernel
theorem mt_X10_beginFormula {s0 : State} (hN : NCs s0) : MethOK s0 48585395 := ⟨Om47, Ok47, Ol47, false, 0, prog_49_method_50_code, none, [], ow47 hN, (fun h => by cases h), rfl, rowsB_s rw_X10_beginFormula, (plainFor_of_name pl_47), Or.inl ⟨rfl, rfl, rfl⟩⟩
theorem rw_X10_declared : rowsB 48847538 prog_49_method_52_code Om47 Ok47 Ol47 false 0 = true := by decide +kernel
theorem mt_X10_declared {s0 : State} (hN : NCs s0) : MethOK s0 48847538 := ⟨Om47, Ok47, Ol47, false, 0, prog_49_method_52_code, none, [], ow47 hN, (fun h => by cases h), rfl, rowsB_s rw_X10_declared, (plainFor_of_name pl_47), Or.inl ⟨rfl, rfl, rfl⟩⟩
theorem rw_X10_mayBeVoid : rowsB 49109682 prog_49_method_51_code Om47 Ok47 Ol47 false 0 = true := by decide +kernel
theorem mt_X10_mayBeVoid {s0 : State} (hN : NCs s0) : MethOK s0 49109682 := ⟨Om47, Ok47, Ol47, false, 0, prog_49_method_51_code, none, [], ow47 hN, (fun h => by cases h), rfl, rowsB_s rw_X10_mayBeVoid, (plainFor_of_name pl_47), Or.inl ⟨rfl, rfl, rfl⟩⟩
theorem rw_X10_giveRoutine : rowsB 49371826 prog_49_method_38_code Om47 Ok47 Ol47 false 0 = true := by decide +kernel
theorem mt_X10_giveRoutine {s0 : State} (hN : NCs s0) : MethOK s0 49371826 := ⟨Om47, Ok47, Ol47, false, 0, prog_49_method_38_code, none, [], ow47 hN, (fun h => by cases h), rfl, rowsB_s rw_X10_giveRoutine, (plainFor_of_name pl_47), Or.inl ⟨rfl, rfl, rfl⟩⟩
theorem rw_X10_behindTertiary : rowsB 49633970 prog_49_method_53_code Om47 Ok47 Ol47 false 0 = true := by decide +kernel
theorem mt_X10_behindTertiary {s0 : State} (hN : NCs s0) : MethOK s0 49633970 := ⟨Om47, Ok47, Ol47, false, 0, prog_49_method_53_code, none, [], ow47 hN, (fun h => by cases h), rfl, rowsB_s rw_X10_behindTertiary, (plainFor_of_name pl_47), Or.inl ⟨rfl, rfl, rfl⟩⟩
theorem rw_X10_formula : rowsB 49896114 prog_49_method_54_code Om47 Ok47 Ol47 false 0 = true := by decide +kernel
theorem mt_X10_formula {s0 : State} (hN : NCs s0) : MethOK s0 49896114 := ⟨Om47, Ok47, Ol47, false, 0, prog_49_method_54_code, none, [], ow47 hN, (fun h => by cases h), rfl, rowsB_s rw_X10_formula, (plainFor_of_name pl_47), Or.inl ⟨rfl, rfl, rfl⟩⟩
theorem rw_X10_operandBegins : rowsB 50158258 prog_49_method_56_code Om47 Ok47 Ol47 false 0 = true := by decide +kernel
theorem mt_X10_operandBegins {s0 : State} (hN : NCs s0) : MethOK s0 50158258 := ⟨Om47, Ok47, Ol47, false, 0, prog_49_method_56_code, none, [], ow47 hN, (fun h => by cases h), rfl, rowsB_s rw_X10_operandBegins, (plainFor_of_name pl_47), Or.inl ⟨rfl, rfl, rfl⟩⟩
theorem rw_X10_isMonadic : rowsB 50420402 prog_49_method_27_code Om47 Ok47 Ol47 false 2 = true := by decide +kernel
theorem mt_X10_isMonadic {s0 : State} (hN : NCs s0) : MethOK s0 50420402 := ⟨Om47, Ok47, Ol47, false, 2, prog_49_method_27_code, some Jvm.ClassFile.FieldType.boolean, [], ow47 hN, (fun h => by cases h), rfl, rowsB_s rw_X10_isMonadic, (plainFor_of_name pl_47), Or.inl ⟨rfl, rfl, rfl⟩⟩
theorem rw_X10_secondary : rowsB 50682546 prog_49_method_57_code Om47 Ok47 Ol47 false 0 = true := by decide +kernel
theorem mt_X10_secondary {s0 : State} (hN : NCs s0) : MethOK s0 50682546 := ⟨Om47, Ok47, Ol47, false, 0, prog_49_method_57_code, none, [], ow47 hN, (fun h => by cases h), rfl, rowsB_s rw_X10_secondary, (plainFor_of_name pl_47), Or.inl ⟨rfl, rfl, rfl⟩⟩
theorem rw_X10_base : rowsB 50944690 prog_49_method_59_code Om47 Ok47 Ol47 false 0 = true := by decide +kernel
theorem mt_X10_base {s0 : State} (hN : NCs s0) : MethOK s0 50944690 := ⟨Om47, Ok47, Ol47, false, 0, prog_49_method_59_code, none, [], ow47 hN, (fun h => by cases h), rfl, rowsB_s rw_X10_base, (plainFor_of_name pl_47), Or.inl ⟨rfl, rfl, rfl⟩⟩
theorem rw_X10_simple : rowsB 51206835 prog_49_method_58_code Om47 Ok47 Ol47 false 0 = true := by decide +kernel
theorem mt_X10_simple {s0 : State} (hN : NCs s0) : MethOK s0 51206835 := ⟨Om47, Ok47, Ol47, false, 0, prog_49_method_58_code, none, [], ow47 hN, (fun h => by cases h), rfl, rowsB_s rw_X10_simple, (plainFor_of_name pl_47), Or.inl ⟨rfl, rfl, rfl⟩⟩
theorem rw_X10_enclosed : rowsB 51468979 prog_49_method_60_code Om47 Ok47 Ol47 false 0 = true := by decide +kernel
theorem mt_X10_enclosed {s0 : State} (hN : NCs s0) : MethOK s0 51468979 := ⟨Om47, Ok47, Ol47, false, 0, prog_49_method_60_code, none, [], ow47 hN, (fun h => by cases h), rfl, rowsB_s rw_X10_enclosed, (plainFor_of_name pl_47), Or.inl ⟨rfl, rfl, rfl⟩⟩
theorem rw_X10_aheadsOf : rowsB 51731122 prog_49_method_55_code Om47 Ok47 Ol47 false 1 = true := by decide +kernel
theorem mt_X10_aheadsOf {s0 : State} (hN : NCs s0) : MethOK s0 51731122 := ⟨Om47, Ok47, Ol47, false, 1, prog_49_method_55_code, some Jvm.ClassFile.FieldType.int, [], ow47 hN, (fun h => by cases h), rfl, rowsB_s rw_X10_aheadsOf, (plainFor_of_name pl_47), Or.inl ⟨rfl, rfl, rfl⟩⟩
theorem rw_X10_closesSign : rowsB 51993266 prog_49_method_21_code Om47 Ok47 Ol47 false 2 = true := by decide +kernel
theorem mt_X10_closesSign {s0 : State} (hN : NCs s0) : MethOK s0 51993266 := ⟨Om47, Ok47, Ol47, false, 2, prog_49_method_21_code, some Jvm.ClassFile.FieldType.boolean, [], ow47 hN, (fun h => by cases h), rfl, rowsB_s rw_X10_closesSign, (plainFor_of_name pl_47), Or.inl ⟨rfl, rfl, rfl⟩⟩
theorem rw_X10_behindBase : rowsB 52255410 prog_49_method_61_code Om47 Ok47 Ol47 false 0 = true := by decide +kernel
theorem mt_X10_behindBase {s0 : State} (hN : NCs s0) : MethOK s0 52255410 := ⟨Om47, Ok47, Ol47, false, 0, prog_49_method_61_code, none, [], ow47 hN, (fun h => by cases h), rfl, rowsB_s rw_X10_behindBase, (plainFor_of_name pl_47), Or.inl ⟨rfl, rfl, rfl⟩⟩
theorem rw_X10_operandEnds : rowsB 52517554 prog_49_method_62_code Om47 Ok47 Ol47 false 0 = true := by decide +kernel
theorem mt_X10_operandEnds {s0 : State} (hN : NCs s0) : MethOK s0 52517554 := ⟨Om47, Ok47, Ol47, false, 0, prog_49_method_62_code, none, [], ow47 hN, (fun h => by cases h), rfl, rowsB_s rw_X10_operandEnds, (plainFor_of_name pl_47), Or.inl ⟨rfl, rfl, rfl⟩⟩
theorem rw_X10_isDyadic : rowsB 52779698 prog_49_method_28_code Om47 Ok47 Ol47 false 2 = true := by decide +kernel
theorem mt_X10_isDyadic {s0 : State} (hN : NCs s0) : MethOK s0 52779698 := ⟨Om47, Ok47, Ol47, false, 2, prog_49_method_28_code, some Jvm.ClassFile.FieldType.boolean, [], ow47 hN, (fun h => by cases h), rfl, rowsB_s rw_X10_isDyadic, (plainFor_of_name pl_47), Or.inl ⟨rfl, rfl, rfl⟩⟩
theorem rw_X10_reduce : rowsB 53041841 prog_49_method_63_code Om47 Ok47 Ol47 false 0 = true := by decide +kernel
theorem mt_X10_reduce {s0 : State} (hN : NCs s0) : MethOK s0 53041841 := ⟨Om47, Ok47, Ol47, false, 0, prog_49_method_63_code, none, [], ow47 hN, (fun h => by cases h), rfl, rowsB_s rw_X10_reduce, (plainFor_of_name pl_47), Or.inl ⟨rfl, rfl, rfl⟩⟩
theorem rw_X10_priority : rowsB 53303986 prog_49_method_29_code Om47 Ok47 Ol47 false 1 = true := by decide +kernel
theorem mt_X10_priority {s0 : State} (hN : NCs s0) : MethOK s0 53303986 := ⟨Om47, Ok47, Ol47, false, 1, prog_49_method_29_code, some Jvm.ClassFile.FieldType.int, [], ow47 hN, (fun h => by cases h), rfl, rowsB_s rw_X10_priority, (plainFor_of_name pl_47), Or.inl ⟨rfl, rfl, rfl⟩⟩
theorem rw_X10_declarer : rowsB 53566130 prog_49_method_65_code Om47 Ok47 Ol47 false 0 = true := by decide +kernel
theorem mt_X10_declarer {s0 : State} (hN : NCs s0) : MethOK s0 53566130 := ⟨Om47, Ok47, Ol47, false, 0, prog_49_method_65_code, none, [], ow47 hN, (fun h => by cases h), rfl, rowsB_s rw_X10_declarer, (plainFor_of_name pl_47), Or.inl ⟨rfl, rfl, rfl⟩⟩
theorem rw_X10_declarerBegins : rowsB 53828274 prog_49_method_66_code Om47 Ok47 Ol47 false 0 = true := by decide +kernel
theorem mt_X10_declarerBegins {s0 : State} (hN : NCs s0) : MethOK s0 53828274 := ⟨Om47, Ok47, Ol47, false, 0, prog_49_method_66_code, none, [], ow47 hN, (fun h => by cases h), rfl, rowsB_s rw_X10_declarerBegins, (plainFor_of_name pl_47), Or.inl ⟨rfl, rfl, rfl⟩⟩
theorem rw_X10_giveMode : rowsB 54090418 prog_49_method_64_code Om47 Ok47 Ol47 false 0 = true := by decide +kernel
theorem mt_X10_giveMode {s0 : State} (hN : NCs s0) : MethOK s0 54090418 := ⟨Om47, Ok47, Ol47, false, 0, prog_49_method_64_code, none, [], ow47 hN, (fun h => by cases h), rfl, rowsB_s rw_X10_giveMode, (plainFor_of_name pl_47), Or.inl ⟨rfl, rfl, rfl⟩⟩
theorem rw_X10_wordDeclarer : rowsB 54352564 prog_49_method_67_code Om47 Ok47 Ol47 false 0 = true := by decide +kernel
theorem mt_X10_wordDeclarer {s0 : State} (hN : NCs s0) : MethOK s0 54352564 := ⟨Om47, Ok47, Ol47, false, 0, prog_49_method_67_code, none, [], ow47 hN, (fun h => by cases h), rfl, rowsB_s rw_X10_wordDeclarer, (plainFor_of_name pl_47), Or.inl ⟨rfl, rfl, rfl⟩⟩
theorem rw_X10_nextMember : rowsB 54614707 prog_49_method_68_code Om47 Ok47 Ol47 false 0 = true := by decide +kernel
theorem mt_X10_nextMember {s0 : State} (hN : NCs s0) : MethOK s0 54614707 := ⟨Om47, Ok47, Ol47, false, 0, prog_49_method_68_code, none, [], ow47 hN, (fun h => by cases h), rfl, rowsB_s rw_X10_nextMember, (plainFor_of_name pl_47), Or.inl ⟨rfl, rfl, rfl⟩⟩
theorem rw_X10_withMembers : rowsB 54876852 prog_49_method_70_code Om47 Ok47 Ol47 false 1 = true := by decide +kernel
theorem mt_X10_withMembers {s0 : State} (hN : NCs s0) : MethOK s0 54876852 := ⟨Om47, Ok47, Ol47, false, 1, prog_49_method_70_code, some Jvm.ClassFile.FieldType.int, [], ow47 hN, (fun h => by cases h), rfl, rowsB_s rw_X10_withMembers, (plainFor_of_name pl_47), Or.inl ⟨rfl, rfl, rfl⟩⟩
theorem rw_X10_fieldEnds : rowsB 55138994 prog_49_method_69_code Om47 Ok47 Ol47 false 0 = true := by decide +kernel
theorem mt_X10_fieldEnds {s0 : State} (hN : NCs s0) : MethOK s0 55138994 := ⟨Om47, Ok47, Ol47, false, 0, prog_49_method_69_code, none, [], ow47 hN, (fun h => by cases h), rfl, rowsB_s rw_X10_fieldEnds, (plainFor_of_name pl_47), Or.inl ⟨rfl, rfl, rfl⟩⟩
theorem rw_X10_routine : rowsB 55401138 prog_49_method_73_code Om47 Ok47 Ol47 false 0 = true := by decide +kernel
theorem mt_X10_routine {s0 : State} (hN : NCs s0) : MethOK s0 55401138 := ⟨Om47, Ok47, Ol47, false, 0, prog_49_method_73_code, none, [], ow47 hN, (fun h => by cases h), rfl, rowsB_s rw_X10_routine, (plainFor_of_name pl_47), Or.inl ⟨rfl, rfl, rfl⟩⟩
theorem rw_X10_behindParameter : rowsB 55663283 prog_49_method_74_code Om47 Ok47 Ol47 false 0 = true := by decide +kernel
theorem mt_X10_behindParameter {s0 : State} (hN : NCs s0) : MethOK s0 55663283 := ⟨Om47, Ok47, Ol47, false, 0, prog_49_method_74_code, none, [], ow47 hN, (fun h => by cases h), rfl, rowsB_s rw_X10_behindParameter, (plainFor_of_name pl_47), Or.inl ⟨rfl, rfl, rfl⟩⟩
theorem rw_X10_place : rowsB 55925426 prog_49_method_71_code Om47 Ok47 Ol47 false 0 = true := by decide +kernel
theorem mt_X10_place {s0 : State} (hN : NCs s0) : MethOK s0 55925426 := ⟨Om47, Ok47, Ol47, false, 0, prog_49_method_71_code, none, [], ow47 hN, (fun h => by cases h), rfl, rowsB_s rw_X10_place, (plainFor_of_name pl_47), Or.inl ⟨rfl, rfl, rfl⟩⟩
theorem rw_X10_paren : rowsB 56187570 prog_49_method_75_code Om47 Ok47 Ol47 false 0 = true := by decide +kernel
theorem mt_X10_paren {s0 : State} (hN : NCs s0) : MethOK s0 56187570 := ⟨Om47, Ok47, Ol47, false, 0, prog_49_method_75_code, none, [], ow47 hN, (fun h => by cases h), rfl, rowsB_s rw_X10_paren, (plainFor_of_name pl_47), Or.inl ⟨rfl, rfl, rfl⟩⟩
theorem rw_X10_call : rowsB 56449714 prog_49_method_76_code Om47 Ok47 Ol47 false 0 = true := by decide +kernel
theorem mt_X10_call {s0 : State} (hN : NCs s0) : MethOK s0 56449714 := ⟨Om47, Ok47, Ol47, false, 0, prog_49_method_76_code, none, [], ow47 hN, (fun h => by cases h), rfl, rowsB_s rw_X10_call, (plainFor_of_name pl_47), Or.inl ⟨rfl, rfl, rfl⟩⟩
theorem rw_X10_index : rowsB 56711858 prog_49_method_77_code Om47 Ok47 Ol47 false 0 = true := by decide +kernel
theorem mt_X10_index {s0 : State} (hN : NCs s0) : MethOK s0 56711858 := ⟨Om47, Ok47, Ol47, false, 0, prog_49_method_77_code, none, [], ow47 hN, (fun h => by cases h), rfl, rowsB_s rw_X10_index, (plainFor_of_name pl_47), Or.inl ⟨rfl, rfl, rfl⟩⟩
theorem rw_X10_choice : rowsB 56974002 prog_49_method_81_code Om47 Ok47 Ol47 false 0 = true := by decide +kernel
theorem mt_X10_choice {s0 : State} (hN : NCs s0) : MethOK s0 56974002 := ⟨Om47, Ok47, Ol47, false, 0, prog_49_method_81_code, none, [], ow47 hN, (fun h => by cases h), rfl, rowsB_s rw_X10_choice, (plainFor_of_name pl_47), Or.inl ⟨rfl, rfl, rfl⟩⟩
theorem rw_X10_inner : rowsB 57236147 prog_49_method_80_code Om47 Ok47 Ol47 false 0 = true := by decide +kernel
theorem mt_X10_inner {s0 : State} (hN : NCs s0) : MethOK s0 57236147 := ⟨Om47, Ok47, Ol47, false, 0, prog_49_method_80_code, none, [], ow47 hN, (fun h => by cases h), rfl, rowsB_s rw_X10_inner, (plainFor_of_name pl_47), Or.inl ⟨rfl, rfl, rfl⟩⟩
theorem rw_X10_takeKept : rowsB 57498290 prog_49_method_18_code Om47 Ok47 Ol47 false 2 = true := by decide +kernel
theorem mt_X10_takeKept {s0 : State} (hN : NCs s0) : MethOK s0 57498290 := ⟨Om47, Ok47, Ol47, false, 2, prog_49_method_18_code, some Jvm.ClassFile.FieldType.boolean, [], ow47 hN, (fun h => by cases h), rfl, rowsB_s rw_X10_takeKept, (plainFor_of_name pl_47), Or.inl ⟨rfl, rfl, rfl⟩⟩
theorem rw_X10_cases : rowsB 57760434 prog_49_method_82_code Om47 Ok47 Ol47 false 0 = true := by decide +kernel
theorem mt_X10_cases {s0 : State} (hN : NCs s0) : MethOK s0 57760434 := ⟨Om47, Ok47, Ol47, false, 0, prog_49_method_82_code, none, [], ow47 hN, (fun h => by cases h), rfl, rowsB_s rw_X10_cases, (plainFor_of_name pl_47), Or.inl ⟨rfl, rfl, rfl⟩⟩
theorem rw_X10_oneCase : rowsB 58022578 prog_49_method_83_code Om47 Ok47 Ol47 false 0 = true := by decide +kernel
theorem mt_X10_oneCase {s0 : State} (hN : NCs s0) : MethOK s0 58022578 := ⟨Om47, Ok47, Ol47, false, 0, prog_49_method_83_code, none, [], ow47 hN, (fun h => by cases h), rfl, rowsB_s rw_X10_oneCase, (plainFor_of_name pl_47), Or.inl ⟨rfl, rfl, rfl⟩⟩
theorem rw_X10_out : rowsB 58284722 prog_49_method_86_code Om47 Ok47 Ol47 false 0 = true := by decide +kernel
theorem mt_X10_out {s0 : State} (hN : NCs s0) : MethOK s0 58284722 := ⟨Om47, Ok47, Ol47, false, 0, prog_49_method_86_code, none, [], ow47 hN, (fun h => by cases h), rfl, rowsB_s rw_X10_out, (plainFor_of_name pl_47), Or.inl ⟨rfl, rfl, rfl⟩⟩
theorem rw_X10_esac : rowsB 58546866 prog_49_method_87_code Om47 Ok47 Ol47 false 0 = true := by decide +kernel
theorem mt_X10_esac {s0 : State} (hN : NCs s0) : MethOK s0 58546866 := ⟨Om47, Ok47, Ol47, false, 0, prog_49_method_87_code, none, [], ow47 hN, (fun h => by cases h), rfl, rowsB_s rw_X10_esac, (plainFor_of_name pl_47), Or.inl ⟨rfl, rfl, rfl⟩⟩
theorem rw_X10_choiceBegins : rowsB 58809010 prog_49_method_84_code Om47 Ok47 Ol47 false 0 = true := by decide +kernel
theorem mt_X10_choiceBegins {s0 : State} (hN : NCs s0) : MethOK s0 58809010 := ⟨Om47, Ok47, Ol47, false, 0, prog_49_method_84_code, none, [], ow47 hN, (fun h => by cases h), rfl, rowsB_s rw_X10_choiceBegins, (plainFor_of_name pl_47), Or.inl ⟨rfl, rfl, rfl⟩⟩
theorem rw_X10_choiceTag : rowsB 59071154 prog_49_method_85_code Om47 Ok47 Ol47 false 0 = true := by decide +kernel
theorem mt_X10_choiceTag {s0 : State} (hN : NCs s0) : MethOK s0 59071154 := ⟨Om47, Ok47, Ol47, false, 0, prog_49_method_85_code, none, [], ow47 hN, (fun h => by cases h), rfl, rowsB_s rw_X10_choiceTag, (plainFor_of_name pl_47), Or.inl ⟨rfl, rfl, rfl⟩⟩
theorem rw_X10_loop : rowsB 59333298 prog_49_method_88_code Om47 Ok47 Ol47 false 0 = true := by decide +kernel
theorem mt_X10_loop {s0 : State} (hN : NCs s0) : MethOK s0 59333298 := ⟨Om47, Ok47, Ol47, false, 0, prog_49_method_88_code, none, [], ow47 hN, (fun h => by cases h), rfl, rowsB_s rw_X10_loop, (plainFor_of_name pl_47), Or.inl ⟨rfl, rfl, rfl⟩⟩
theorem rw_X10_print : rowsB 59595442 prog_49_method_79_code Om47 Ok47 Ol47 false 0 = true := by decide +kernel
theorem mt_X10_print {s0 : State} (hN : NCs s0) : MethOK s0 59595442 := ⟨Om47, Ok47, Ol47, false, 0, prog_49_method_79_code, none, [], ow47 hN, (fun h => by cases h), rfl, rowsB_s rw_X10_print, (plainFor_of_name pl_47), Or.inl ⟨rfl, rfl, rfl⟩⟩
theorem rw_X10_begins : rowsB 59857586 prog_49_method_78_code Om47 Ok47 Ol47 false 0 = true := by decide +kernel
theorem mt_X10_begins {s0 : State} (hN : NCs s0) : MethOK s0 59857586 := ⟨Om47, Ok47, Ol47, false, 0, prog_49_method_78_code, none, [], ow47 hN, (fun h => by cases h), rfl, rowsB_s rw_X10_begins, (plainFor_of_name pl_47), Or.inl ⟨rfl, rfl, rfl⟩⟩
theorem rw_X10_blames : rowsB 60119731 prog_49_method_107_code Om47 Ok47 Ol47 false 2 = true := by decide +kernel
theorem mt_X10_blames {s0 : State} (hN : NCs s0) : MethOK s0 60119731 := ⟨Om47, Ok47, Ol47, false, 2, prog_49_method_107_code, some Jvm.ClassFile.FieldType.boolean, [], ow47 hN, (fun h => by cases h), rfl, rowsB_s rw_X10_blames, (plainFor_of_name pl_47), Or.inl ⟨rfl, rfl, rfl⟩⟩
theorem rw_X10_settleNames : rowsB 60381873 prog_49_method_104_code Om47 Ok47 Ol47 false 0 = true := by decide +kernel
theorem mt_X10_settleNames {s0 : State} (hN : NCs s0) : MethOK s0 60381873 := ⟨Om47, Ok47, Ol47, false, 0, prog_49_method_104_code, none, [], ow47 hN, (fun h => by cases h), rfl, rowsB_s rw_X10_settleNames, (plainFor_of_name pl_47), Or.inl ⟨rfl, rfl, rfl⟩⟩
theorem rw_X10_checkModes : rowsB 60644017 prog_49_method_109_code Om47 Ok47 Ol47 false 2 = true := by decide +kernel
theorem mt_X10_checkModes {s0 : State} (hN : NCs s0) : MethOK s0 60644017 := ⟨Om47, Ok47, Ol47, false, 2, prog_49_method_109_code, some Jvm.ClassFile.FieldType.boolean, [], ow47 hN, (fun h => by cases h), rfl, rowsB_s rw_X10_checkModes, (plainFor_of_name pl_47), Or.inl ⟨rfl, rfl, rfl⟩⟩
theorem rw_X10_isBehind : rowsB 60906163 prog_49_method_108_code Om47 Ok47 Ol47 false 2 = true := by decide +kernel
theorem mt_X10_isBehind {s0 : State} (hN : NCs s0) : MethOK s0 60906163 := ⟨Om47, Ok47, Ol47, false, 2, prog_49_method_108_code, some Jvm.ClassFile.FieldType.boolean, [], ow47 hN, (fun h => by cases h), rfl, rowsB_s rw_X10_isBehind, (plainFor_of_name pl_47), Or.inl ⟨rfl, rfl, rfl⟩⟩
theorem rw_X10_comesBack : rowsB 61168307 prog_49_method_106_code Om47 Ok47 Ol47 false 2 = true := by decide +kernel
theorem mt_X10_comesBack {s0 : State} (hN : NCs s0) : MethOK s0 61168307 := ⟨Om47, Ok47, Ol47, false, 2, prog_49_method_106_code, some Jvm.ClassFile.FieldType.boolean, [], ow47 hN, (fun h => by cases h), rfl, rowsB_s rw_X10_comesBack, (plainFor_of_name pl_47), Or.inl ⟨rfl, rfl, rfl⟩⟩
theorem rw_X10_goTo : rowsB 61430450 prog_49_method_105_code Om47 Ok47 Ol47 false 0 = true := by decide +kernel
theorem mt_X10_goTo {s0 : State} (hN : NCs s0) : MethOK s0 61430450 := ⟨Om47, Ok47, Ol47, false, 0, prog_49_method_105_code, none, [], ow47 hN, (fun h => by cases h), rfl, rowsB_s rw_X10_goTo, (plainFor_of_name pl_47), Or.inl ⟨rfl, rfl, rfl⟩⟩
theorem rw_X10_isBadUnion : rowsB 61692594 prog_49_method_110_code Om47 Ok47 Ol47 false 2 = true := by decide +kernel
theorem mt_X10_isBadUnion {s0 : State} (hN : NCs s0) : MethOK s0 61692594 := ⟨Om47, Ok47, Ol47, false, 2, prog_49_method_110_code, some Jvm.ClassFile.FieldType.boolean, [], ow47 hN, (fun h => by cases h), rfl, rowsB_s rw_X10_isBadUnion, (plainFor_of_name pl_47), Or.inl ⟨rfl, rfl, rfl⟩⟩
theorem rw_X10_flatten : rowsB 61954739 prog_49_method_97_code Om47 Ok47 Ol47 false 1 = true := by decide +kernel
theorem mt_X10_flatten {s0 : State} (hN : NCs s0) : MethOK s0 61954739 := ⟨Om47, Ok47, Ol47, false, 1, prog_49_method_97_code, some Jvm.ClassFile.FieldType.int, [], ow47 hN, (fun h => by cases h), rfl, rowsB_s rw_X10_flatten, (plainFor_of_name pl_47), Or.inl ⟨rfl, rfl, rfl⟩⟩
theorem rw_X10_plain : rowsB 62216882 prog_49_method_94_code Om47 Ok47 Ol47 false 1 = true := by decide +kernel
theorem mt_X10_plain {s0 : State} (hN : NCs s0) : MethOK s0 62216882 := ⟨Om47, Ok47, Ol47, false, 1, prog_49_method_94_code, some Jvm.ClassFile.FieldType.int, [], ow47 hN, (fun h => by cases h), rfl, rowsB_s rw_X10_plain, (plainFor_of_name pl_47), Or.inl ⟨rfl, rfl, rfl⟩⟩
theorem rw_X10_areOne : rowsB 62479027 prog_49_method_101_code Om47 Ok47 Ol47 false 2 = true := by decide +kernel
theorem mt_X10_areOne {s0 : State} (hN : NCs s0) : MethOK s0 62479027 := ⟨Om47, Ok47, Ol47, false, 2, prog_49_method_101_code, some Jvm.ClassFile.FieldType.boolean, [], ow47 hN, (fun h => by cases h), rfl, rowsB_s rw_X10_areOne, (plainFor_of_name pl_47), Or.inl ⟨rfl, rfl, rfl⟩⟩
theorem rw_X10_pairOf : rowsB 62741171 prog_49_method_98_code Om47 Ok47 Ol47 false 1 = true := by decide +kernel
theorem mt_X10_pairOf {s0 : State} (hN : NCs s0) : MethOK s0 62741171 := ⟨Om47, Ok47, Ol47, false, 1, prog_49_method_98_code, some Jvm.ClassFile.FieldType.int, [], ow47 hN, (fun h => by cases h), rfl, rowsB_s rw_X10_pairOf, (plainFor_of_name pl_47), Or.inl ⟨rfl, rfl, rfl⟩⟩
theorem rw_X10_mayBe : rowsB 63003314 prog_49_method_99_code Om47 Ok47 Ol47 false 2 = true := by decide +kernel
theorem mt_X10_mayBe {s0 : State} (hN : NCs s0) : MethOK s0 63003314 := ⟨Om47, Ok47, Ol47, false, 2, prog_49_method_99_code, some Jvm.ClassFile.FieldType.boolean, [], ow47 hN, (fun h => by cases h), rfl, rowsB_s rw_X10_mayBe, (plainFor_of_name pl_47), Or.inl ⟨rfl, rfl, rfl⟩⟩
theorem rw_X10_haveLike : rowsB 63265459 prog_49_method_100_code Om47 Ok47 Ol47 false 2 = true := by decide +kernel
theorem mt_X10_haveLike {s0 : State} (hN : NCs s0) : MethOK s0 63265459 := ⟨Om47, Ok47, Ol47, false, 2, prog_49_method_100_code, some Jvm.ClassFile.FieldType.boolean, [], ow47 hN, (fun h => by cases h), rfl, rowsB_s rw_X10_haveLike, (plainFor_of_name pl_47), Or.inl ⟨rfl, rfl, rfl⟩⟩
theorem rw_X10_stripped : rowsB 63527602 prog_49_method_111_code Om47 Ok47 Ol47 false 1 = true := by decide +kernel
theorem mt_X10_stripped {s0 : State} (hN : NCs s0) : MethOK s0 63527602 := ⟨Om47, Ok47, Ol47, false, 1, prog_49_method_111_code, some Jvm.ClassFile.FieldType.int, [], ow47 hN, (fun h => by cases h), rfl, rowsB_s rw_X10_stripped, (plainFor_of_name pl_47), Or.inl ⟨rfl, rfl, rfl⟩⟩
theorem rw_X10_numberNodes : rowsB 63789746 prog_49_method_89_code Om47 Ok47 Ol47 false 0 = true := by decide +kernel
theorem mt_X10_numberNodes {s0 : State} (hN : NCs s0) : MethOK s0 63789746 := ⟨Om47, Ok47, Ol47, false, 0, prog_49_method_89_code, none, [], ow47 hN, (fun h => by cases h), rfl, rowsB_s rw_X10_numberNodes, (plainFor_of_name pl_47), Or.inl ⟨rfl, rfl, rfl⟩⟩
theorem rw_X10_judge : rowsB 64051889 prog_49_method_141_code Om47 Ok47 Ol47 false 2 = true := by decide +kernel
theorem mt_X10_judge {s0 : State} (hN : NCs s0) : MethOK s0 64051889 := ⟨Om47, Ok47, Ol47, false, 2, prog_49_method_141_code, some Jvm.ClassFile.FieldType.boolean, [], ow47 hN, (fun h => by cases h), rfl, rowsB_s rw_X10_judge, (plainFor_of_name pl_47), Or.inl ⟨rfl, rfl, rfl⟩⟩
theorem rw_X10_begins0 : rowsB 64314034 prog_49_method_142_code Om47 Ok47 Ol47 false 2 = true := by decide +kernel
theorem mt_X10_begins0 {s0 : State} (hN : NCs s0) : MethOK s0 64314034 := ⟨Om47, Ok47, Ol47, false, 2, prog_49_method_142_code, some Jvm.ClassFile.FieldType.boolean, [], ow47 hN, (fun h => by cases h), rfl, rowsB_s rw_X10_begins0, (plainFor_of_name pl_47), Or.inl ⟨rfl, rfl, rfl⟩⟩
theorem rw_X10_findTag : rowsB 64576178 prog_49_method_130_code Om47 Ok47 Ol47 false 2 = true := by decide +kernel
theorem mt_X10_findTag {s0 : State} (hN : NCs s0) : MethOK s0 64576178 := ⟨Om47, Ok47, Ol47, false, 2, prog_49_method_130_code, some Jvm.ClassFile.FieldType.boolean, [], ow47 hN, (fun h => by cases h), rfl, rowsB_s rw_X10_findTag, (plainFor_of_name pl_47), Or.inl ⟨rfl, rfl, rfl⟩⟩
theorem rw_X10_up : rowsB 64838322 prog_49_method_92_code Om47 Ok47 Ol47 false 1 = true := by decide +kernel
theorem mt_X10_up {s0 : State} (hN : NCs s0) : MethOK s0 64838322 := ⟨Om47, Ok47, Ol47, false, 1, prog_49_method_92_code, some Jvm.ClassFile.FieldType.int, [], ow47 hN, (fun h => by cases h), rfl, rowsB_s rw_X10_up, (plainFor_of_name pl_47), Or.inl ⟨rfl, rfl, rfl⟩⟩
theorem rw_X10_inSerial : rowsB 65100467 prog_49_method_133_code Om47 Ok47 Ol47 false 2 = true := by decide +kernel
theorem mt_X10_inSerial {s0 : State} (hN : NCs s0) : MethOK s0 65100467 := ⟨Om47, Ok47, Ol47, false, 2, prog_49_method_133_code, some Jvm.ClassFile.FieldType.boolean, [], ow47 hN, (fun h => by cases h), rfl, rowsB_s rw_X10_inSerial, (plainFor_of_name pl_47), Or.inl ⟨rfl, rfl, rfl⟩⟩
theorem rw_X10_means : rowsB 65362613 prog_49_method_132_code Om47 Ok47 Ol47 false 0 = true := by decide +kernel
theorem mt_X10_means {s0 : State} (hN : NCs s0) : MethOK s0 65362613 := ⟨Om47, Ok47, Ol47, false, 0, prog_49_method_132_code, none, [], ow47 hN, (fun h => by cases h), rfl, rowsB_s rw_X10_means, (plainFor_of_name pl_47), Or.inl ⟨rfl, rfl, rfl⟩⟩
theorem rw_X10_inParameters : rowsB 65624755 prog_49_method_134_code Om47 Ok47 Ol47 false 2 = true := by decide +kernel
theorem mt_X10_inParameters {s0 : State} (hN : NCs s0) : MethOK s0 65624755 := ⟨Om47, Ok47, Ol47, false, 2, prog_49_method_134_code, some Jvm.ClassFile.FieldType.boolean, [], ow47 hN, (fun h => by cases h), rfl, rowsB_s rw_X10_inParameters, (plainFor_of_name pl_47), Or.inl ⟨rfl, rfl, rfl⟩⟩
theorem rw_X10_which : rowsB 65886898 prog_49_method_93_code Om47 Ok47 Ol47 false 1 = true := by decide +kernel
theorem mt_X10_which {s0 : State} (hN : NCs s0) : MethOK s0 65886898 := ⟨Om47, Ok47, Ol47, false, 1, prog_49_method_93_code, some Jvm.ClassFile.FieldType.int, [], ow47 hN, (fun h => by cases h), rfl, rowsB_s rw_X10_which, (plainFor_of_name pl_47), Or.inl ⟨rfl, rfl, rfl⟩⟩
theorem rw_X10_numbersOf : rowsB 66149042 prog_49_method_131_code Om47 Ok47 Ol47 false 1 = true := by decide +kernel
theorem mt_X10_numbersOf {s0 : State} (hN : NCs s0) : MethOK s0 66149042 := ⟨Om47, Ok47, Ol47, false, 1, prog_49_method_131_code, some Jvm.ClassFile.FieldType.int, [], ow47 hN, (fun h => by cases h), rfl, rowsB_s rw_X10_numbersOf, (plainFor_of_name pl_47), Or.inl ⟨rfl, rfl, rfl⟩⟩
theorem rw_X10_basic : rowsB 66322434 prog_49_method_96_code Om47 Ok47 Ol47 false 1 = true := by decide +kernel
theorem mt_X10_basic {s0 : State} (hN : NCs s0) : MethOK s0 66322434 := ⟨Om47, Ok47, Ol47, false, 1, prog_49_method_96_code, some Jvm.ClassFile.FieldType.int, [], ow47 hN, (fun h => by cases h), rfl, rowsB_s rw_X10_basic, (plainFor_of_name pl_47), Or.inl ⟨rfl, rfl, rfl⟩⟩
theorem rw_X10_ends0 : rowsB 66673330 prog_49_method_147_code Om47 Ok47 Ol47 false 2 = true := by decide +kernel
theorem mt_X10_ends0 {s0 : State} (hN : NCs s0) : MethOK s0 66673330 := ⟨Om47, Ok47, Ol47, false, 2, prog_49_method_147_code, some Jvm.ClassFile.FieldType.boolean, [], ow47 hN, (fun h => by cases h), rfl, rowsB_s rw_X10_ends0, (plainFor_of_name pl_47), Or.inl ⟨rfl, rfl, rfl⟩⟩
theorem rw_X10_routineMode : rowsB 66935474 prog_49_method_148_code Om47 Ok47 Ol47 false 2 = true := by decide +kernel
theorem mt_X10_routineMode {s0 : State} (hN : NCs s0) : MethOK s0 66935474 := ⟨Om47, Ok47, Ol47, false, 2, prog_49_method_148_code, some Jvm.ClassFile.FieldType.boolean, [], ow47 hN, (fun h => by cases h), rfl, rowsB_s rw_X10_routineMode, (plainFor_of_name pl_47), Or.inl ⟨rfl, rfl, rfl⟩⟩
theorem rw_X10_part : rowsB 67197619 prog_49_method_90_code Om47 Ok47 Ol47 false 1 = true := by decide +kernel
theorem mt_X10_part {s0 : State} (hN : NCs s0) : MethOK s0 67197619 := ⟨Om47, Ok47, Ol47, false, 1, prog_49_method_90_code, some Jvm.ClassFile.FieldType.int, [], ow47 hN, (fun h => by cases h), rfl, rowsB_s rw_X10_part, (plainFor_of_name pl_47), Or.inl ⟨rfl, rfl, rfl⟩⟩
theorem rw_X10_operates : rowsB 67459763 prog_49_method_149_code Om47 Ok47 Ol47 false 2 = true := by decide +kernel
theorem mt_X10_operates {s0 : State} (hN : NCs s0) : MethOK s0 67459763 := ⟨Om47, Ok47, Ol47, false, 2, prog_49_method_149_code, some Jvm.ClassFile.FieldType.boolean, [], ow47 hN, (fun h => by cases h), rfl, rowsB_s rw_X10_operates, (plainFor_of_name pl_47), Or.inl ⟨rfl, rfl, rfl⟩⟩
theorem rw_X10_findOperation : rowsB 67721908 prog_49_method_135_code Om47 Ok47 Ol47 false 2 = true := by decide +kernel
theorem mt_X10_findOperation {s0 : State} (hN : NCs s0) : MethOK s0 67721908 := ⟨Om47, Ok47, Ol47, false, 2, prog_49_method_135_code, some Jvm.ClassFile.FieldType.boolean, [], ow47 hN, (fun h => by cases h), rfl, rowsB_s rw_X10_findOperation, (plainFor_of_name pl_47), Or.inl ⟨rfl, rfl, rfl⟩⟩
theorem rw_X10_firm : rowsB 67984052 prog_49_method_114_code Om47 Ok47 Ol47 false 2 = true := by decide +kernel
theorem mt_X10_firm {s0 : State} (hN : NCs s0) : MethOK s0 67984052 := ⟨Om47, Ok47, Ol47, false, 2, prog_49_method_114_code, some Jvm.ClassFile.FieldType.boolean, [], ow47 hN, (fun h => by cases h), rfl, rowsB_s rw_X10_firm, (plainFor_of_name pl_47), Or.inl ⟨rfl, rfl, rfl⟩⟩
theorem rw_X10_unites : rowsB 68246195 prog_49_method_103_code Om47 Ok47 Ol47 false 2 = true := by decide +kernel
theorem mt_X10_unites {s0 : State} (hN : NCs s0) : MethOK s0 68246195 := ⟨Om47, Ok47, Ol47, false, 2, prog_49_method_103_code, some Jvm.ClassFile.FieldType.boolean, [], ow47 hN, (fun h => by cases h), rfl, rowsB_s rw_X10_unites, (plainFor_of_name pl_47), Or.inl ⟨rfl, rfl, rfl⟩⟩
theorem rw_X10_isMember : rowsB 68508339 prog_49_method_102_code Om47 Ok47 Ol47 false 2 = true := by decide +kernel
theorem mt_X10_isMember {s0 : State} (hN : NCs s0) : MethOK s0 68508339 := ⟨Om47, Ok47, Ol47, false, 2, prog_49_method_102_code, some Jvm.ClassFile.FieldType.boolean, [], ow47 hN, (fun h => by cases h), rfl, rowsB_s rw_X10_isMember, (plainFor_of_name pl_47), Or.inl ⟨rfl, rfl, rfl⟩⟩
theorem rw_X10_lay : rowsB 68770483 prog_49_method_112_code Om47 Ok47 Ol47 false 0 = true := by decide +kernel
theorem mt_X10_lay {s0 : State} (hN : NCs s0) : MethOK s0 68770483 := ⟨Om47, Ok47, Ol47, false, 0, prog_49_method_112_code, none, [], ow47 hN, (fun h => by cases h), rfl, rowsB_s rw_X10_lay, (plainFor_of_name pl_47), Or.inl ⟨rfl, rfl, rfl⟩⟩
theorem rw_X10_strip : rowsB 69032625 prog_49_method_113_code Om47 Ok47 Ol47 false 2 = true := by decide +kernel
theorem mt_X10_strip {s0 : State} (hN : NCs s0) : MethOK s0 69032625 := ⟨Om47, Ok47, Ol47, false, 2, prog_49_method_113_code, some Jvm.ClassFile.FieldType.boolean, [], ow47 hN, (fun h => by cases h), rfl, rowsB_s rw_X10_strip, (plainFor_of_name pl_47), Or.inl ⟨rfl, rfl, rfl⟩⟩
theorem rw_X10_standardOne : rowsB 69294771 prog_49_method_140_code Om47 Ok47 Ol47 false 2 = true := by decide +kernel
theorem mt_X10_standardOne {s0 : State} (hN : NCs s0) : MethOK s0 69294771 := ⟨Om47, Ok47, Ol47, false, 2, prog_49_method_140_code, some Jvm.ClassFile.FieldType.boolean, [], ow47 hN, (fun h => by cases h), rfl, rowsB_s rw_X10_standardOne, (plainFor_of_name pl_47), Or.inl ⟨rfl, rfl, rfl⟩⟩
theorem rw_X10_takesOne : rowsB 69556917 prog_49_method_139_code Om47 Ok47 Ol47 false 2 = true := by decide +kernel
theorem mt_X10_takesOne {s0 : State} (hN : NCs s0) : MethOK s0 69556917 := ⟨Om47, Ok47, Ol47, false, 2, prog_49_method_139_code, some Jvm.ClassFile.FieldType.boolean, [], ow47 hN, (fun h => by cases h), rfl, rowsB_s rw_X10_takesOne, (plainFor_of_name pl_47), Or.inl ⟨rfl, rfl, rfl⟩⟩
theorem rw_X10_reaches : rowsB 69819059 prog_49_method_136_code Om47 Ok47 Ol47 false 2 = true := by decide +kernel
theorem mt_X10_reaches {s0 : State} (hN : NCs s0) : MethOK s0 69819059 := ⟨Om47, Ok47, Ol47, false, 2, prog_49_method_136_code, some Jvm.ClassFile.FieldType.boolean, [], ow47 hN, (fun h => by cases h), rfl, rowsB_s rw_X10_reaches, (plainFor_of_name pl_47), Or.inl ⟨rfl, rfl, rfl⟩⟩
theorem rw_X10_standardTwo : rowsB 70081204 prog_49_method_138_code Om47 Ok47 Ol47 false 2 = true := by decide +kernel
theorem mt_X10_standardTwo {s0 : State} (hN : NCs s0) : MethOK s0 70081204 := ⟨Om47, Ok47, Ol47, false, 2, prog_49_method_138_code, some Jvm.ClassFile.FieldType.boolean, [], ow47 hN, (fun h => by cases h), rfl, rowsB_s rw_X10_standardTwo, (plainFor_of_name pl_47), Or.inl ⟨rfl, rfl, rfl⟩⟩
theorem rw_X10_takesBoth : rowsB 70343350 prog_49_method_137_code Om47 Ok47 Ol47 false 2 = true := by decide +kernel
theorem mt_X10_takesBoth {s0 : State} (hN : NCs s0) : MethOK s0 70343350 := ⟨Om47, Ok47, Ol47, false, 2, prog_49_method_137_code, some Jvm.ClassFile.FieldType.boolean, [], ow47 hN, (fun h => by cases h), rfl, rowsB_s rw_X10_takesBoth, (plainFor_of_name pl_47), Or.inl ⟨rfl, rfl, rfl⟩⟩
theorem rw_X10_comesFirm : rowsB 70605491 prog_49_method_129_code Om47 Ok47 Ol47 false 2 = true := by decide +kernel
theorem mt_X10_comesFirm {s0 : State} (hN : NCs s0) : MethOK s0 70605491 := ⟨Om47, Ok47, Ol47, false, 2, prog_49_method_129_code, some Jvm.ClassFile.FieldType.boolean, [], ow47 hN, (fun h => by cases h), rfl, rowsB_s rw_X10_comesFirm, (plainFor_of_name pl_47), Or.inl ⟨rfl, rfl, rfl⟩⟩
theorem rw_X10_settleSteps : rowsB 70867634 prog_49_method_118_code Om47 Ok47 Ol47 false 0 = true := by decide +kernel
theorem mt_X10_settleSteps {s0 : State} (hN : NCs s0) : MethOK s0 70867634 := ⟨Om47, Ok47, Ol47, false, 0, prog_49_method_118_code, none, [], ow47 hN, (fun h => by cases h), rfl, rowsB_s rw_X10_settleSteps, (plainFor_of_name pl_47), Or.inl ⟨rfl, rfl, rfl⟩⟩
theorem rw_X10_selects : rowsB 71129778 prog_49_method_150_code Om47 Ok47 Ol47 false 2 = true := by decide +kernel
theorem mt_X10_selects {s0 : State} (hN : NCs s0) : MethOK s0 71129778 := ⟨Om47, Ok47, Ol47, false, 2, prog_49_method_150_code, some Jvm.ClassFile.FieldType.boolean, [], ow47 hN, (fun h => by cases h), rfl, rowsB_s rw_X10_selects, (plainFor_of_name pl_47), Or.inl ⟨rfl, rfl, rfl⟩⟩
theorem rw_X10_calls : rowsB 71391922 prog_49_method_151_code Om47 Ok47 Ol47 false 2 = true := by decide +kernel
theorem mt_X10_calls {s0 : State} (hN : NCs s0) : MethOK s0 71391922 := ⟨Om47, Ok47, Ol47, false, 2, prog_49_method_151_code, some Jvm.ClassFile.FieldType.boolean, [], ow47 hN, (fun h => by cases h), rfl, rowsB_s rw_X10_calls, (plainFor_of_name pl_47), Or.inl ⟨rfl, rfl, rfl⟩⟩
theorem rw_X10_partsOf : rowsB 71654066 prog_49_method_91_code Om47 Ok47 Ol47 false 1 = true := by decide +kernel
theorem mt_X10_partsOf {s0 : State} (hN : NCs s0) : MethOK s0 71654066 := ⟨Om47, Ok47, Ol47, false, 1, prog_49_method_91_code, some Jvm.ClassFile.FieldType.int, [], ow47 hN, (fun h => by cases h), rfl, rowsB_s rw_X10_partsOf, (plainFor_of_name pl_47), Or.inl ⟨rfl, rfl, rfl⟩⟩
theorem rw_X10_comesStrong : rowsB 71916211 prog_49_method_124_code Om47 Ok47 Ol47 false 2 = true := by decide +kernel
theorem mt_X10_comesStrong {s0 : State} (hN : NCs s0) : MethOK s0 71916211 := ⟨Om47, Ok47, Ol47, false, 2, prog_49_method_124_code, some Jvm.ClassFile.FieldType.boolean, [], ow47 hN, (fun h => by cases h), rfl, rowsB_s rw_X10_comesStrong, (plainFor_of_name pl_47), Or.inl ⟨rfl, rfl, rfl⟩⟩
theorem rw_X10_comesOne : rowsB 72178355 prog_49_method_125_code Om47 Ok47 Ol47 false 2 = true := by decide +kernel
theorem mt_X10_comesOne {s0 : State} (hN : NCs s0) : MethOK s0 72178355 := ⟨Om47, Ok47, Ol47, false, 2, prog_49_method_125_code, some Jvm.ClassFile.FieldType.boolean, [], ow47 hN, (fun h => by cases h), rfl, rowsB_s rw_X10_comesOne, (plainFor_of_name pl_47), Or.inl ⟨rfl, rfl, rfl⟩⟩
theorem rw_X10_isMixed : rowsB 72440498 prog_49_method_119_code Om47 Ok47 Ol47 false 2 = true := by decide +kernel
theorem mt_X10_isMixed {s0 : State} (hN : NCs s0) : MethOK s0 72440498 := ⟨Om47, Ok47, Ol47, false, 2, prog_49_method_119_code, some Jvm.ClassFile.FieldType.boolean, [], ow47 hN, (fun h => by cases h), rfl, rowsB_s rw_X10_isMixed, (plainFor_of_name pl_47), Or.inl ⟨rfl, rfl, rfl⟩⟩
theorem rw_X10_pileEnds : rowsB 72702643 prog_49_method_121_code Om47 Ok47 Ol47 false 0 = true := by decide +kernel
theorem mt_X10_pileEnds {s0 : State} (hN : NCs s0) : MethOK s0 72702643 := ⟨Om47, Ok47, Ol47, false, 0, prog_49_method_121_code, none, [], ow47 hN, (fun h => by cases h), rfl, rowsB_s rw_X10_pileEnds, (plainFor_of_name pl_47), Or.inl ⟨rfl, rfl, rfl⟩⟩
theorem rw_X10_displays : rowsB 72964787 prog_49_method_126_code Om47 Ok47 Ol47 false 2 = true := by decide +kernel
theorem mt_X10_displays {s0 : State} (hN : NCs s0) : MethOK s0 72964787 := ⟨Om47, Ok47, Ol47, false, 2, prog_49_method_126_code, some Jvm.ClassFile.FieldType.boolean, [], ow47 hN, (fun h => by cases h), rfl, rowsB_s rw_X10_displays, (plainFor_of_name pl_47), Or.inl ⟨rfl, rfl, rfl⟩⟩
theorem rw_X10_strong : rowsB 73226931 prog_49_method_115_code Om47 Ok47 Ol47 false 2 = true := by decide +kernel
theorem mt_X10_strong {s0 : State} (hN : NCs s0) : MethOK s0 73226931 := ⟨Om47, Ok47, Ol47, false, 2, prog_49_method_115_code, some Jvm.ClassFile.FieldType.boolean, [], ow47 hN, (fun h => by cases h), rfl, rowsB_s rw_X10_strong, (plainFor_of_name pl_47), Or.inl ⟨rfl, rfl, rfl⟩⟩
theorem rw_X10_kindOf : rowsB 73489074 prog_49_method_95_code Om47 Ok47 Ol47 false 1 = true := by decide +kernel
theorem mt_X10_kindOf {s0 : State} (hN : NCs s0) : MethOK s0 73489074 := ⟨Om47, Ok47, Ol47, false, 1, prog_49_method_95_code, some Jvm.ClassFile.FieldType.int, [], ow47 hN, (fun h => by cases h), rfl, rowsB_s rw_X10_kindOf, (plainFor_of_name pl_47), Or.inl ⟨rfl, rfl, rfl⟩⟩
theorem rw_X10_slices : rowsB 73751218 prog_49_method_152_code Om47 Ok47 Ol47 false 2 = true := by decide +kernel
theorem mt_X10_slices {s0 : State} (hN : NCs s0) : MethOK s0 73751218 := ⟨Om47, Ok47, Ol47, false, 2, prog_49_method_152_code, some Jvm.ClassFile.FieldType.boolean, [], ow47 hN, (fun h => by cases h), rfl, rowsB_s rw_X10_slices, (plainFor_of_name pl_47), Or.inl ⟨rfl, rfl, rfl⟩⟩
theorem rw_X10_behindPart : rowsB 74013364 prog_49_method_144_code Om47 Ok47 Ol47 false 2 = true := by decide +kernel
theorem mt_X10_behindPart {s0 : State} (hN : NCs s0) : MethOK s0 74013364 := ⟨Om47, Ok47, Ol47, false, 2, prog_49_method_144_code, some Jvm.ClassFile.FieldType.boolean, [], ow47 hN, (fun h => by cases h), rfl, rowsB_s rw_X10_behindPart, (plainFor_of_name pl_47), Or.inl ⟨rfl, rfl, rfl⟩⟩
theorem rw_X10_isDeclaration : rowsB 74275506 prog_49_method_143_code Om47 Ok47 Ol47 false 2 = true := by decide +kernel
theorem mt_X10_isDeclaration {s0 : State} (hN : NCs s0) : MethOK s0 74275506 := ⟨Om47, Ok47, Ol47, false, 2, prog_49_method_143_code, some Jvm.ClassFile.FieldType.boolean, [], ow47 hN, (fun h => by cases h), rfl, rowsB_s rw_X10_isDeclaration, (plainFor_of_name pl_47), Or.inl ⟨rfl, rfl, rfl⟩⟩
theorem rw_X10_comes : rowsB 74537651 prog_49_method_128_code Om47 Ok47 Ol47 false 2 = true := by decide +kernel
theorem mt_X10_comes {s0 : State} (hN : NCs s0) : MethOK s0 74537651 := ⟨Om47, Ok47, Ol47, false, 2, prog_49_method_128_code, some Jvm.ClassFile.FieldType.boolean, [], ow47 hN, (fun h => by cases h), rfl, rowsB_s rw_X10_comes, (plainFor_of_name pl_47), Or.inl ⟨rfl, rfl, rfl⟩⟩
theorem rw_X10_settles : rowsB 74799794 prog_49_method_127_code Om47 Ok47 Ol47 false 2 = true := by decide +kernel
theorem mt_X10_settles {s0 : State} (hN : NCs s0) : MethOK s0 74799794 := ⟨Om47, Ok47, Ol47, false, 2, prog_49_method_127_code, some Jvm.ClassFile.FieldType.boolean, [], ow47 hN, (fun h => by cases h), rfl, rowsB_s rw_X10_settles, (plainFor_of_name pl_47), Or.inl ⟨rfl, rfl, rfl⟩⟩
theorem rw_X10_hasNone : rowsB 75061938 prog_49_method_120_code Om47 Ok47 Ol47 false 2 = true := by decide +kernel
theorem mt_X10_hasNone {s0 : State} (hN : NCs s0) : MethOK s0 75061938 := ⟨Om47, Ok47, Ol47, false, 2, prog_49_method_120_code, some Jvm.ClassFile.FieldType.boolean, [], ow47 hN, (fun h => by cases h), rfl, rowsB_s rw_X10_hasNone, (plainFor_of_name pl_47), Or.inl ⟨rfl, rfl, rfl⟩⟩
theorem rw_X10_endMode : rowsB 75324082 prog_49_method_123_code Om47 Ok47 Ol47 false 1 = true := by decide +kernel
theorem mt_X10_endMode {s0 : State} (hN : NCs s0) : MethOK s0 75324082 := ⟨Om47, Ok47, Ol47, false, 1, prog_49_method_123_code, some Jvm.ClassFile.FieldType.int, [], ow47 hN, (fun h => by cases h), rfl, rowsB_s rw_X10_endMode, (plainFor_of_name pl_47), Or.inl ⟨rfl, rfl, rfl⟩⟩
theorem rw_X10_findEnds : rowsB 75586226 prog_49_method_122_code Om47 Ok47 Ol47 false 0 = true := by decide +kernel
theorem mt_X10_findEnds {s0 : State} (hN : NCs s0) : MethOK s0 75586226 := ⟨Om47, Ok47, Ol47, false, 0, prog_49_method_122_code, none, [], ow47 hN, (fun h => by cases h), rfl, rowsB_s rw_X10_findEnds, (plainFor_of_name pl_47), Or.inl ⟨rfl, rfl, rfl⟩⟩
theorem rw_X10_meek : rowsB 75848371 prog_49_method_117_code Om47 Ok47 Ol47 false 2 = true := by decide +kernel
theorem mt_X10_meek {s0 : State} (hN : NCs s0) : MethOK s0 75848371 := ⟨Om47, Ok47, Ol47, false, 2, prog_49_method_117_code, some Jvm.ClassFile.FieldType.boolean, [], ow47 hN, (fun h => by cases h), rfl, rowsB_s rw_X10_meek, (plainFor_of_name pl_47), Or.inl ⟨rfl, rfl, rfl⟩⟩
theorem rw_X10_suits : rowsB 76110515 prog_49_method_116_code Om47 Ok47 Ol47 false 2 = true := by decide +kernel
theorem mt_X10_suits {s0 : State} (hN : NCs s0) : MethOK s0 76110515 := ⟨Om47, Ok47, Ol47, false, 2, prog_49_method_116_code, some Jvm.ClassFile.FieldType.boolean, [], ow47 hN, (fun h => by cases h), rfl, rowsB_s rw_X10_suits, (plainFor_of_name pl_47), Or.inl ⟨rfl, rfl, rfl⟩⟩
theorem rw_X10_compares : rowsB 76372659 prog_49_method_146_code Om47 Ok47 Ol47 false 2 = true := by decide +kernel
theorem mt_X10_compares {s0 : State} (hN : NCs s0) : MethOK s0 76372659 := ⟨Om47, Ok47, Ol47, false, 2, prog_49_method_146_code, some Jvm.ClassFile.FieldType.boolean, [], ow47 hN, (fun h => by cases h), rfl, rowsB_s rw_X10_compares, (plainFor_of_name pl_47), Or.inl ⟨rfl, rfl, rfl⟩⟩
theorem rw_X10_loops : rowsB 76634804 prog_49_method_145_code Om47 Ok47 Ol47 false 2 = true := by decide +kernel
theorem mt_X10_loops {s0 : State} (hN : NCs s0) : MethOK s0 76634804 := ⟨Om47, Ok47, Ol47, false, 2, prog_49_method_145_code, some Jvm.ClassFile.FieldType.boolean, [], ow47 hN, (fun h => by cases h), rfl, rowsB_s rw_X10_loops, (plainFor_of_name pl_47), Or.inl ⟨rfl, rfl, rfl⟩⟩
theorem rw_X10_fails0 : rowsB 76896945 prog_49_method_153_code Om47 Ok47 Ol47 false 2 = true := by decide +kernel
theorem mt_X10_fails0 {s0 : State} (hN : NCs s0) : MethOK s0 76896945 := ⟨Om47, Ok47, Ol47, false, 2, prog_49_method_153_code, some Jvm.ClassFile.FieldType.boolean, [], ow47 hN, (fun h => by cases h), rfl, rowsB_s rw_X10_fails0, (plainFor_of_name pl_47), Or.inl ⟨rfl, rfl, rfl⟩⟩
theorem rw_X10_fault : rowsB 77159090 prog_49_method_155_code Om47 Ok47 Ol47 false 1 = true := by decide +kernel
theorem mt_X10_fault {s0 : State} (hN : NCs s0) : MethOK s0 77159090 := ⟨Om47, Ok47, Ol47, false, 1, prog_49_method_155_code, some Jvm.ClassFile.FieldType.int, [], ow47 hN, (fun h => by cases h), rfl, rowsB_s rw_X10_fault, (plainFor_of_name pl_47), Or.inl ⟨rfl, rfl, rfl⟩⟩
theorem rw_X10_programs : rowsB 77421233 prog_49_method_156_code Om47 Ok47 Ol47 false 1 = true := by decide +kernel
theorem mt_X10_programs {s0 : State} (hN : NCs s0) : MethOK s0 77421233 := ⟨Om47, Ok47, Ol47, false, 1, prog_49_method_156_code, some Jvm.ClassFile.FieldType.int, [], ow47 hN, (fun h => by cases h), rfl, rowsB_s rw_X10_programs, (plainFor_of_name pl_47), Or.inl ⟨rfl, rfl, rfl⟩⟩
theorem rw_X10_clear : rowsB 77683377 prog_49_method_157_code Om47 Ok47 Ol47 false 1 = true := by decide +kernel
theorem mt_X10_clear {s0 : State} (hN : NCs s0) : MethOK s0 77683377 := ⟨Om47, Ok47, Ol47, false, 1, prog_49_method_157_code, some Jvm.ClassFile.FieldType.int, [], ow47 hN, (fun h => by cases h), rfl, rowsB_s rw_X10_clear, (plainFor_of_name pl_47), Or.inl ⟨rfl, rfl, rfl⟩⟩
theorem rw_X10_nodes : rowsB 77945522 prog_49_method_160_code Om47 Ok47 Ol47 false 1 = true := by decide +kernel
theorem mt_X10_nodes {s0 : State} (hN : NCs s0) : MethOK s0 77945522 := ⟨Om47, Ok47, Ol47, false, 1, prog_49_method_160_code, some Jvm.ClassFile.FieldType.int, [], ow47 hN, (fun h => by cases h), rfl, rowsB_s rw_X10_nodes, (plainFor_of_name pl_47), Or.inl ⟨rfl, rfl, rfl⟩⟩
theorem rw_X10_isProgram : rowsB 78207666 prog_49_method_158_code Om47 Ok47 Ol47 false 2 = true := by decide +kernel
theorem mt_X10_isProgram {s0 : State} (hN : NCs s0) : MethOK s0 78207666 := ⟨Om47, Ok47, Ol47, false, 2, prog_49_method_158_code, some Jvm.ClassFile.FieldType.boolean, [], ow47 hN, (fun h => by cases h), rfl, rowsB_s rw_X10_isProgram, (plainFor_of_name pl_47), Or.inl ⟨rfl, rfl, rfl⟩⟩
theorem rw_X10_node : rowsB 78469812 prog_49_method_161_code Om47 Ok47 Ol47 false 1 = true := by decide +kernel
theorem mt_X10_node {s0 : State} (hN : NCs s0) : MethOK s0 78469812 := ⟨Om47, Ok47, Ol47, false, 1, prog_49_method_161_code, some Jvm.ClassFile.FieldType.int, [], ow47 hN, (fun h => by cases h), rfl, rowsB_s rw_X10_node, (plainFor_of_name pl_47), Or.inl ⟨rfl, rfl, rfl⟩⟩
theorem rw_X10_isNode : rowsB 78731955 prog_49_method_159_code Om47 Ok47 Ol47 false 2 = true := by decide +kernel
theorem mt_X10_isNode {s0 : State} (hN : NCs s0) : MethOK s0 78731955 := ⟨Om47, Ok47, Ol47, false, 2, prog_49_method_159_code, some Jvm.ClassFile.FieldType.boolean, [], ow47 hN, (fun h => by cases h), rfl, rowsB_s rw_X10_isNode, (plainFor_of_name pl_47), Or.inl ⟨rfl, rfl, rfl⟩⟩
theorem rw_X10_step : rowsB 78994100 prog_49_method_162_code Om47 Ok47 Ol47 false 1 = true := by decide +kernel
theorem mt_X10_step {s0 : State} (hN : NCs s0) : MethOK s0 78994100 := ⟨Om47, Ok47, Ol47, false, 1, prog_49_method_162_code, some Jvm.ClassFile.FieldType.int, [], ow47 hN, (fun h => by cases h), rfl, rowsB_s rw_X10_step, (plainFor_of_name pl_47), Or.inl ⟨rfl, rfl, rfl⟩⟩
theorem rw_X10_mode : rowsB 79256244 prog_49_method_165_code Om47 Ok47 Ol47 false 1 = true := by decide +kernel
theorem mt_X10_mode {s0 : State} (hN : NCs s0) : MethOK s0 79256244 := ⟨Om47, Ok47, Ol47, false, 1, prog_49_method_165_code, some Jvm.ClassFile.FieldType.int, [], ow47 hN, (fun h => by cases h), rfl, rowsB_s rw_X10_mode, (plainFor_of_name pl_47), Or.inl ⟨rfl, rfl, rfl⟩⟩
theorem rw_X10_walked : rowsB 79518387 prog_49_method_164_code Om47 Ok47 Ol47 false 1 = true := by decide +kernel
theorem mt_X10_walked {s0 : State} (hN : NCs s0) : MethOK s0 79518387 := ⟨Om47, Ok47, Ol47, false, 1, prog_49_method_164_code, some Jvm.ClassFile.FieldType.int, [], ow47 hN, (fun h => by cases h), rfl, rowsB_s rw_X10_walked, (plainFor_of_name pl_47), Or.inl ⟨rfl, rfl, rfl⟩⟩
theorem rw_X10_modeAhead : rowsB 79780530 prog_49_method_163_code Om47 Ok47 Ol47 false 1 = true := by decide +kernel
theorem mt_X10_modeAhead {s0 : State} (hN : NCs s0) : MethOK s0 79780530 := ⟨Om47, Ok47, Ol47, false, 1, prog_49_method_163_code, some Jvm.ClassFile.FieldType.int, [], ow47 hN, (fun h => by cases h), rfl, rowsB_s rw_X10_modeAhead, (plainFor_of_name pl_47), Or.inl ⟨rfl, rfl, rfl⟩⟩
theorem rw_X10_parts : rowsB 80042676 prog_49_method_166_code Om47 Ok47 Ol47 false 1 = true := by decide +kernel
theorem mt_X10_parts {s0 : State} (hN : NCs s0) : MethOK s0 80042676 := ⟨Om47, Ok47, Ol47, false, 1, prog_49_method_166_code, some Jvm.ClassFile.FieldType.int, [], ow47 hN, (fun h => by cases h), rfl, rowsB_s rw_X10_parts, (plainFor_of_name pl_47), Or.inl ⟨rfl, rfl, rfl⟩⟩
theorem rw_X10_one : rowsB 80304821 prog_49_method_167_code Om47 Ok47 Ol47 false 2 = true := by decide +kernel
theorem mt_X10_one {s0 : State} (hN : NCs s0) : MethOK s0 80304821 := ⟨Om47, Ok47, Ol47, false, 2, prog_49_method_167_code, some Jvm.ClassFile.FieldType.boolean, [], ow47 hN, (fun h => by cases h), rfl, rowsB_s rw_X10_one, (plainFor_of_name pl_47), Or.inl ⟨rfl, rfl, rfl⟩⟩
theorem rw_X10_meant : rowsB 80566963 prog_49_method_168_code Om47 Ok47 Ol47 false 1 = true := by decide +kernel
theorem mt_X10_meant {s0 : State} (hN : NCs s0) : MethOK s0 80566963 := ⟨Om47, Ok47, Ol47, false, 1, prog_49_method_168_code, some Jvm.ClassFile.FieldType.int, [], ow47 hN, (fun h => by cases h), rfl, rowsB_s rw_X10_meant, (plainFor_of_name pl_47), Or.inl ⟨rfl, rfl, rfl⟩⟩
theorem rw_X10_run : rowsB 80829108 prog_49_method_234_code Om47 Ok47 Ol47 false 1 = true := by decide +kernel
theorem mt_X10_run {s0 : State} (hN : NCs s0) : MethOK s0 80829108 := ⟨Om47, Ok47, Ol47, false, 1, prog_49_method_234_code, some Jvm.ClassFile.FieldType.int, [], ow47 hN, (fun h => by cases h), rfl, rowsB_s rw_X10_run, (plainFor_of_name pl_47), Or.inl ⟨rfl, rfl, rfl⟩⟩
theorem rw_X10_works : rowsB 81091251 prog_49_method_233_code Om47 Ok47 Ol47 false 0 = true := by decide +kernel
theorem mt_X10_works {s0 : State} (hN : NCs s0) : MethOK s0 81091251 := ⟨Om47, Ok47, Ol47, false, 0, prog_49_method_233_code, none, [], ow47 hN, (fun h => by cases h), rfl, rowsB_s rw_X10_works, (plainFor_of_name pl_47), Or.inl ⟨rfl, rfl, rfl⟩⟩
theorem rw_X10_beginValues : rowsB 81353393 prog_49_method_171_code Om47 Ok47 Ol47 false 0 = true := by decide +kernel
theorem mt_X10_beginValues {s0 : State} (hN : NCs s0) : MethOK s0 81353393 := ⟨Om47, Ok47, Ol47, false, 0, prog_49_method_171_code, none, [], ow47 hN, (fun h => by cases h), rfl, rowsB_s rw_X10_beginValues, (plainFor_of_name pl_47), Or.inl ⟨rfl, rfl, rfl⟩⟩
theorem rw_X10_value : rowsB 81615542 prog_49_method_169_code Om47 Ok47 Ol47 false 1 = true := by decide +kernel
theorem mt_X10_value {s0 : State} (hN : NCs s0) : MethOK s0 81615542 := ⟨Om47, Ok47, Ol47, false, 1, prog_49_method_169_code, some Jvm.ClassFile.FieldType.int, [], ow47 hN, (fun h => by cases h), rfl, rowsB_s rw_X10_value, (plainFor_of_name pl_47), Or.inl ⟨rfl, rfl, rfl⟩⟩
theorem rw_X10_enter : rowsB 81877682 prog_49_method_187_code Om47 Ok47 Ol47 false 0 = true := by decide +kernel
theorem mt_X10_enter {s0 : State} (hN : NCs s0) : MethOK s0 81877682 := ⟨Om47, Ok47, Ol47, false, 0, prog_49_method_187_code, none, [], ow47 hN, (fun h => by cases h), rfl, rowsB_s rw_X10_enter, (plainFor_of_name pl_47), Or.inl ⟨rfl, rfl, rfl⟩⟩
theorem rw_X10_takesStep : rowsB 82139826 prog_49_method_186_code Om47 Ok47 Ol47 false 2 = true := by decide +kernel
theorem mt_X10_takesStep {s0 : State} (hN : NCs s0) : MethOK s0 82139826 := ⟨Om47, Ok47, Ol47, false, 2, prog_49_method_186_code, some Jvm.ClassFile.FieldType.boolean, [], ow47 hN, (fun h => by cases h), rfl, rowsB_s rw_X10_takesStep, (plainFor_of_name pl_47), Or.inl ⟨rfl, rfl, rfl⟩⟩
theorem rw_X10_failsAt : rowsB 82401971 prog_49_method_185_code Om47 Ok47 Ol47 false 2 = true := by decide +kernel
theorem mt_X10_failsAt {s0 : State} (hN : NCs s0) : MethOK s0 82401971 := ⟨Om47, Ok47, Ol47, false, 2, prog_49_method_185_code, some Jvm.ClassFile.FieldType.boolean, [], ow47 hN, (fun h => by cases h), rfl, rowsB_s rw_X10_failsAt, (plainFor_of_name pl_47), Or.inl ⟨rfl, rfl, rfl⟩⟩
theorem rw_X10_turn : rowsB 82664114 prog_49_method_195_code Om47 Ok47 Ol47 false 0 = true := by decide +kernel
theorem mt_X10_turn {s0 : State} (hN : NCs s0) : MethOK s0 82664114 := ⟨Om47, Ok47, Ol47, false, 0, prog_49_method_195_code, none, [], ow47 hN, (fun h => by cases h), rfl, rowsB_s rw_X10_turn, (plainFor_of_name pl_47), Or.inl ⟨rfl, rfl, rfl⟩⟩
theorem rw_X10_beginsWork : rowsB 82926259 prog_49_method_196_code Om47 Ok47 Ol47 false 0 = true := by decide +kernel
theorem mt_X10_beginsWork {s0 : State} (hN : NCs s0) : MethOK s0 82926259 := ⟨Om47, Ok47, Ol47, false, 0, prog_49_method_196_code, none, [], ow47 hN, (fun h => by cases h), rfl, rowsB_s rw_X10_beginsWork, (plainFor_of_name pl_47), Or.inl ⟨rfl, rfl, rfl⟩⟩
theorem rw_X10_beginRange : rowsB 83188405 prog_49_method_188_code Om47 Ok47 Ol47 false 2 = true := by decide +kernel
theorem mt_X10_beginRange {s0 : State} (hN : NCs s0) : MethOK s0 83188405 := ⟨Om47, Ok47, Ol47, false, 2, prog_49_method_188_code, some Jvm.ClassFile.FieldType.boolean, [], ow47 hN, (fun h => by cases h), rfl, rowsB_s rw_X10_beginRange, (plainFor_of_name pl_47), Or.inl ⟨rfl, rfl, rfl⟩⟩
theorem rw_X10_partsFirst : rowsB 83450546 prog_49_method_191_code Om47 Ok47 Ol47 false 1 = true := by decide +kernel
theorem mt_X10_partsFirst {s0 : State} (hN : NCs s0) : MethOK s0 83450546 := ⟨Om47, Ok47, Ol47, false, 1, prog_49_method_191_code, some Jvm.ClassFile.FieldType.int, [], ow47 hN, (fun h => by cases h), rfl, rowsB_s rw_X10_partsFirst, (plainFor_of_name pl_47), Or.inl ⟨rfl, rfl, rfl⟩⟩
theorem rw_X10_orderOf : rowsB 83712690 prog_49_method_184_code Om47 Ok47 Ol47 false 4 = true := by decide +kernel
theorem mt_X10_orderOf {s0 : State} (hN : NCs s0) : MethOK s0 83712690 := ⟨Om47, Ok47, Ol47, false, 4, prog_49_method_184_code, some Jvm.ClassFile.FieldType.long, [], ow47 hN, (fun h => by cases h), rfl, rowsB_s rw_X10_orderOf, (plainFor_of_name pl_47), Or.inl ⟨rfl, rfl, rfl⟩⟩
theorem rw_X10_drawOf : rowsB 83974834 prog_49_method_183_code Om47 Ok47 Ol47 false 1 = true := by decide +kernel
theorem mt_X10_drawOf {s0 : State} (hN : NCs s0) : MethOK s0 83974834 := ⟨Om47, Ok47, Ol47, false, 1, prog_49_method_183_code, some Jvm.ClassFile.FieldType.int, [], ow47 hN, (fun h => by cases h), rfl, rowsB_s rw_X10_drawOf, (plainFor_of_name pl_47), Or.inl ⟨rfl, rfl, rfl⟩⟩
theorem rw_X10_acts : rowsB 84236979 prog_49_method_206_code Om47 Ok47 Ol47 false 0 = true := by decide +kernel
theorem mt_X10_acts {s0 : State} (hN : NCs s0) : MethOK s0 84236979 := ⟨Om47, Ok47, Ol47, false, 0, prog_49_method_206_code, none, [], ow47 hN, (fun h => by cases h), rfl, rowsB_s rw_X10_acts, (plainFor_of_name pl_47), Or.inl ⟨rfl, rfl, rfl⟩⟩
theorem rw_X10_numberValue : rowsB 84499122 prog_49_method_170_code Om47 Ok47 Ol47 false 1 = true := by decide +kernel
theorem mt_X10_numberValue {s0 : State} (hN : NCs s0) : MethOK s0 84499122 := ⟨Om47, Ok47, Ol47, false, 1, prog_49_method_170_code, some Jvm.ClassFile.FieldType.int, [], ow47 hN, (fun h => by cases h), rfl, rowsB_s rw_X10_numberValue, (plainFor_of_name pl_47), Or.inl ⟨rfl, rfl, rfl⟩⟩
theorem rw_X10_yields : rowsB 84761267 prog_49_method_194_code Om47 Ok47 Ol47 false 0 = true := by decide +kernel
theorem mt_X10_yields {s0 : State} (hN : NCs s0) : MethOK s0 84761267 := ⟨Om47, Ok47, Ol47, false, 0, prog_49_method_194_code, none, [], ow47 hN, (fun h => by cases h), rfl, rowsB_s rw_X10_yields, (plainFor_of_name pl_47), Or.inl ⟨rfl, rfl, rfl⟩⟩
theorem rw_X10_named0 : rowsB 85023411 prog_49_method_207_code Om47 Ok47 Ol47 false 0 = true := by decide +kernel
theorem mt_X10_named0 {s0 : State} (hN : NCs s0) : MethOK s0 85023411 := ⟨Om47, Ok47, Ol47, false, 0, prog_49_method_207_code, none, [], ow47 hN, (fun h => by cases h), rfl, rowsB_s rw_X10_named0, (plainFor_of_name pl_47), Or.inl ⟨rfl, rfl, rfl⟩⟩
theorem rw_X10_rangeNodeOf : rowsB 85285554 prog_49_method_190_code Om47 Ok47 Ol47 false 1 = true := by decide +kernel
theorem mt_X10_rangeNodeOf {s0 : State} (hN : NCs s0) : MethOK s0 85285554 := ⟨Om47, Ok47, Ol47, false, 1, prog_49_method_190_code, some Jvm.ClassFile.FieldType.int, [], ow47 hN, (fun h => by cases h), rfl, rowsB_s rw_X10_rangeNodeOf, (plainFor_of_name pl_47), Or.inl ⟨rfl, rfl, rfl⟩⟩
theorem rw_X10_rangeOf : rowsB 85547698 prog_49_method_189_code Om47 Ok47 Ol47 false 1 = true := by decide +kernel
theorem mt_X10_rangeOf {s0 : State} (hN : NCs s0) : MethOK s0 85547698 := ⟨Om47, Ok47, Ol47, false, 1, prog_49_method_189_code, some Jvm.ClassFile.FieldType.int, [], ow47 hN, (fun h => by cases h), rfl, rowsB_s rw_X10_rangeOf, (plainFor_of_name pl_47), Or.inl ⟨rfl, rfl, rfl⟩⟩
theorem rw_X10_ageOf : rowsB 85809842 prog_49_method_208_code Om47 Ok47 Ol47 false 1 = true := by decide +kernel
theorem mt_X10_ageOf {s0 : State} (hN : NCs s0) : MethOK s0 85809842 := ⟨Om47, Ok47, Ol47, false, 1, prog_49_method_208_code, some Jvm.ClassFile.FieldType.int, [], ow47 hN, (fun h => by cases h), rfl, rowsB_s rw_X10_ageOf, (plainFor_of_name pl_47), Or.inl ⟨rfl, rfl, rfl⟩⟩
theorem rw_X10_left : rowsB 86071986 prog_49_method_192_code Om47 Ok47 Ol47 false 1 = true := by decide +kernel
theorem mt_X10_left {s0 : State} (hN : NCs s0) : MethOK s0 86071986 := ⟨Om47, Ok47, Ol47, false, 1, prog_49_method_192_code, some Jvm.ClassFile.FieldType.int, [], ow47 hN, (fun h => by cases h), rfl, rowsB_s rw_X10_left, (plainFor_of_name pl_47), Or.inl ⟨rfl, rfl, rfl⟩⟩
theorem rw_X10_variable : rowsB 86334131 prog_49_method_210_code Om47 Ok47 Ol47 false 0 = true := by decide +kernel
theorem mt_X10_variable {s0 : State} (hN : NCs s0) : MethOK s0 86334131 := ⟨Om47, Ok47, Ol47, false, 0, prog_49_method_210_code, none, [], ow47 hN, (fun h => by cases h), rfl, rowsB_s rw_X10_variable, (plainFor_of_name pl_47), Or.inl ⟨rfl, rfl, rfl⟩⟩
theorem rw_X10_newPlace : rowsB 86596275 prog_49_method_209_code Om47 Ok47 Ol47 false 1 = true := by decide +kernel
theorem mt_X10_newPlace {s0 : State} (hN : NCs s0) : MethOK s0 86596275 := ⟨Om47, Ok47, Ol47, false, 1, prog_49_method_209_code, some Jvm.ClassFile.FieldType.int, [], ow47 hN, (fun h => by cases h), rfl, rowsB_s rw_X10_newPlace, (plainFor_of_name pl_47), Or.inl ⟨rfl, rfl, rfl⟩⟩
theorem rw_X10_right : rowsB 86858418 prog_49_method_193_code Om47 Ok47 Ol47 false 1 = true := by decide +kernel
theorem mt_X10_right {s0 : State} (hN : NCs s0) : MethOK s0 86858418 := ⟨Om47, Ok47, Ol47, false, 1, prog_49_method_193_code, some Jvm.ClassFile.FieldType.int, [], ow47 hN, (fun h => by cases h), rfl, rowsB_s rw_X10_right, (plainFor_of_name pl_47), Or.inl ⟨rfl, rfl, rfl⟩⟩
theorem rw_X10_sizeOf : rowsB 87120562 prog_49_method_172_code Om47 Ok47 Ol47 false 1 = true := by decide +kernel
theorem mt_X10_sizeOf {s0 : State} (hN : NCs s0) : MethOK s0 87120562 := ⟨Om47, Ok47, Ol47, false, 1, prog_49_method_172_code, some Jvm.ClassFile.FieldType.int, [], ow47 hN, (fun h => by cases h), rfl, rowsB_s rw_X10_sizeOf, (plainFor_of_name pl_47), Or.inl ⟨rfl, rfl, rfl⟩⟩
theorem rw_X10_makePlace : rowsB 87382708 prog_49_method_174_code Om47 Ok47 Ol47 false 1 = true := by decide +kernel
theorem mt_X10_makePlace {s0 : State} (hN : NCs s0) : MethOK s0 87382708 := ⟨Om47, Ok47, Ol47, false, 1, prog_49_method_174_code, some Jvm.ClassFile.FieldType.int, [], ow47 hN, (fun h => by cases h), rfl, rowsB_s rw_X10_makePlace, (plainFor_of_name pl_47), Or.inl ⟨rfl, rfl, rfl⟩⟩
theorem rw_X10_onePlace : rowsB 87644852 prog_49_method_175_code Om47 Ok47 Ol47 false 0 = true := by decide +kernel
theorem mt_X10_onePlace {s0 : State} (hN : NCs s0) : MethOK s0 87644852 := ⟨Om47, Ok47, Ol47, false, 0, prog_49_method_175_code, none, [], ow47 hN, (fun h => by cases h), rfl, rowsB_s rw_X10_onePlace, (plainFor_of_name pl_47), Or.inl ⟨rfl, rfl, rfl⟩⟩
theorem rw_X10_elements : rowsB 87906996 prog_49_method_176_code Om47 Ok47 Ol47 false 0 = true := by decide +kernel
theorem mt_X10_elements {s0 : State} (hN : NCs s0) : MethOK s0 87906996 := ⟨Om47, Ok47, Ol47, false, 0, prog_49_method_176_code, none, [], ow47 hN, (fun h => by cases h), rfl, rowsB_s rw_X10_elements, (plainFor_of_name pl_47), Or.inl ⟨rfl, rfl, rfl⟩⟩
theorem rw_X10_assigns : rowsB 88169139 prog_49_method_213_code Om47 Ok47 Ol47 false 0 = true := by decide +kernel
theorem mt_X10_assigns {s0 : State} (hN : NCs s0) : MethOK s0 88169139 := ⟨Om47, Ok47, Ol47, false, 0, prog_49_method_213_code, none, [], ow47 hN, (fun h => by cases h), rfl, rowsB_s rw_X10_assigns, (plainFor_of_name pl_47), Or.inl ⟨rfl, rfl, rfl⟩⟩
theorem rw_X10_isThere : rowsB 88431283 prog_49_method_204_code Om47 Ok47 Ol47 false 2 = true := by decide +kernel
theorem mt_X10_isThere {s0 : State} (hN : NCs s0) : MethOK s0 88431283 := ⟨Om47, Ok47, Ol47, false, 2, prog_49_method_204_code, some Jvm.ClassFile.FieldType.boolean, [], ow47 hN, (fun h => by cases h), rfl, rowsB_s rw_X10_isThere, (plainFor_of_name pl_47), Or.inl ⟨rfl, rfl, rfl⟩⟩
