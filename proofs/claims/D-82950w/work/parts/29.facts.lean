/-! METHODS: what is known of those that are called (printed by gen/tables.py) -/
set_option maxRecDepth 100000
theorem nmh_0 : notMH "AlgolHouse" := ⟨by decide +kernel, by decide +kernel⟩
theorem nmh_1 : notMH "AlgolHouse$Assignation" := ⟨by decide +kernel, by decide +kernel⟩
theorem nmh_2 : notMH "AlgolHouse$Call" := ⟨by decide +kernel, by decide +kernel⟩
theorem nmh_3 : notMH "AlgolHouse$Candidate" := ⟨by decide +kernel, by decide +kernel⟩
theorem nmh_4 : notMH "AlgolHouse$Case" := ⟨by decide +kernel, by decide +kernel⟩
theorem nmh_5 : notMH "AlgolHouse$Cast" := ⟨by decide +kernel, by decide +kernel⟩
theorem nmh_6 : notMH "AlgolHouse$Declaration" := ⟨by decide +kernel, by decide +kernel⟩
theorem nmh_7 : notMH "AlgolHouse$Display" := ⟨by decide +kernel, by decide +kernel⟩
theorem nmh_8 : notMH "AlgolHouse$Edge" := ⟨by decide +kernel, by decide +kernel⟩
theorem nmh_9 : notMH "AlgolHouse$Ends" := ⟨by decide +kernel, by decide +kernel⟩
theorem nmh_10 : notMH "AlgolHouse$Fault" := ⟨by decide +kernel, by decide +kernel⟩
theorem nmh_11 : notMH "AlgolHouse$Formula" := ⟨by decide +kernel, by decide +kernel⟩
theorem nmh_12 : notMH "AlgolHouse$Frame" := ⟨by decide +kernel, by decide +kernel⟩
theorem nmh_13 : notMH "AlgolHouse$Generator" := ⟨by decide +kernel, by decide +kernel⟩
theorem nmh_14 : notMH "AlgolHouse$Identity" := ⟨by decide +kernel, by decide +kernel⟩
theorem nmh_15 : notMH "AlgolHouse$If" := ⟨by decide +kernel, by decide +kernel⟩
theorem nmh_16 : notMH "AlgolHouse$Is" := ⟨by decide +kernel, by decide +kernel⟩
theorem nmh_17 : notMH "AlgolHouse$Judge" := ⟨by decide +kernel, by decide +kernel⟩
theorem nmh_18 : notMH "AlgolHouse$Lexer" := ⟨by decide +kernel, by decide +kernel⟩
theorem nmh_19 : notMH "AlgolHouse$Loop" := ⟨by decide +kernel, by decide +kernel⟩
theorem nmh_20 : notMH "AlgolHouse$Machine" := ⟨by decide +kernel, by decide +kernel⟩
theorem nmh_21 : notMH "AlgolHouse$Meaning" := ⟨by decide +kernel, by decide +kernel⟩
theorem nmh_22 : notMH "AlgolHouse$Mode" := ⟨by decide +kernel, by decide +kernel⟩
theorem nmh_23 : notMH "AlgolHouse$Modes" := ⟨by decide +kernel, by decide +kernel⟩
theorem nmh_24 : notMH "AlgolHouse$Nil" := ⟨by decide +kernel, by decide +kernel⟩
theorem nmh_25 : notMH "AlgolHouse$Node" := ⟨by decide +kernel, by decide +kernel⟩
theorem nmh_26 : notMH "AlgolHouse$Op" := ⟨by decide +kernel, by decide +kernel⟩
theorem nmh_27 : notMH "AlgolHouse$Operation" := ⟨by decide +kernel, by decide +kernel⟩
theorem nmh_28 : notMH "AlgolHouse$Outcome" := ⟨by decide +kernel, by decide +kernel⟩
theorem nmh_29 : notMH "AlgolHouse$Parser" := ⟨by decide +kernel, by decide +kernel⟩
theorem nmh_30 : notMH "AlgolHouse$Path" := ⟨by decide +kernel, by decide +kernel⟩
theorem nmh_31 : notMH "AlgolHouse$Place" := ⟨by decide +kernel, by decide +kernel⟩
theorem nmh_32 : notMH "AlgolHouse$Plain" := ⟨by decide +kernel, by decide +kernel⟩
theorem nmh_33 : notMH "AlgolHouse$Print" := ⟨by decide +kernel, by decide +kernel⟩
theorem nmh_34 : notMH "AlgolHouse$Program" := ⟨by decide +kernel, by decide +kernel⟩
theorem nmh_35 : notMH "AlgolHouse$Range" := ⟨by decide +kernel, by decide +kernel⟩
theorem nmh_36 : notMH "AlgolHouse$Routine" := ⟨by decide +kernel, by decide +kernel⟩
theorem nmh_37 : notMH "AlgolHouse$Scope" := ⟨by decide +kernel, by decide +kernel⟩
theorem nmh_38 : notMH "AlgolHouse$Selection" := ⟨by decide +kernel, by decide +kernel⟩
theorem nmh_39 : notMH "AlgolHouse$Serial" := ⟨by decide +kernel, by decide +kernel⟩
theorem nmh_40 : notMH "AlgolHouse$Skip" := ⟨by decide +kernel, by decide +kernel⟩
theorem nmh_41 : notMH "AlgolHouse$Slice" := ⟨by decide +kernel, by decide +kernel⟩
theorem nmh_42 : notMH "AlgolHouse$Tag" := ⟨by decide +kernel, by decide +kernel⟩
theorem nmh_43 : notMH "AlgolHouse$Value" := ⟨by decide +kernel, by decide +kernel⟩
theorem nmh_44 : notMH "AlgolHouse$Variable" := ⟨by decide +kernel, by decide +kernel⟩
theorem nmh_45 : notMH "AlgolHouse$When" := ⟨by decide +kernel, by decide +kernel⟩
theorem nmh_46 : notMH "AlgolHouseLaw" := ⟨by decide +kernel, by decide +kernel⟩
theorem nmh_47 : notMH "AlgolHouseModel" := ⟨by decide +kernel, by decide +kernel⟩
theorem nmh_48 : notMH "java/lang/Boolean" := ⟨by decide +kernel, by decide +kernel⟩
theorem nmh_49 : notMH "java/lang/Exception" := ⟨by decide +kernel, by decide +kernel⟩
theorem nmh_50 : notMH "java/lang/IllegalArgumentException" := ⟨by decide +kernel, by decide +kernel⟩
theorem nmh_51 : notMH "java/lang/IllegalStateException" := ⟨by decide +kernel, by decide +kernel⟩
theorem nmh_52 : notMH "java/lang/IndexOutOfBoundsException" := ⟨by decide +kernel, by decide +kernel⟩
theorem nmh_53 : notMH "java/lang/Integer" := ⟨by decide +kernel, by decide +kernel⟩
theorem nmh_54 : notMH "java/lang/Long" := ⟨by decide +kernel, by decide +kernel⟩
theorem nmh_55 : notMH "java/lang/Math" := ⟨by decide +kernel, by decide +kernel⟩
theorem nmh_56 : notMH "java/lang/Number" := ⟨by decide +kernel, by decide +kernel⟩
theorem nmh_57 : notMH "java/lang/Object" := ⟨by decide +kernel, by decide +kernel⟩
theorem nmh_58 : notMH "java/lang/RuntimeException" := ⟨by decide +kernel, by decide +kernel⟩
theorem nmh_59 : notMH "java/lang/String" := ⟨by decide +kernel, by decide +kernel⟩
theorem nmh_60 : notMH "java/lang/StringLatin1" := ⟨by decide +kernel, by decide +kernel⟩
theorem nmh_61 : notMH "java/lang/System" := ⟨by decide +kernel, by decide +kernel⟩
theorem nmh_62 : notMH "java/lang/Throwable" := ⟨by decide +kernel, by decide +kernel⟩
theorem nmh_63 : notMH "java/util/AbstractCollection" := ⟨by decide +kernel, by decide +kernel⟩
theorem nmh_64 : notMH "java/util/AbstractList" := ⟨by decide +kernel, by decide +kernel⟩
theorem nmh_65 : notMH "java/util/ArrayList" := ⟨by decide +kernel, by decide +kernel⟩
theorem nmh_66 : notMH "java/util/Arrays" := ⟨by decide +kernel, by decide +kernel⟩
theorem nmh_67 : notMH "java/util/Objects" := ⟨by decide +kernel, by decide +kernel⟩
theorem nmh_68 : notMH "jdk/internal/util/ArraysSupport" := ⟨by decide +kernel, by decide +kernel⟩
theorem nmh_69 : notMH "jdk/internal/util/Preconditions" := ⟨by decide +kernel, by decide +kernel⟩
theorem ini_0 : Cond.initialized "AlgolHouse" ∈ lw_all := lw_g (lw_at lw_m1 1 rfl) rfl
theorem ini_1 : Cond.initialized "AlgolHouse$Assignation" ∈ lw_all := lw_g (lw_at lw_m1 62 rfl) rfl
theorem ini_2 : Cond.initialized "AlgolHouse$Call" ∈ lw_all := lw_g (lw_at lw_m1 49 rfl) rfl
theorem ini_3 : Cond.initialized "AlgolHouse$Candidate" ∈ lw_all := lw_g (lw_at lw_m1 45 rfl) rfl
theorem ini_4 : Cond.initialized "AlgolHouse$Case" ∈ lw_all := lw_g (lw_at lw_m1 59 rfl) rfl
theorem ini_5 : Cond.initialized "AlgolHouse$Cast" ∈ lw_all := lw_g (lw_at lw_m1 48 rfl) rfl
theorem ini_6 : Cond.initialized "AlgolHouse$Declaration" ∈ lw_all := lw_g (lw_at lw_m1 46 rfl) rfl
theorem ini_7 : Cond.initialized "AlgolHouse$Display" ∈ lw_all := lw_g (lw_at lw_m1 42 rfl) rfl
theorem ini_8 : Cond.initialized "AlgolHouse$Edge" ∈ lw_all := lw_g (lw_at lw_m1 52 rfl) rfl
theorem ini_9 : Cond.initialized "AlgolHouse$Ends" ∈ lw_all := lw_g (lw_at lw_m1 35 rfl) rfl
theorem ini_10 : Cond.initialized "AlgolHouse$Fault" ∈ lw_all := lw_g (lw_at lw_m1 27 rfl) rfl
theorem ini_11 : Cond.initialized "AlgolHouse$Formula" ∈ lw_all := lw_g (lw_at lw_m1 51 rfl) rfl
theorem ini_12 : Cond.initialized "AlgolHouse$Frame" ∈ lw_all := lw_g (lw_at lw_m1 73 rfl) rfl
theorem ini_13 : Cond.initialized "AlgolHouse$Generator" ∈ lw_all := lw_g (lw_at lw_m1 54 rfl) rfl
theorem ini_14 : Cond.initialized "AlgolHouse$Identity" ∈ lw_all := lw_g (lw_at lw_m1 47 rfl) rfl
theorem ini_15 : Cond.initialized "AlgolHouse$If" ∈ lw_all := lw_g (lw_at lw_m1 57 rfl) rfl
theorem ini_16 : Cond.initialized "AlgolHouse$Is" ∈ lw_all := lw_g (lw_at lw_m1 63 rfl) rfl
theorem ini_17 : Cond.initialized "AlgolHouse$Judge" ∈ lw_all := lw_g (lw_at lw_m1 7 rfl) rfl
theorem ini_18 : Cond.initialized "AlgolHouse$Lexer" ∈ lw_all := lw_g (lw_at lw_m1 2 rfl) rfl
theorem ini_19 : Cond.initialized "AlgolHouse$Loop" ∈ lw_all := lw_g (lw_at lw_m1 61 rfl) rfl
theorem ini_20 : Cond.initialized "AlgolHouse$Machine" ∈ lw_all := lw_g (lw_at lw_m1 26 rfl) rfl
theorem ini_21 : Cond.initialized "AlgolHouse$Meaning" ∈ lw_all := lw_g (lw_at lw_m1 68 rfl) rfl
theorem ini_22 : Cond.initialized "AlgolHouse$Mode" ∈ lw_all := lw_g (lw_at lw_m1 13 rfl) rfl
theorem ini_23 : Cond.initialized "AlgolHouse$Modes" ∈ lw_all := lw_g (lw_at lw_m1 8 rfl) rfl
theorem ini_24 : Cond.initialized "AlgolHouse$Nil" ∈ lw_all := lw_g (lw_at lw_m1 64 rfl) rfl
theorem ini_25 : Cond.initialized "AlgolHouse$Node" ∈ lw_all := lw_g (lw_at lw_m1 34 rfl) rfl
theorem ini_26 : Cond.initialized "AlgolHouse$Op" ∈ lw_all := lw_g (lw_at lw_m1 65 rfl) rfl
theorem ini_27 : Cond.initialized "AlgolHouse$Operation" ∈ lw_all := lw_g (lw_at lw_m1 69 rfl) rfl
theorem ini_28 : Cond.initialized "AlgolHouse$Outcome" ∈ lw_all := lw_g (lw_at lw_m1 76 rfl) rfl
theorem ini_29 : Cond.initialized "AlgolHouse$Parser" ∈ lw_all := lw_g (lw_at lw_m1 33 rfl) rfl
theorem ini_30 : Cond.initialized "AlgolHouse$Path" ∈ lw_all := lw_g (lw_at lw_m1 12 rfl) rfl
theorem ini_31 : Cond.initialized "AlgolHouse$Place" ∈ lw_all := lw_g (lw_at lw_m1 74 rfl) rfl
theorem ini_32 : Cond.initialized "AlgolHouse$Plain" ∈ lw_all := lw_g (lw_at lw_m1 55 rfl) rfl
theorem ini_33 : Cond.initialized "AlgolHouse$Print" ∈ lw_all := lw_g (lw_at lw_m1 60 rfl) rfl
theorem ini_34 : Cond.initialized "AlgolHouse$Program" ∈ lw_all := lw_g (lw_at lw_m1 70 rfl) rfl
theorem ini_35 : Cond.initialized "AlgolHouse$Range" ∈ lw_all := lw_g (lw_at lw_m1 28 rfl) rfl
theorem ini_36 : Cond.initialized "AlgolHouse$Routine" ∈ lw_all := lw_g (lw_at lw_m1 43 rfl) rfl
theorem ini_37 : Cond.initialized "AlgolHouse$Scope" ∈ lw_all := lw_g (lw_at lw_m1 67 rfl) rfl
theorem ini_38 : Cond.initialized "AlgolHouse$Selection" ∈ lw_all := lw_g (lw_at lw_m1 53 rfl) rfl
theorem ini_39 : Cond.initialized "AlgolHouse$Serial" ∈ lw_all := lw_g (lw_at lw_m1 36 rfl) rfl
theorem ini_40 : Cond.initialized "AlgolHouse$Skip" ∈ lw_all := lw_g (lw_at lw_m1 41 rfl) rfl
theorem ini_41 : Cond.initialized "AlgolHouse$Slice" ∈ lw_all := lw_g (lw_at lw_m1 50 rfl) rfl
theorem ini_42 : Cond.initialized "AlgolHouse$Tag" ∈ lw_all := lw_g (lw_at lw_m1 56 rfl) rfl
theorem ini_43 : Cond.initialized "AlgolHouse$Value" ∈ lw_all := lw_g (lw_at lw_m1 75 rfl) rfl
theorem ini_44 : Cond.initialized "AlgolHouse$Variable" ∈ lw_all := lw_g (lw_at lw_m1 66 rfl) rfl
theorem ini_45 : Cond.initialized "AlgolHouse$When" ∈ lw_all := lw_g (lw_at lw_m1 58 rfl) rfl
theorem ini_46 : Cond.initialized "AlgolHouseLaw" ∈ lw_all := lw_g (lw_at lw_m1 0 rfl) rfl
theorem ini_47 : Cond.initialized "AlgolHouseModel" ∈ lw_all := lw_g (lw_at lw_m1 29 rfl) rfl
theorem ini_48 : Cond.initialized "java/lang/Boolean" ∈ lw_all := lw_g (lw_at lw_m1 40 rfl) rfl
theorem ini_49 : Cond.initialized "java/lang/Exception" ∈ lw_all := lw_g (lw_at lw_m1 15 rfl) rfl
theorem ini_50 : Cond.initialized "java/lang/IllegalArgumentException" ∈ lw_all := lw_g (lw_at lw_m1 17 rfl) rfl
theorem ini_51 : Cond.initialized "java/lang/IllegalStateException" ∈ lw_all := lw_g (lw_at lw_m1 30 rfl) rfl
theorem ini_52 : Cond.initialized "java/lang/IndexOutOfBoundsException" ∈ lw_all := lw_g (lw_at lw_m1 71 rfl) rfl
theorem ini_53 : Cond.initialized "java/lang/Integer" ∈ lw_all := lw_g (lw_at lw_m1 25 rfl) rfl
theorem ini_54 : Cond.initialized "java/lang/Long" ∈ lw_all := lw_g (lw_at lw_m1 37 rfl) rfl
theorem ini_55 : Cond.initialized "java/lang/Math" ∈ lw_all := lw_g (lw_at lw_m1 21 rfl) rfl
theorem ini_56 : Cond.initialized "java/lang/Number" ∈ lw_all := lw_g (lw_at lw_m1 24 rfl) rfl
theorem ini_58 : Cond.initialized "java/lang/RuntimeException" ∈ lw_all := lw_g (lw_at lw_m1 16 rfl) rfl
theorem ini_59 : Cond.initialized "java/lang/String" ∈ lw_all := lw_g (lw_at lw_m1 3 rfl) rfl
theorem ini_60 : Cond.initialized "java/lang/StringLatin1" ∈ lw_all := lw_g (lw_at lw_m1 4 rfl) rfl
theorem ini_61 : Cond.initialized "java/lang/System" ∈ lw_all := lw_g (lw_at lw_m1 23 rfl) rfl
theorem ini_62 : Cond.initialized "java/lang/Throwable" ∈ lw_all := lw_g (lw_at lw_m1 14 rfl) rfl
theorem ini_63 : Cond.initialized "java/util/AbstractCollection" ∈ lw_all := lw_g (lw_at lw_m1 9 rfl) rfl
theorem ini_64 : Cond.initialized "java/util/AbstractList" ∈ lw_all := lw_g (lw_at lw_m1 10 rfl) rfl
theorem ini_65 : Cond.initialized "java/util/ArrayList" ∈ lw_all := lw_g (lw_at lw_m1 11 rfl) rfl
theorem ini_66 : Cond.initialized "java/util/Arrays" ∈ lw_all := lw_g (lw_at lw_m1 22 rfl) rfl
theorem ini_67 : Cond.initialized "java/util/Objects" ∈ lw_all := lw_g (lw_at lw_m1 44 rfl) rfl
theorem ini_68 : Cond.initialized "jdk/internal/util/ArraysSupport" ∈ lw_all := lw_g (lw_at lw_m1 20 rfl) rfl
theorem ini_69 : Cond.initialized "jdk/internal/util/Preconditions" ∈ lw_all := lw_g (lw_at lw_m1 5 rfl) rfl
theorem mok_X0_read : MOK 2 := ⟨lw_g (lw_at lw_m4 183 rfl) rfl, Or.inl ⟨ini_46, by decide⟩, Nat.le_of_ble_eq_true rfl, Or.inr ⟨_, _, _, _, rfl⟩, nmh_46⟩
theorem np_X0_read : npar (mNm 2).desc = some 2 := by decide +kernel
theorem sm_X0_read : Cond.static (mNm 2) ∈ lw_all := lw_g (lw_at lw_m4 182 rfl) rfl
theorem mok_X0_fault : MOK 262147 := ⟨lw_g (lw_at lw_m14 125 rfl) rfl, Or.inl ⟨ini_46, by decide⟩, Nat.le_of_ble_eq_true rfl, Or.inr ⟨_, _, _, _, rfl⟩, nmh_46⟩
theorem np_X0_fault : npar (mNm 262147).desc = some 3 := by decide +kernel
theorem sm_X0_fault : Cond.static (mNm 262147) ∈ lw_all := lw_g (lw_at lw_m14 124 rfl) rfl
theorem mok_X0_nodes : MOK 524291 := ⟨lw_g (lw_at lw_m14 141 rfl) rfl, Or.inl ⟨ini_46, by decide⟩, Nat.le_of_ble_eq_true rfl, Or.inr ⟨_, _, _, _, rfl⟩, nmh_46⟩
theorem np_X0_nodes : npar (mNm 524291).desc = some 3 := by decide +kernel
theorem sm_X0_nodes : Cond.static (mNm 524291) ∈ lw_all := lw_g (lw_at lw_m14 140 rfl) rfl
theorem mok_X0_node : MOK 786437 := ⟨lw_g (lw_at lw_m14 190 rfl) rfl, Or.inl ⟨ini_46, by decide⟩, Nat.le_of_ble_eq_true rfl, Or.inr ⟨_, _, _, _, rfl⟩, nmh_46⟩
theorem np_X0_node : npar (mNm 786437).desc = some 5 := by decide +kernel
theorem sm_X0_node : Cond.static (mNm 786437) ∈ lw_all := lw_g (lw_at lw_m14 189 rfl) rfl
theorem mok_X0_step : MOK 1048581 := ⟨lw_g (lw_at lw_m15 65 rfl) rfl, Or.inl ⟨ini_46, by decide⟩, Nat.le_of_ble_eq_true rfl, Or.inr ⟨_, _, _, _, rfl⟩, nmh_46⟩
theorem np_X0_step : npar (mNm 1048581).desc = some 5 := by decide +kernel
theorem sm_X0_step : Cond.static (mNm 1048581) ∈ lw_all := lw_g (lw_at lw_m15 64 rfl) rfl
theorem mok_X0_mode : MOK 1310725 := ⟨lw_g (lw_at lw_m15 72 rfl) rfl, Or.inl ⟨ini_46, by decide⟩, Nat.le_of_ble_eq_true rfl, Or.inr ⟨_, _, _, _, rfl⟩, nmh_46⟩
theorem np_X0_mode : npar (mNm 1310725).desc = some 5 := by decide +kernel
theorem sm_X0_mode : Cond.static (mNm 1310725) ∈ lw_all := lw_g (lw_at lw_m15 71 rfl) rfl
theorem mok_X0_parts : MOK 1572869 := ⟨lw_g (lw_at lw_m15 84 rfl) rfl, Or.inl ⟨ini_46, by decide⟩, Nat.le_of_ble_eq_true rfl, Or.inr ⟨_, _, _, _, rfl⟩, nmh_46⟩
theorem np_X0_parts : npar (mNm 1572869).desc = some 5 := by decide +kernel
theorem sm_X0_parts : Cond.static (mNm 1572869) ∈ lw_all := lw_g (lw_at lw_m15 83 rfl) rfl
theorem mok_X0_one : MOK 1835014 := ⟨lw_g (lw_at lw_m15 92 rfl) rfl, Or.inl ⟨ini_46, by decide⟩, Nat.le_of_ble_eq_true rfl, Or.inr ⟨_, _, _, _, rfl⟩, nmh_46⟩
theorem np_X0_one : npar (mNm 1835014).desc = some 6 := by decide +kernel
theorem sm_X0_one : Cond.static (mNm 1835014) ∈ lw_all := lw_g (lw_at lw_m15 91 rfl) rfl
theorem mok_X0_meant : MOK 2097156 := ⟨lw_g (lw_at lw_m15 100 rfl) rfl, Or.inl ⟨ini_46, by decide⟩, Nat.le_of_ble_eq_true rfl, Or.inr ⟨_, _, _, _, rfl⟩, nmh_46⟩
theorem np_X0_meant : npar (mNm 2097156).desc = some 4 := by decide +kernel
theorem sm_X0_meant : Cond.static (mNm 2097156) ∈ lw_all := lw_g (lw_at lw_m15 99 rfl) rfl
theorem mok_X0_run : MOK 2359301 := ⟨lw_g (lw_at lw_m15 109 rfl) rfl, Or.inl ⟨ini_46, by decide⟩, Nat.le_of_ble_eq_true rfl, Or.inr ⟨_, _, _, _, rfl⟩, nmh_46⟩
theorem np_X0_run : npar (mNm 2359301).desc = some 5 := by decide +kernel
theorem sm_X0_run : Cond.static (mNm 2359301) ∈ lw_all := lw_g (lw_at lw_m15 108 rfl) rfl
theorem mok_X0_number : MOK 2621443 := ⟨lw_g (lw_at lw_m18 31 rfl) rfl, Or.inl ⟨ini_46, by decide⟩, Nat.le_of_ble_eq_true rfl, Or.inr ⟨_, _, _, _, rfl⟩, nmh_46⟩
theorem np_X0_number : npar (mNm 2621443).desc = some 3 := by decide +kernel
theorem sm_X0_number : Cond.static (mNm 2621443) ∈ lw_all := lw_g (lw_at lw_m18 30 rfl) rfl
theorem mok_X0_kind : MOK 2883587 := ⟨lw_g (lw_at lw_m18 38 rfl) rfl, Or.inl ⟨ini_46, by decide⟩, Nat.le_of_ble_eq_true rfl, Or.inr ⟨_, _, _, _, rfl⟩, nmh_46⟩
theorem np_X0_kind : npar (mNm 2883587).desc = some 3 := by decide +kernel
theorem sm_X0_kind : Cond.static (mNm 2883587) ∈ lw_all := lw_g (lw_at lw_m18 37 rfl) rfl
theorem mok_X0_ran : MOK 3145731 := ⟨lw_g (lw_at lw_m18 45 rfl) rfl, Or.inl ⟨ini_46, by decide⟩, Nat.le_of_ble_eq_true rfl, Or.inr ⟨_, _, _, _, rfl⟩, nmh_46⟩
theorem np_X0_ran : npar (mNm 3145731).desc = some 3 := by decide +kernel
theorem sm_X0_ran : Cond.static (mNm 3145731) ∈ lw_all := lw_g (lw_at lw_m18 44 rfl) rfl
theorem mok_X0_orders : MOK 3407877 := ⟨lw_g (lw_at lw_m18 52 rfl) rfl, Or.inl ⟨ini_46, by decide⟩, Nat.le_of_ble_eq_true rfl, Or.inr ⟨_, _, _, _, rfl⟩, nmh_46⟩
theorem np_X0_orders : npar (mNm 3407877).desc = some 5 := by decide +kernel
theorem sm_X0_orders : Cond.static (mNm 3407877) ∈ lw_all := lw_g (lw_at lw_m18 51 rfl) rfl
theorem mok_X0_outcome : MOK 3670020 := ⟨lw_g (lw_at lw_m18 102 rfl) rfl, Or.inl ⟨ini_46, by decide⟩, Nat.le_of_ble_eq_true rfl, Or.inr ⟨_, _, _, _, rfl⟩, nmh_46⟩
theorem np_X0_outcome : npar (mNm 3670020).desc = some 4 := by decide +kernel
theorem sm_X0_outcome : Cond.static (mNm 3670020) ∈ lw_all := lw_g (lw_at lw_m18 101 rfl) rfl
theorem mok_X0_outcomes : MOK 3932164 := ⟨lw_g (lw_at lw_m18 109 rfl) rfl, Or.inl ⟨ini_46, by decide⟩, Nat.le_of_ble_eq_true rfl, Or.inr ⟨_, _, _, _, rfl⟩, nmh_46⟩
theorem np_X0_outcomes : npar (mNm 3932164).desc = some 4 := by decide +kernel
theorem sm_X0_outcomes : Cond.static (mNm 3932164) ∈ lw_all := lw_g (lw_at lw_m18 108 rfl) rfl
theorem mok_X1_init : MOK 4196369 := ⟨lw_g (lw_at lw_m1 81 rfl) rfl, Or.inl ⟨ini_0, by decide⟩, Nat.le_of_ble_eq_true rfl, Or.inl ⟨_, _, _, rfl⟩, nmh_0⟩
theorem np_X1_init : npar (mNm 4196369).desc = some 0 := by decide +kernel
theorem im_X1_init : Cond.instanceMethod (mNm 4196369) ∈ lw_all := lw_g (lw_at lw_m1 80 rfl) rfl
theorem mok_X1_type : MOK 4458514 := ⟨lw_g (lw_at lw_m4 159 rfl) rfl, Or.inl ⟨ini_0, by decide⟩, Nat.le_of_ble_eq_true rfl, Or.inl ⟨_, _, _, rfl⟩, nmh_0⟩
theorem np_X1_type : npar (mNm 4458514).desc = some 1 := by decide +kernel
theorem im_X1_type : Cond.instanceMethod (mNm 4458514) ∈ lw_all := lw_g (lw_at lw_m4 157 rfl) rfl
theorem mok_X1_programs : MOK 4720657 := ⟨lw_g (lw_at lw_m4 164 rfl) rfl, Or.inl ⟨ini_0, by decide⟩, Nat.le_of_ble_eq_true rfl, Or.inl ⟨_, _, _, rfl⟩, nmh_0⟩
theorem np_X1_programs : npar (mNm 4720657).desc = some 0 := by decide +kernel
theorem im_X1_programs : Cond.instanceMethod (mNm 4720657) ∈ lw_all := lw_g (lw_at lw_m4 162 rfl) rfl
theorem mok_X1_clear : MOK 4982801 := ⟨lw_g (lw_at lw_m4 172 rfl) rfl, Or.inl ⟨ini_0, by decide⟩, Nat.le_of_ble_eq_true rfl, Or.inl ⟨_, _, _, rfl⟩, nmh_0⟩
theorem np_X1_clear : npar (mNm 4982801).desc = some 0 := by decide +kernel
theorem im_X1_clear : Cond.instanceMethod (mNm 4982801) ∈ lw_all := lw_g (lw_at lw_m4 170 rfl) rfl
theorem mok_X1_told : MOK 5244945 := ⟨lw_g (lw_at lw_m4 180 rfl) rfl, Or.inl ⟨ini_0, by decide⟩, Nat.le_of_ble_eq_true rfl, Or.inl ⟨_, _, _, rfl⟩, nmh_0⟩
theorem np_X1_told : npar (mNm 5244945).desc = some 0 := by decide +kernel
theorem im_X1_told : Cond.instanceMethod (mNm 5244945) ∈ lw_all := lw_g (lw_at lw_m4 178 rfl) rfl
theorem mok_X1_read : MOK 5507089 := ⟨lw_g (lw_at lw_m4 188 rfl) rfl, Or.inl ⟨ini_0, by decide⟩, Nat.le_of_ble_eq_true rfl, Or.inr ⟨_, _, _, _, rfl⟩, nmh_0⟩
theorem np_X1_read : npar (mNm 5507089).desc = some 0 := by decide +kernel
theorem im_X1_read : Cond.instanceMethod (mNm 5507089) ∈ lw_all := lw_g (lw_at lw_m4 186 rfl) rfl
theorem mok_X1_indicant : MOK 5767169 := ⟨lw_g (lw_at lw_m8 160 rfl) rfl, Or.inl ⟨ini_0, by decide⟩, Nat.le_of_ble_eq_true rfl, Or.inl ⟨_, _, _, rfl⟩, nmh_0⟩
theorem np_X1_indicant : npar (mNm 5767169).desc = some 1 := by decide +kernel
theorem sm_X1_indicant : Cond.static (mNm 5767169) ∈ lw_all := lw_g (lw_at lw_m8 159 rfl) rfl
theorem mok_X1_bound : MOK 6029314 := ⟨lw_g (lw_at lw_m13 31 rfl) rfl, Or.inl ⟨ini_0, by decide⟩, Nat.le_of_ble_eq_true rfl, Or.inl ⟨_, _, _, rfl⟩, nmh_0⟩
theorem np_X1_bound : npar (mNm 6029314).desc = some 2 := by decide +kernel
theorem sm_X1_bound : Cond.static (mNm 6029314) ∈ lw_all := lw_g (lw_at lw_m13 30 rfl) rfl
theorem mok_X1_fault : MOK 6293522 := ⟨lw_g (lw_at lw_m14 130 rfl) rfl, Or.inl ⟨ini_0, by decide⟩, Nat.le_of_ble_eq_true rfl, Or.inl ⟨_, _, _, rfl⟩, nmh_0⟩
theorem np_X1_fault : npar (mNm 6293522).desc = some 1 := by decide +kernel
theorem im_X1_fault : Cond.instanceMethod (mNm 6293522) ∈ lw_all := lw_g (lw_at lw_m14 128 rfl) rfl
theorem mok_X1_need : MOK 6553601 := ⟨lw_g (lw_at lw_m14 133 rfl) rfl, Or.inl ⟨ini_0, by decide⟩, Nat.le_of_ble_eq_true rfl, Or.inl ⟨_, _, _, rfl⟩, nmh_0⟩
theorem np_X1_need : npar (mNm 6553601).desc = some 1 := by decide +kernel
theorem sm_X1_need : Cond.static (mNm 6553601) ∈ lw_all := lw_g (lw_at lw_m14 132 rfl) rfl
theorem mok_X1_nodes : MOK 6817810 := ⟨lw_g (lw_at lw_m14 164 rfl) rfl, Or.inl ⟨ini_0, by decide⟩, Nat.le_of_ble_eq_true rfl, Or.inl ⟨_, _, _, rfl⟩, nmh_0⟩
theorem np_X1_nodes : npar (mNm 6817810).desc = some 1 := by decide +kernel
theorem im_X1_nodes : Cond.instanceMethod (mNm 6817810) ∈ lw_all := lw_g (lw_at lw_m14 162 rfl) rfl
theorem mok_X1_program : MOK 7079954 := ⟨lw_g (lw_at lw_m14 168 rfl) rfl, Or.inl ⟨ini_0, by decide⟩, Nat.le_of_ble_eq_true rfl, Or.inl ⟨_, _, _, rfl⟩, nmh_0⟩
theorem np_X1_program : npar (mNm 7079954).desc = some 1 := by decide +kernel
theorem im_X1_program : Cond.instanceMethod (mNm 7079954) ∈ lw_all := lw_g (lw_at lw_m14 167 rfl) rfl
theorem mok_X1_within : MOK 7340034 := ⟨lw_g (lw_at lw_m14 171 rfl) rfl, Or.inl ⟨ini_0, by decide⟩, Nat.le_of_ble_eq_true rfl, Or.inl ⟨_, _, _, rfl⟩, nmh_0⟩
theorem np_X1_within : npar (mNm 7340034).desc = some 2 := by decide +kernel
theorem sm_X1_within : Cond.static (mNm 7340034) ∈ lw_all := lw_g (lw_at lw_m14 170 rfl) rfl
theorem mok_X1_node : MOK 7604244 := ⟨lw_g (lw_at lw_m14 194 rfl) rfl, Or.inl ⟨ini_0, by decide⟩, Nat.le_of_ble_eq_true rfl, Or.inl ⟨_, _, _, rfl⟩, nmh_0⟩
theorem np_X1_node : npar (mNm 7604244).desc = some 3 := by decide +kernel
theorem im_X1_node : Cond.instanceMethod (mNm 7604244) ∈ lw_all := lw_g (lw_at lw_m14 192 rfl) rfl
theorem mok_X1_nodeOf : MOK 7866387 := ⟨lw_g (lw_at lw_m14 198 rfl) rfl, Or.inl ⟨ini_0, by decide⟩, Nat.le_of_ble_eq_true rfl, Or.inl ⟨_, _, _, rfl⟩, nmh_0⟩
theorem np_X1_nodeOf : npar (mNm 7866387).desc = some 2 := by decide +kernel
theorem im_X1_nodeOf : Cond.instanceMethod (mNm 7866387) ∈ lw_all := lw_g (lw_at lw_m14 197 rfl) rfl
theorem mok_X1_step : MOK 8128532 := ⟨lw_g (lw_at lw_m15 69 rfl) rfl, Or.inl ⟨ini_0, by decide⟩, Nat.le_of_ble_eq_true rfl, Or.inl ⟨_, _, _, rfl⟩, nmh_0⟩
theorem np_X1_step : npar (mNm 8128532).desc = some 3 := by decide +kernel
theorem im_X1_step : Cond.instanceMethod (mNm 8128532) ∈ lw_all := lw_g (lw_at lw_m15 67 rfl) rfl
theorem mok_X1_mode : MOK 8390676 := ⟨lw_g (lw_at lw_m15 76 rfl) rfl, Or.inl ⟨ini_0, by decide⟩, Nat.le_of_ble_eq_true rfl, Or.inl ⟨_, _, _, rfl⟩, nmh_0⟩
theorem np_X1_mode : npar (mNm 8390676).desc = some 3 := by decide +kernel
theorem im_X1_mode : Cond.instanceMethod (mNm 8390676) ∈ lw_all := lw_g (lw_at lw_m15 74 rfl) rfl
theorem mok_X1_walked : MOK 8650754 := ⟨lw_g (lw_at lw_m15 79 rfl) rfl, Or.inl ⟨ini_0, by decide⟩, Nat.le_of_ble_eq_true rfl, Or.inl ⟨_, _, _, rfl⟩, nmh_0⟩
theorem np_X1_walked : npar (mNm 8650754).desc = some 2 := by decide +kernel
theorem sm_X1_walked : Cond.static (mNm 8650754) ∈ lw_all := lw_g (lw_at lw_m15 78 rfl) rfl
theorem mok_X1_parts : MOK 8914964 := ⟨lw_g (lw_at lw_m15 88 rfl) rfl, Or.inl ⟨ini_0, by decide⟩, Nat.le_of_ble_eq_true rfl, Or.inl ⟨_, _, _, rfl⟩, nmh_0⟩
theorem np_X1_parts : npar (mNm 8914964).desc = some 3 := by decide +kernel
theorem im_X1_parts : Cond.instanceMethod (mNm 8914964) ∈ lw_all := lw_g (lw_at lw_m15 86 rfl) rfl
theorem mok_X1_one : MOK 9177109 := ⟨lw_g (lw_at lw_m15 96 rfl) rfl, Or.inl ⟨ini_0, by decide⟩, Nat.le_of_ble_eq_true rfl, Or.inl ⟨_, _, _, rfl⟩, nmh_0⟩
theorem np_X1_one : npar (mNm 9177109).desc = some 4 := by decide +kernel
theorem im_X1_one : Cond.instanceMethod (mNm 9177109) ∈ lw_all := lw_g (lw_at lw_m15 94 rfl) rfl
theorem mok_X1_meant : MOK 9439251 := ⟨lw_g (lw_at lw_m15 104 rfl) rfl, Or.inl ⟨ini_0, by decide⟩, Nat.le_of_ble_eq_true rfl, Or.inl ⟨_, _, _, rfl⟩, nmh_0⟩
theorem np_X1_meant : npar (mNm 9439251).desc = some 2 := by decide +kernel
theorem im_X1_meant : Cond.instanceMethod (mNm 9439251) ∈ lw_all := lw_g (lw_at lw_m15 102 rfl) rfl
theorem mok_X1_run : MOK 9701396 := ⟨lw_g (lw_at lw_m15 113 rfl) rfl, Or.inl ⟨ini_0, by decide⟩, Nat.le_of_ble_eq_true rfl, Or.inl ⟨_, _, _, rfl⟩, nmh_0⟩
theorem np_X1_run : npar (mNm 9701396).desc = some 3 := by decide +kernel
theorem im_X1_run : Cond.instanceMethod (mNm 9701396) ∈ lw_all := lw_g (lw_at lw_m15 111 rfl) rfl
theorem mok_X1_number : MOK 9963538 := ⟨lw_g (lw_at lw_m18 35 rfl) rfl, Or.inl ⟨ini_0, by decide⟩, Nat.le_of_ble_eq_true rfl, Or.inl ⟨_, _, _, rfl⟩, nmh_0⟩
theorem np_X1_number : npar (mNm 9963538).desc = some 1 := by decide +kernel
theorem im_X1_number : Cond.instanceMethod (mNm 9963538) ∈ lw_all := lw_g (lw_at lw_m18 33 rfl) rfl
theorem mok_X1_kind : MOK 10225682 := ⟨lw_g (lw_at lw_m18 42 rfl) rfl, Or.inl ⟨ini_0, by decide⟩, Nat.le_of_ble_eq_true rfl, Or.inl ⟨_, _, _, rfl⟩, nmh_0⟩
theorem np_X1_kind : npar (mNm 10225682).desc = some 1 := by decide +kernel
theorem im_X1_kind : Cond.instanceMethod (mNm 10225682) ∈ lw_all := lw_g (lw_at lw_m18 40 rfl) rfl
theorem mok_X1_ran : MOK 10487826 := ⟨lw_g (lw_at lw_m18 49 rfl) rfl, Or.inl ⟨ini_0, by decide⟩, Nat.le_of_ble_eq_true rfl, Or.inl ⟨_, _, _, rfl⟩, nmh_0⟩
theorem np_X1_ran : npar (mNm 10487826).desc = some 1 := by decide +kernel
theorem im_X1_ran : Cond.instanceMethod (mNm 10487826) ∈ lw_all := lw_g (lw_at lw_m18 47 rfl) rfl
theorem mok_X1_orders : MOK 10749972 := ⟨lw_g (lw_at lw_m18 56 rfl) rfl, Or.inl ⟨ini_0, by decide⟩, Nat.le_of_ble_eq_true rfl, Or.inl ⟨_, _, _, rfl⟩, nmh_0⟩
theorem np_X1_orders : npar (mNm 10749972).desc = some 3 := by decide +kernel
theorem im_X1_orders : Cond.instanceMethod (mNm 10749972) ∈ lw_all := lw_g (lw_at lw_m18 54 rfl) rfl
theorem mok_X1_counts : MOK 11012114 := ⟨lw_g (lw_at lw_m18 64 rfl) rfl, Or.inl ⟨ini_0, by decide⟩, Nat.le_of_ble_eq_true rfl, Or.inl ⟨_, _, _, rfl⟩, nmh_0⟩
theorem np_X1_counts : npar (mNm 11012114).desc = some 1 := by decide +kernel
theorem im_X1_counts : Cond.instanceMethod (mNm 11012114) ∈ lw_all := lw_g (lw_at lw_m18 63 rfl) rfl
theorem mok_X1_outcome : MOK 11274259 := ⟨lw_g (lw_at lw_m18 106 rfl) rfl, Or.inl ⟨ini_0, by decide⟩, Nat.le_of_ble_eq_true rfl, Or.inl ⟨_, _, _, rfl⟩, nmh_0⟩
theorem np_X1_outcome : npar (mNm 11274259).desc = some 2 := by decide +kernel
theorem im_X1_outcome : Cond.instanceMethod (mNm 11274259) ∈ lw_all := lw_g (lw_at lw_m18 104 rfl) rfl
theorem mok_X1_outcomes : MOK 11536403 := ⟨lw_g (lw_at lw_m18 113 rfl) rfl, Or.inl ⟨ini_0, by decide⟩, Nat.le_of_ble_eq_true rfl, Or.inl ⟨_, _, _, rfl⟩, nmh_0⟩
theorem np_X1_outcomes : npar (mNm 11536403).desc = some 2 := by decide +kernel
theorem im_X1_outcomes : Cond.instanceMethod (mNm 11536403) ∈ lw_all := lw_g (lw_at lw_m18 111 rfl) rfl
theorem mok_X2_init : MOK 11806801 := ⟨lw_g (lw_at lw_m1 89 rfl) rfl, Or.inl ⟨ini_18, by decide⟩, Nat.le_of_ble_eq_true rfl, Or.inl ⟨_, _, _, rfl⟩, nmh_18⟩
theorem np_X2_init : npar (mNm 11806801).desc = some 0 := by decide +kernel
theorem im_X2_init : Cond.instanceMethod (mNm 11806801) ∈ lw_all := lw_g (lw_at lw_m1 88 rfl) rfl
theorem mok_X2_read : MOK 12068947 := ⟨lw_g (lw_at lw_m4 214 rfl) rfl, Or.inl ⟨ini_18, by decide⟩, Nat.le_of_ble_eq_true rfl, Or.inl ⟨_, _, _, rfl⟩, nmh_18⟩
theorem np_X2_read : npar (mNm 12068947).desc = some 2 := by decide +kernel
theorem im_X2_read : Cond.instanceMethod (mNm 12068947) ∈ lw_all := lw_g (lw_at lw_m4 212 rfl) rfl
theorem mok_X2_at : MOK 12331090 := ⟨lw_g (lw_at lw_m4 218 rfl) rfl, Or.inl ⟨ini_18, by decide⟩, Nat.le_of_ble_eq_true rfl, Or.inl ⟨_, _, _, rfl⟩, nmh_18⟩
theorem np_X2_at : npar (mNm 12331090).desc = some 1 := by decide +kernel
theorem im_X2_at : Cond.instanceMethod (mNm 12331090) ∈ lw_all := lw_g (lw_at lw_m4 217 rfl) rfl
theorem mok_X2_token : MOK 12593234 := ⟨lw_g (lw_at lw_m4 222 rfl) rfl, Or.inl ⟨ini_18, by decide⟩, Nat.le_of_ble_eq_true rfl, Or.inl ⟨_, _, _, rfl⟩, nmh_18⟩
theorem np_X2_token : npar (mNm 12593234).desc = some 1 := by decide +kernel
theorem im_X2_token : Cond.instanceMethod (mNm 12593234) ∈ lw_all := lw_g (lw_at lw_m4 221 rfl) rfl
theorem mok_X2_isIn : MOK 12845059 := ⟨lw_g (lw_at lw_m4 229 rfl) rfl, Or.inl ⟨ini_18, by decide⟩, Nat.le_of_ble_eq_true rfl, Or.inl ⟨_, _, _, rfl⟩, nmh_18⟩
theorem np_X2_isIn : npar (mNm 12845059).desc = some 3 := by decide +kernel
theorem sm_X2_isIn : Cond.static (mNm 12845059) ∈ lw_all := lw_g (lw_at lw_m4 228 rfl) rfl
theorem mok_X2_bold : MOK 13117522 := ⟨lw_g (lw_at lw_m4 233 rfl) rfl, Or.inl ⟨ini_18, by decide⟩, Nat.le_of_ble_eq_true rfl, Or.inl ⟨_, _, _, rfl⟩, nmh_18⟩
theorem np_X2_bold : npar (mNm 13117522).desc = some 1 := by decide +kernel
theorem im_X2_bold : Cond.instanceMethod (mNm 13117522) ∈ lw_all := lw_g (lw_at lw_m4 232 rfl) rfl
theorem mok_X2_tag : MOK 13379666 := ⟨lw_g (lw_at lw_m5 1 rfl) rfl, Or.inl ⟨ini_18, by decide⟩, Nat.le_of_ble_eq_true rfl, Or.inl ⟨_, _, _, rfl⟩, nmh_18⟩
theorem np_X2_tag : npar (mNm 13379666).desc = some 1 := by decide +kernel
theorem im_X2_tag : Cond.instanceMethod (mNm 13379666) ∈ lw_all := lw_g (lw_at lw_m5 0 rfl) rfl
theorem mok_X2_number : MOK 13641810 := ⟨lw_g (lw_at lw_m5 7 rfl) rfl, Or.inl ⟨ini_18, by decide⟩, Nat.le_of_ble_eq_true rfl, Or.inl ⟨_, _, _, rfl⟩, nmh_18⟩
theorem np_X2_number : npar (mNm 13641810).desc = some 1 := by decide +kernel
theorem im_X2_number : Cond.instanceMethod (mNm 13641810) ∈ lw_all := lw_g (lw_at lw_m5 6 rfl) rfl
theorem mok_X2_sign : MOK 13903955 := ⟨lw_g (lw_at lw_m5 16 rfl) rfl, Or.inl ⟨ini_18, by decide⟩, Nat.le_of_ble_eq_true rfl, Or.inl ⟨_, _, _, rfl⟩, nmh_18⟩
theorem np_X2_sign : npar (mNm 13903955).desc = some 2 := by decide +kernel
theorem im_X2_sign : Cond.instanceMethod (mNm 13903955) ∈ lw_all := lw_g (lw_at lw_m5 15 rfl) rfl
theorem mok_X2_word : MOK 14166098 := ⟨lw_g (lw_at lw_m6 16 rfl) rfl, Or.inl ⟨ini_18, by decide⟩, Nat.le_of_ble_eq_true rfl, Or.inl ⟨_, _, _, rfl⟩, nmh_18⟩
theorem np_X2_word : npar (mNm 14166098).desc = some 1 := by decide +kernel
theorem im_X2_word : Cond.instanceMethod (mNm 14166098) ∈ lw_all := lw_g (lw_at lw_m6 14 rfl) rfl
theorem mok_X3_init : MOK 14426177 := ⟨lw_g (lw_at lw_m1 178 rfl) rfl, Or.inl ⟨ini_17, by decide⟩, Nat.le_of_ble_eq_true rfl, Or.inl ⟨_, _, _, rfl⟩, nmh_17⟩
theorem np_X3_init : npar (mNm 14426177).desc = some 0 := by decide +kernel
theorem im_X3_init : Cond.instanceMethod (mNm 14426177) ∈ lw_all := lw_g (lw_at lw_m1 177 rfl) rfl
theorem mok_X3_judge : MOK 14688322 := ⟨lw_g (lw_at lw_m11 55 rfl) rfl, Or.inl ⟨ini_17, by decide⟩, Nat.le_of_ble_eq_true rfl, Or.inl ⟨_, _, _, rfl⟩, nmh_17⟩
theorem np_X3_judge : npar (mNm 14688322).desc = some 1 := by decide +kernel
theorem im_X3_judge : Cond.instanceMethod (mNm 14688322) ∈ lw_all := lw_g (lw_at lw_m11 53 rfl) rfl
theorem mok_X3_begin : MOK 14950465 := ⟨lw_g (lw_at lw_m11 93 rfl) rfl, Or.inl ⟨ini_17, by decide⟩, Nat.le_of_ble_eq_true rfl, Or.inl ⟨_, _, _, rfl⟩, nmh_17⟩
theorem np_X3_begin : npar (mNm 14950465).desc = some 0 := by decide +kernel
theorem im_X3_begin : Cond.instanceMethod (mNm 14950465) ∈ lw_all := lw_g (lw_at lw_m11 91 rfl) rfl
theorem mok_X3_declare : MOK 15212613 := ⟨lw_g (lw_at lw_m11 129 rfl) rfl, Or.inl ⟨ini_17, by decide⟩, Nat.le_of_ble_eq_true rfl, Or.inl ⟨_, _, _, rfl⟩, nmh_17⟩
theorem np_X3_declare : npar (mNm 15212613).desc = some 4 := by decide +kernel
theorem im_X3_declare : Cond.instanceMethod (mNm 15212613) ∈ lw_all := lw_g (lw_at lw_m11 127 rfl) rfl
theorem mok_X3_need : MOK 15474756 := ⟨lw_g (lw_at lw_m11 140 rfl) rfl, Or.inl ⟨ini_17, by decide⟩, Nat.le_of_ble_eq_true rfl, Or.inl ⟨_, _, _, rfl⟩, nmh_17⟩
theorem np_X3_need : npar (mNm 15474756).desc = some 3 := by decide +kernel
theorem im_X3_need : Cond.instanceMethod (mNm 15474756) ∈ lw_all := lw_g (lw_at lw_m11 138 rfl) rfl
theorem mok_X3_use : MOK 15736898 := ⟨lw_g (lw_at lw_m11 231 rfl) rfl, Or.inl ⟨ini_17, by decide⟩, Nat.le_of_ble_eq_true rfl, Or.inl ⟨_, _, _, rfl⟩, nmh_17⟩
theorem np_X3_use : npar (mNm 15736898).desc = some 1 := by decide +kernel
theorem im_X3_use : Cond.instanceMethod (mNm 15736898) ∈ lw_all := lw_g (lw_at lw_m11 229 rfl) rfl
theorem mok_X3_soft : MOK 15999042 := ⟨lw_g (lw_at lw_m12 16 rfl) rfl, Or.inl ⟨ini_17, by decide⟩, Nat.le_of_ble_eq_true rfl, Or.inl ⟨_, _, _, rfl⟩, nmh_17⟩
theorem np_X3_soft : npar (mNm 15999042).desc = some 1 := by decide +kernel
theorem im_X3_soft : Cond.instanceMethod (mNm 15999042) ∈ lw_all := lw_g (lw_at lw_m12 14 rfl) rfl
theorem mok_X3_lead : MOK 16261186 := ⟨lw_g (lw_at lw_m12 20 rfl) rfl, Or.inl ⟨ini_17, by decide⟩, Nat.le_of_ble_eq_true rfl, Or.inl ⟨_, _, _, rfl⟩, nmh_17⟩
theorem np_X3_lead : npar (mNm 16261186).desc = some 1 := by decide +kernel
theorem im_X3_lead : Cond.instanceMethod (mNm 16261186) ∈ lw_all := lw_g (lw_at lw_m12 18 rfl) rfl
theorem mok_X3_leader : MOK 16523330 := ⟨lw_g (lw_at lw_m12 24 rfl) rfl, Or.inl ⟨ini_17, by decide⟩, Nat.le_of_ble_eq_true rfl, Or.inl ⟨_, _, _, rfl⟩, nmh_17⟩
theorem np_X3_leader : npar (mNm 16523330).desc = some 1 := by decide +kernel
theorem im_X3_leader : Cond.instanceMethod (mNm 16523330) ∈ lw_all := lw_g (lw_at lw_m12 23 rfl) rfl
theorem mok_X3_others : MOK 16785475 := ⟨lw_g (lw_at lw_m12 113 rfl) rfl, Or.inl ⟨ini_17, by decide⟩, Nat.le_of_ble_eq_true rfl, Or.inl ⟨_, _, _, rfl⟩, nmh_17⟩
theorem np_X3_others : npar (mNm 16785475).desc = some 2 := by decide +kernel
theorem im_X3_others : Cond.instanceMethod (mNm 16785475) ∈ lw_all := lw_g (lw_at lw_m12 112 rfl) rfl
theorem mok_X3_strong : MOK 17047619 := ⟨lw_g (lw_at lw_m12 135 rfl) rfl, Or.inl ⟨ini_17, by decide⟩, Nat.le_of_ble_eq_true rfl, Or.inl ⟨_, _, _, rfl⟩, nmh_17⟩
theorem np_X3_strong : npar (mNm 17047619).desc = some 2 := by decide +kernel
theorem im_X3_strong : Cond.instanceMethod (mNm 17047619) ∈ lw_all := lw_g (lw_at lw_m12 133 rfl) rfl
theorem mok_X3_come : MOK 17309764 := ⟨lw_g (lw_at lw_m13 2 rfl) rfl, Or.inl ⟨ini_17, by decide⟩, Nat.le_of_ble_eq_true rfl, Or.inl ⟨_, _, _, rfl⟩, nmh_17⟩
theorem np_X3_come : npar (mNm 17309764).desc = some 3 := by decide +kernel
theorem im_X3_come : Cond.instanceMethod (mNm 17309764) ∈ lw_all := lw_g (lw_at lw_m13 0 rfl) rfl
theorem mok_X3_isWanted : MOK 17571907 := ⟨lw_g (lw_at lw_m13 6 rfl) rfl, Or.inl ⟨ini_17, by decide⟩, Nat.le_of_ble_eq_true rfl, Or.inl ⟨_, _, _, rfl⟩, nmh_17⟩
theorem np_X3_isWanted : npar (mNm 17571907).desc = some 2 := by decide +kernel
theorem im_X3_isWanted : Cond.instanceMethod (mNm 17571907) ∈ lw_all := lw_g (lw_at lw_m13 5 rfl) rfl
theorem mok_X3_end : MOK 17834049 := ⟨lw_g (lw_at lw_m13 78 rfl) rfl, Or.inl ⟨ini_17, by decide⟩, Nat.le_of_ble_eq_true rfl, Or.inl ⟨_, _, _, rfl⟩, nmh_17⟩
theorem np_X3_end : npar (mNm 17834049).desc = some 0 := by decide +kernel
theorem im_X3_end : Cond.instanceMethod (mNm 17834049) ∈ lw_all := lw_g (lw_at lw_m13 76 rfl) rfl
theorem mok_X3_firm : MOK 18096196 := ⟨lw_g (lw_at lw_m13 177 rfl) rfl, Or.inl ⟨ini_17, by decide⟩, Nat.le_of_ble_eq_true rfl, Or.inl ⟨_, _, _, rfl⟩, nmh_17⟩
theorem np_X3_firm : npar (mNm 18096196).desc = some 3 := by decide +kernel
theorem im_X3_firm : Cond.instanceMethod (mNm 18096196) ∈ lw_all := lw_g (lw_at lw_m13 175 rfl) rfl
theorem mok_X3_bring : MOK 18358340 := ⟨lw_g (lw_at lw_m13 184 rfl) rfl, Or.inl ⟨ini_17, by decide⟩, Nat.le_of_ble_eq_true rfl, Or.inl ⟨_, _, _, rfl⟩, nmh_17⟩
theorem np_X3_bring : npar (mNm 18358340).desc = some 3 := by decide +kernel
theorem im_X3_bring : Cond.instanceMethod (mNm 18358340) ∈ lw_all := lw_g (lw_at lw_m13 182 rfl) rfl
theorem mok_X4_init : MOK 18632865 := ⟨lw_g (lw_at lw_m1 184 rfl) rfl, Or.inl ⟨ini_23, by decide⟩, Nat.le_of_ble_eq_true rfl, Or.inl ⟨_, _, _, rfl⟩, nmh_23⟩
theorem np_X4_init : npar (mNm 18632865).desc = some 0 := by decide +kernel
theorem im_X4_init : Cond.instanceMethod (mNm 18632865) ∈ lw_all := lw_g (lw_at lw_m1 183 rfl) rfl
theorem mok_X4_unlike : MOK 18895010 := ⟨lw_g (lw_at lw_m10 230 rfl) rfl, Or.inl ⟨ini_23, by decide⟩, Nat.le_of_ble_eq_true rfl, Or.inl ⟨_, _, _, rfl⟩, nmh_23⟩
theorem np_X4_unlike : npar (mNm 18895010).desc = some 1 := by decide +kernel
theorem im_X4_unlike : Cond.instanceMethod (mNm 18895010) ∈ lw_all := lw_g (lw_at lw_m10 228 rfl) rfl
theorem mok_X4_members : MOK 19136513 := ⟨lw_g (lw_at lw_m10 233 rfl) rfl, Or.inl ⟨ini_23, by decide⟩, Nat.le_of_ble_eq_true rfl, Or.inl ⟨_, _, _, rfl⟩, nmh_23⟩
theorem np_X4_members : npar (mNm 19136513).desc = some 1 := by decide +kernel
theorem sm_X4_members : Cond.static (mNm 19136513) ∈ lw_all := lw_g (lw_at lw_m10 232 rfl) rfl
theorem mok_X4_gather : MOK 19398659 := ⟨lw_g (lw_at lw_m10 237 rfl) rfl, Or.inl ⟨ini_23, by decide⟩, Nat.le_of_ble_eq_true rfl, Or.inl ⟨_, _, _, rfl⟩, nmh_23⟩
theorem np_X4_gather : npar (mNm 19398659).desc = some 3 := by decide +kernel
theorem sm_X4_gather : Cond.static (mNm 19398659) ∈ lw_all := lw_g (lw_at lw_m10 236 rfl) rfl
theorem mok_X4_one : MOK 19681443 := ⟨lw_g (lw_at lw_m11 10 rfl) rfl, Or.inl ⟨ini_23, by decide⟩, Nat.le_of_ble_eq_true rfl, Or.inl ⟨_, _, _, rfl⟩, nmh_23⟩
theorem np_X4_one : npar (mNm 19681443).desc = some 2 := by decide +kernel
theorem im_X4_one : Cond.instanceMethod (mNm 19681443) ∈ lw_all := lw_g (lw_at lw_m11 8 rfl) rfl
theorem mok_X4_reach : MOK 19943586 := ⟨lw_g (lw_at lw_m11 15 rfl) rfl, Or.inl ⟨ini_23, by decide⟩, Nat.le_of_ble_eq_true rfl, Or.inl ⟨_, _, _, rfl⟩, nmh_23⟩
theorem np_X4_reach : npar (mNm 19943586).desc = some 1 := by decide +kernel
theorem im_X4_reach : Cond.instanceMethod (mNm 19943586) ∈ lw_all := lw_g (lw_at lw_m11 14 rfl) rfl
theorem mok_X4_spread : MOK 20205730 := ⟨lw_g (lw_at lw_m11 19 rfl) rfl, Or.inl ⟨ini_23, by decide⟩, Nat.le_of_ble_eq_true rfl, Or.inl ⟨_, _, _, rfl⟩, nmh_23⟩
theorem np_X4_spread : npar (mNm 20205730).desc = some 1 := by decide +kernel
theorem im_X4_spread : Cond.instanceMethod (mNm 20205730) ∈ lw_all := lw_g (lw_at lw_m11 18 rfl) rfl
theorem mok_X4_parts : MOK 20467873 := ⟨lw_g (lw_at lw_m11 23 rfl) rfl, Or.inl ⟨ini_23, by decide⟩, Nat.le_of_ble_eq_true rfl, Or.inl ⟨_, _, _, rfl⟩, nmh_23⟩
theorem np_X4_parts : npar (mNm 20467873).desc = some 0 := by decide +kernel
theorem im_X4_parts : Cond.instanceMethod (mNm 20467873) ∈ lw_all := lw_g (lw_at lw_m11 22 rfl) rfl
theorem mok_X4_areParts : MOK 20730019 := ⟨lw_g (lw_at lw_m11 27 rfl) rfl, Or.inl ⟨ini_23, by decide⟩, Nat.le_of_ble_eq_true rfl, Or.inl ⟨_, _, _, rfl⟩, nmh_23⟩
theorem np_X4_areParts : npar (mNm 20730019).desc = some 2 := by decide +kernel
theorem im_X4_areParts : Cond.instanceMethod (mNm 20730019) ∈ lw_all := lw_g (lw_at lw_m11 26 rfl) rfl
theorem mok_X4_isLike : MOK 20992163 := ⟨lw_g (lw_at lw_m11 31 rfl) rfl, Or.inl ⟨ini_23, by decide⟩, Nat.le_of_ble_eq_true rfl, Or.inl ⟨_, _, _, rfl⟩, nmh_23⟩
theorem np_X4_isLike : npar (mNm 20992163).desc = some 2 := by decide +kernel
theorem im_X4_isLike : Cond.instanceMethod (mNm 20992163) ∈ lw_all := lw_g (lw_at lw_m11 30 rfl) rfl
theorem mok_X4_areInOrder : MOK 21254307 := ⟨lw_g (lw_at lw_m11 35 rfl) rfl, Or.inl ⟨ini_23, by decide⟩, Nat.le_of_ble_eq_true rfl, Or.inl ⟨_, _, _, rfl⟩, nmh_23⟩
theorem np_X4_areInOrder : npar (mNm 21254307).desc = some 2 := by decide +kernel
theorem im_X4_areInOrder : Cond.instanceMethod (mNm 21254307) ∈ lw_all := lw_g (lw_at lw_m11 34 rfl) rfl
theorem mok_X4_has : MOK 21516451 := ⟨lw_g (lw_at lw_m11 39 rfl) rfl, Or.inl ⟨ini_23, by decide⟩, Nat.le_of_ble_eq_true rfl, Or.inl ⟨_, _, _, rfl⟩, nmh_23⟩
theorem np_X4_has : npar (mNm 21516451).desc = some 2 := by decide +kernel
theorem im_X4_has : Cond.instanceMethod (mNm 21516451) ∈ lw_all := lw_g (lw_at lw_m11 38 rfl) rfl
theorem mok_X4_areRelated : MOK 21778594 := ⟨lw_g (lw_at lw_m11 43 rfl) rfl, Or.inl ⟨ini_23, by decide⟩, Nat.le_of_ble_eq_true rfl, Or.inl ⟨_, _, _, rfl⟩, nmh_23⟩
theorem np_X4_areRelated : npar (mNm 21778594).desc = some 1 := by decide +kernel
theorem im_X4_areRelated : Cond.instanceMethod (mNm 21778594) ∈ lw_all := lw_g (lw_at lw_m11 41 rfl) rfl
theorem mok_X4_less : MOK 22020097 := ⟨lw_g (lw_at lw_m11 46 rfl) rfl, Or.inl ⟨ini_23, by decide⟩, Nat.le_of_ble_eq_true rfl, Or.inl ⟨_, _, _, rfl⟩, nmh_23⟩
theorem np_X4_less : npar (mNm 22020097).desc = some 1 := by decide +kernel
theorem sm_X4_less : Cond.static (mNm 22020097) ∈ lw_all := lw_g (lw_at lw_m11 45 rfl) rfl
theorem mok_X4_unites : MOK 22302883 := ⟨lw_g (lw_at lw_m12 184 rfl) rfl, Or.inl ⟨ini_23, by decide⟩, Nat.le_of_ble_eq_true rfl, Or.inl ⟨_, _, _, rfl⟩, nmh_23⟩
theorem np_X4_unites : npar (mNm 22302883).desc = some 2 := by decide +kernel
theorem im_X4_unites : Cond.instanceMethod (mNm 22302883) ∈ lw_all := lw_g (lw_at lw_m12 182 rfl) rfl
theorem mok_X4_isAmong : MOK 22565027 := ⟨lw_g (lw_at lw_m12 188 rfl) rfl, Or.inl ⟨ini_23, by decide⟩, Nat.le_of_ble_eq_true rfl, Or.inl ⟨_, _, _, rfl⟩, nmh_23⟩
theorem np_X4_isAmong : npar (mNm 22565027).desc = some 2 := by decide +kernel
theorem im_X4_isAmong : Cond.instanceMethod (mNm 22565027) ∈ lw_all := lw_g (lw_at lw_m12 187 rfl) rfl
theorem mok_X5_init : MOK 22882897 := ⟨lw_g (lw_at lw_m1 229 rfl) rfl, Or.inl ⟨ini_30, by decide⟩, Nat.le_of_ble_eq_true rfl, Or.inl ⟨_, _, _, rfl⟩, nmh_30⟩
theorem np_X5_init : npar (mNm 22882897).desc = some 0 := by decide +kernel
theorem im_X5_init : Cond.instanceMethod (mNm 22882897) ∈ lw_all := lw_g (lw_at lw_m1 228 rfl) rfl
theorem mok_X5_strong : MOK 23145044 := ⟨lw_g (lw_at lw_m12 170 rfl) rfl, Or.inl ⟨ini_30, by decide⟩, Nat.le_of_ble_eq_true rfl, Or.inl ⟨_, _, _, rfl⟩, nmh_30⟩
theorem np_X5_strong : npar (mNm 23145044).desc = some 3 := by decide +kernel
theorem im_X5_strong : Cond.instanceMethod (mNm 23145044) ∈ lw_all := lw_g (lw_at lw_m12 168 rfl) rfl
theorem mok_X5_begin : MOK 23407186 := ⟨lw_g (lw_at lw_m12 175 rfl) rfl, Or.inl ⟨ini_30, by decide⟩, Nat.le_of_ble_eq_true rfl, Or.inl ⟨_, _, _, rfl⟩, nmh_30⟩
theorem np_X5_begin : npar (mNm 23407186).desc = some 1 := by decide +kernel
theorem im_X5_begin : Cond.instanceMethod (mNm 23407186) ∈ lw_all := lw_g (lw_at lw_m12 173 rfl) rfl
theorem mok_X5_firm : MOK 23669332 := ⟨lw_g (lw_at lw_m12 179 rfl) rfl, Or.inl ⟨ini_30, by decide⟩, Nat.le_of_ble_eq_true rfl, Or.inl ⟨_, _, _, rfl⟩, nmh_30⟩
theorem np_X5_firm : npar (mNm 23669332).desc = some 3 := by decide +kernel
theorem im_X5_firm : Cond.instanceMethod (mNm 23669332) ∈ lw_all := lw_g (lw_at lw_m12 177 rfl) rfl
theorem mok_X5_add : MOK 23931474 := ⟨lw_g (lw_at lw_m12 192 rfl) rfl, Or.inl ⟨ini_30, by decide⟩, Nat.le_of_ble_eq_true rfl, Or.inl ⟨_, _, _, rfl⟩, nmh_30⟩
theorem np_X5_add : npar (mNm 23931474).desc = some 1 := by decide +kernel
theorem im_X5_add : Cond.instanceMethod (mNm 23931474) ∈ lw_all := lw_g (lw_at lw_m12 191 rfl) rfl
theorem mok_X5_goes : MOK 24193618 := ⟨lw_g (lw_at lw_m12 196 rfl) rfl, Or.inl ⟨ini_30, by decide⟩, Nat.le_of_ble_eq_true rfl, Or.inl ⟨_, _, _, rfl⟩, nmh_30⟩
theorem np_X5_goes : npar (mNm 24193618).desc = some 1 := by decide +kernel
theorem im_X5_goes : Cond.instanceMethod (mNm 24193618) ∈ lw_all := lw_g (lw_at lw_m12 194 rfl) rfl
theorem mok_X6_init : MOK 24397970 := ⟨lw_g (lw_at lw_m2 9 rfl) rfl, Or.inl ⟨ini_22, by decide⟩, Nat.le_of_ble_eq_true rfl, Or.inl ⟨_, _, _, rfl⟩, nmh_22⟩
theorem np_X6_init : npar (mNm 24397970).desc = some 1 := by decide +kernel
theorem im_X6_init : Cond.instanceMethod (mNm 24397970) ∈ lw_all := lw_g (lw_at lw_m2 8 rfl) rfl
theorem mok_X6_init_2 : MOK 24660115 := ⟨lw_g (lw_at lw_m10 123 rfl) rfl, Or.inl ⟨ini_22, by decide⟩, Nat.le_of_ble_eq_true rfl, Or.inl ⟨_, _, _, rfl⟩, nmh_22⟩
theorem np_X6_init_2 : npar (mNm 24660115).desc = some 2 := by decide +kernel
theorem im_X6_init_2 : Cond.instanceMethod (mNm 24660115) ∈ lw_all := lw_g (lw_at lw_m10 122 rfl) rfl
theorem mok_X6_real : MOK 24922257 := ⟨lw_g (lw_at lw_m11 5 rfl) rfl, Or.inl ⟨ini_22, by decide⟩, Nat.le_of_ble_eq_true rfl, Or.inl ⟨_, _, _, rfl⟩, nmh_22⟩
theorem np_X6_real : npar (mNm 24922257).desc = some 0 := by decide +kernel
theorem im_X6_real : Cond.instanceMethod (mNm 24922257) ∈ lw_all := lw_g (lw_at lw_m11 3 rfl) rfl
theorem mok_X6_isCall : MOK 25184401 := ⟨lw_g (lw_at lw_m11 50 rfl) rfl, Or.inl ⟨ini_22, by decide⟩, Nat.le_of_ble_eq_true rfl, Or.inl ⟨_, _, _, rfl⟩, nmh_22⟩
theorem np_X6_isCall : npar (mNm 25184401).desc = some 0 := by decide +kernel
theorem im_X6_isCall : Cond.instanceMethod (mNm 25184401) ∈ lw_all := lw_g (lw_at lw_m11 48 rfl) rfl
theorem mok_X6_isPlain : MOK 25446546 := ⟨lw_g (lw_at lw_m12 141 rfl) rfl, Or.inl ⟨ini_22, by decide⟩, Nat.le_of_ble_eq_true rfl, Or.inl ⟨_, _, _, rfl⟩, nmh_22⟩
theorem np_X6_isPlain : npar (mNm 25446546).desc = some 1 := by decide +kernel
theorem im_X6_isPlain : Cond.instanceMethod (mNm 25446546) ∈ lw_all := lw_g (lw_at lw_m12 139 rfl) rfl
theorem mok_X7_init : MOK 25702497 := ⟨lw_g (lw_at lw_m3 178 rfl) rfl, Or.inl ⟨ini_20, by decide⟩, Nat.le_of_ble_eq_true rfl, Or.inl ⟨_, _, _, rfl⟩, nmh_20⟩
theorem np_X7_init : npar (mNm 25702497).desc = some 0 := by decide +kernel
theorem im_X7_init : Cond.instanceMethod (mNm 25702497) ∈ lw_all := lw_g (lw_at lw_m3 177 rfl) rfl
theorem mok_X7_seed : MOK 25964642 := ⟨lw_g (lw_at lw_m15 117 rfl) rfl, Or.inl ⟨ini_20, by decide⟩, Nat.le_of_ble_eq_true rfl, Or.inl ⟨_, _, _, rfl⟩, nmh_20⟩
theorem np_X7_seed : npar (mNm 25964642).desc = some 1 := by decide +kernel
theorem im_X7_seed : Cond.instanceMethod (mNm 25964642) ∈ lw_all := lw_g (lw_at lw_m15 115 rfl) rfl
theorem mok_X7_run : MOK 26226787 := ⟨lw_g (lw_at lw_m15 121 rfl) rfl, Or.inl ⟨ini_20, by decide⟩, Nat.le_of_ble_eq_true rfl, Or.inr ⟨_, _, _, _, rfl⟩, nmh_20⟩
theorem np_X7_run : npar (mNm 26226787).desc = some 2 := by decide +kernel
theorem im_X7_run : Cond.instanceMethod (mNm 26226787) ∈ lw_all := lw_g (lw_at lw_m15 119 rfl) rfl
theorem mok_X7_push : MOK 26488930 := ⟨lw_g (lw_at lw_m15 125 rfl) rfl, Or.inl ⟨ini_20, by decide⟩, Nat.le_of_ble_eq_true rfl, Or.inl ⟨_, _, _, rfl⟩, nmh_20⟩
theorem np_X7_push : npar (mNm 26488930).desc = some 1 := by decide +kernel
theorem im_X7_push : Cond.instanceMethod (mNm 26488930) ∈ lw_all := lw_g (lw_at lw_m15 123 rfl) rfl
theorem mok_X7_tick : MOK 26751075 := ⟨lw_g (lw_at lw_m15 129 rfl) rfl, Or.inl ⟨ini_20, by decide⟩, Nat.le_of_ble_eq_true rfl, Or.inl ⟨_, _, _, rfl⟩, nmh_20⟩
theorem np_X7_tick : npar (mNm 26751075).desc = some 2 := by decide +kernel
theorem im_X7_tick : Cond.instanceMethod (mNm 26751075) ∈ lw_all := lw_g (lw_at lw_m15 127 rfl) rfl
theorem mok_X7_need : MOK 27013220 := ⟨lw_g (lw_at lw_m15 133 rfl) rfl, Or.inl ⟨ini_20, by decide⟩, Nat.le_of_ble_eq_true rfl, Or.inl ⟨_, _, _, rfl⟩, nmh_20⟩
theorem np_X7_need : npar (mNm 27013220).desc = some 3 := by decide +kernel
theorem im_X7_need : Cond.instanceMethod (mNm 27013220) ∈ lw_all := lw_g (lw_at lw_m15 131 rfl) rfl
theorem mok_X7_all : MOK 27275364 := ⟨lw_g (lw_at lw_m15 234 rfl) rfl, Or.inl ⟨ini_20, by decide⟩, Nat.le_of_ble_eq_true rfl, Or.inl ⟨_, _, _, rfl⟩, nmh_20⟩
theorem np_X7_all : npar (mNm 27275364).desc = some 3 := by decide +kernel
theorem im_X7_all : Cond.instanceMethod (mNm 27275364) ∈ lw_all := lw_g (lw_at lw_m15 232 rfl) rfl
theorem mok_X7_draw : MOK 27537506 := ⟨lw_g (lw_at lw_m15 238 rfl) rfl, Or.inl ⟨ini_20, by decide⟩, Nat.le_of_ble_eq_true rfl, Or.inl ⟨_, _, _, rfl⟩, nmh_20⟩
theorem np_X7_draw : npar (mNm 27537506).desc = some 1 := by decide +kernel
theorem im_X7_draw : Cond.instanceMethod (mNm 27537506) ∈ lw_all := lw_g (lw_at lw_m15 237 rfl) rfl
theorem mok_X7_followed : MOK 27799651 := ⟨lw_g (lw_at lw_m16 5 rfl) rfl, Or.inl ⟨ini_20, by decide⟩, Nat.le_of_ble_eq_true rfl, Or.inl ⟨_, _, _, rfl⟩, nmh_20⟩
theorem np_X7_followed : npar (mNm 27799651).desc = some 2 := by decide +kernel
theorem im_X7_followed : Cond.instanceMethod (mNm 27799651) ∈ lw_all := lw_g (lw_at lw_m16 3 rfl) rfl
theorem mok_X7_put : MOK 28061796 := ⟨lw_g (lw_at lw_m16 9 rfl) rfl, Or.inl ⟨ini_20, by decide⟩, Nat.le_of_ble_eq_true rfl, Or.inl ⟨_, _, _, rfl⟩, nmh_20⟩
theorem np_X7_put : npar (mNm 28061796).desc = some 3 := by decide +kernel
theorem im_X7_put : Cond.instanceMethod (mNm 28061796) ∈ lw_all := lw_g (lw_at lw_m16 7 rfl) rfl
theorem mok_X7_age : MOK 28311553 := ⟨lw_g (lw_at lw_m16 12 rfl) rfl, Or.inl ⟨ini_20, by decide⟩, Nat.le_of_ble_eq_true rfl, Or.inl ⟨_, _, _, rfl⟩, nmh_20⟩
theorem np_X7_age : npar (mNm 28311553).desc = some 1 := by decide +kernel
theorem sm_X7_age : Cond.static (mNm 28311553) ∈ lw_all := lw_g (lw_at lw_m16 11 rfl) rfl
theorem mok_X7_sizeToPut : MOK 28573698 := ⟨lw_g (lw_at lw_m16 16 rfl) rfl, Or.inl ⟨ini_20, by decide⟩, Nat.le_of_ble_eq_true rfl, Or.inl ⟨_, _, _, rfl⟩, nmh_20⟩
theorem np_X7_sizeToPut : npar (mNm 28573698).desc = some 2 := by decide +kernel
theorem sm_X7_sizeToPut : Cond.static (mNm 28573698) ∈ lw_all := lw_g (lw_at lw_m16 15 rfl) rfl
theorem mok_X7_size : MOK 28835841 := ⟨lw_g (lw_at lw_m16 21 rfl) rfl, Or.inl ⟨ini_20, by decide⟩, Nat.le_of_ble_eq_true rfl, Or.inl ⟨_, _, _, rfl⟩, nmh_20⟩
theorem np_X7_size : npar (mNm 28835841).desc = some 1 := by decide +kernel
theorem sm_X7_size : Cond.static (mNm 28835841) ∈ lw_all := lw_g (lw_at lw_m16 20 rfl) rfl
theorem mok_X7_lay : MOK 29110371 := ⟨lw_g (lw_at lw_m16 25 rfl) rfl, Or.inl ⟨ini_20, by decide⟩, Nat.le_of_ble_eq_true rfl, Or.inl ⟨_, _, _, rfl⟩, nmh_20⟩
theorem np_X7_lay : npar (mNm 29110371).desc = some 2 := by decide +kernel
theorem im_X7_lay : Cond.instanceMethod (mNm 29110371) ∈ lw_all := lw_g (lw_at lw_m16 24 rfl) rfl
theorem mok_X7_fresh : MOK 29372515 := ⟨lw_g (lw_at lw_m16 29 rfl) rfl, Or.inl ⟨ini_20, by decide⟩, Nat.le_of_ble_eq_true rfl, Or.inl ⟨_, _, _, rfl⟩, nmh_20⟩
theorem np_X7_fresh : npar (mNm 29372515).desc = some 2 := by decide +kernel
theorem im_X7_fresh : Cond.instanceMethod (mNm 29372515) ∈ lw_all := lw_g (lw_at lw_m16 28 rfl) rfl
theorem mok_X7_done : MOK 29634659 := ⟨lw_g (lw_at lw_m16 81 rfl) rfl, Or.inl ⟨ini_20, by decide⟩, Nat.le_of_ble_eq_true rfl, Or.inl ⟨_, _, _, rfl⟩, nmh_20⟩
theorem np_X7_done : npar (mNm 29634659).desc = some 2 := by decide +kernel
theorem im_X7_done : Cond.instanceMethod (mNm 29634659) ∈ lw_all := lw_g (lw_at lw_m16 79 rfl) rfl
theorem mok_X7_call : MOK 29896806 := ⟨lw_g (lw_at lw_m16 90 rfl) rfl, Or.inl ⟨ini_20, by decide⟩, Nat.le_of_ble_eq_true rfl, Or.inl ⟨_, _, _, rfl⟩, nmh_20⟩
theorem np_X7_call : npar (mNm 29896806).desc = some 5 := by decide +kernel
theorem im_X7_call : Cond.instanceMethod (mNm 29896806) ∈ lw_all := lw_g (lw_at lw_m16 88 rfl) rfl
theorem mok_X7_enter : MOK 30158948 := ⟨lw_g (lw_at lw_m16 94 rfl) rfl, Or.inl ⟨ini_20, by decide⟩, Nat.le_of_ble_eq_true rfl, Or.inl ⟨_, _, _, rfl⟩, nmh_20⟩
theorem np_X7_enter : npar (mNm 30158948).desc = some 3 := by decide +kernel
theorem im_X7_enter : Cond.instanceMethod (mNm 30158948) ∈ lw_all := lw_g (lw_at lw_m16 92 rfl) rfl
theorem mok_X7_returned : MOK 30421091 := ⟨lw_g (lw_at lw_m16 100 rfl) rfl, Or.inl ⟨ini_20, by decide⟩, Nat.le_of_ble_eq_true rfl, Or.inl ⟨_, _, _, rfl⟩, nmh_20⟩
theorem np_X7_returned : npar (mNm 30421091).desc = some 2 := by decide +kernel
theorem im_X7_returned : Cond.instanceMethod (mNm 30421091) ∈ lw_all := lw_g (lw_at lw_m16 98 rfl) rfl
theorem mok_X7_leave : MOK 30683236 := ⟨lw_g (lw_at lw_m16 104 rfl) rfl, Or.inl ⟨ini_20, by decide⟩, Nat.le_of_ble_eq_true rfl, Or.inl ⟨_, _, _, rfl⟩, nmh_20⟩
theorem np_X7_leave : npar (mNm 30683236).desc = some 3 := by decide +kernel
theorem im_X7_leave : Cond.instanceMethod (mNm 30683236) ∈ lw_all := lw_g (lw_at lw_m16 102 rfl) rfl
theorem mok_X7_undefined : MOK 30945377 := ⟨lw_g (lw_at lw_m16 115 rfl) rfl, Or.inl ⟨ini_20, by decide⟩, Nat.le_of_ble_eq_true rfl, Or.inl ⟨_, _, _, rfl⟩, nmh_20⟩
theorem np_X7_undefined : npar (mNm 30945377).desc = some 0 := by decide +kernel
theorem im_X7_undefined : Cond.instanceMethod (mNm 30945377) ∈ lw_all := lw_g (lw_at lw_m16 113 rfl) rfl
theorem mok_X7_value : MOK 31207521 := ⟨lw_g (lw_at lw_m16 119 rfl) rfl, Or.inl ⟨ini_20, by decide⟩, Nat.le_of_ble_eq_true rfl, Or.inl ⟨_, _, _, rfl⟩, nmh_20⟩
theorem np_X7_value : npar (mNm 31207521).desc = some 0 := by decide +kernel
theorem im_X7_value : Cond.instanceMethod (mNm 31207521) ∈ lw_all := lw_g (lw_at lw_m16 117 rfl) rfl
theorem mok_X7_row : MOK 31469666 := ⟨lw_g (lw_at lw_m16 226 rfl) rfl, Or.inl ⟨ini_20, by decide⟩, Nat.le_of_ble_eq_true rfl, Or.inl ⟨_, _, _, rfl⟩, nmh_20⟩
theorem np_X7_row : npar (mNm 31469666).desc = some 1 := by decide +kernel
theorem im_X7_row : Cond.instanceMethod (mNm 31469666) ∈ lw_all := lw_g (lw_at lw_m16 224 rfl) rfl
theorem mok_X7_again : MOK 31731810 := ⟨lw_g (lw_at lw_m16 230 rfl) rfl, Or.inl ⟨ini_20, by decide⟩, Nat.le_of_ble_eq_true rfl, Or.inl ⟨_, _, _, rfl⟩, nmh_20⟩
theorem np_X7_again : npar (mNm 31731810).desc = some 1 := by decide +kernel
theorem im_X7_again : Cond.instanceMethod (mNm 31731810) ∈ lw_all := lw_g (lw_at lw_m16 228 rfl) rfl
theorem mok_X7_fits : MOK 31993955 := ⟨lw_g (lw_at lw_m16 238 rfl) rfl, Or.inl ⟨ini_20, by decide⟩, Nat.le_of_ble_eq_true rfl, Or.inl ⟨_, _, _, rfl⟩, nmh_20⟩
theorem np_X7_fits : npar (mNm 31993955).desc = some 2 := by decide +kernel
theorem im_X7_fits : Cond.instanceMethod (mNm 31993955) ∈ lw_all := lw_g (lw_at lw_m16 236 rfl) rfl
theorem mok_X7_number : MOK 32256098 := ⟨lw_g (lw_at lw_m17 9 rfl) rfl, Or.inl ⟨ini_20, by decide⟩, Nat.le_of_ble_eq_true rfl, Or.inl ⟨_, _, _, rfl⟩, nmh_20⟩
theorem np_X7_number : npar (mNm 32256098).desc = some 1 := by decide +kernel
theorem im_X7_number : Cond.instanceMethod (mNm 32256098) ∈ lw_all := lw_g (lw_at lw_m17 7 rfl) rfl
theorem mok_X7_range : MOK 32518242 := ⟨lw_g (lw_at lw_m17 18 rfl) rfl, Or.inl ⟨ini_20, by decide⟩, Nat.le_of_ble_eq_true rfl, Or.inl ⟨_, _, _, rfl⟩, nmh_20⟩
theorem np_X7_range : npar (mNm 32518242).desc = some 1 := by decide +kernel
theorem im_X7_range : Cond.instanceMethod (mNm 32518242) ∈ lw_all := lw_g (lw_at lw_m17 16 rfl) rfl
theorem mok_X7_make : MOK 32780389 := ⟨lw_g (lw_at lw_m17 62 rfl) rfl, Or.inl ⟨ini_20, by decide⟩, Nat.le_of_ble_eq_true rfl, Or.inl ⟨_, _, _, rfl⟩, nmh_20⟩
theorem np_X7_make : npar (mNm 32780389).desc = some 4 := by decide +kernel
theorem im_X7_make : Cond.instanceMethod (mNm 32780389) ∈ lw_all := lw_g (lw_at lw_m17 60 rfl) rfl
theorem mok_X7_name : MOK 33042530 := ⟨lw_g (lw_at lw_m17 71 rfl) rfl, Or.inl ⟨ini_20, by decide⟩, Nat.le_of_ble_eq_true rfl, Or.inl ⟨_, _, _, rfl⟩, nmh_20⟩
theorem np_X7_name : npar (mNm 33042530).desc = some 1 := by decide +kernel
theorem im_X7_name : Cond.instanceMethod (mNm 33042530) ∈ lw_all := lw_g (lw_at lw_m17 69 rfl) rfl
theorem mok_X7_print : MOK 33304676 := ⟨lw_g (lw_at lw_m17 134 rfl) rfl, Or.inl ⟨ini_20, by decide⟩, Nat.le_of_ble_eq_true rfl, Or.inl ⟨_, _, _, rfl⟩, nmh_20⟩
theorem np_X7_print : npar (mNm 33304676).desc = some 3 := by decide +kernel
theorem im_X7_print : Cond.instanceMethod (mNm 33304676) ∈ lw_all := lw_g (lw_at lw_m17 132 rfl) rfl
theorem mok_X7_needed : MOK 33566818 := ⟨lw_g (lw_at lw_m17 143 rfl) rfl, Or.inl ⟨ini_20, by decide⟩, Nat.le_of_ble_eq_true rfl, Or.inl ⟨_, _, _, rfl⟩, nmh_20⟩
theorem np_X7_needed : npar (mNm 33566818).desc = some 1 := by decide +kernel
theorem im_X7_needed : Cond.instanceMethod (mNm 33566818) ∈ lw_all := lw_g (lw_at lw_m17 141 rfl) rfl
theorem mok_X7_copy : MOK 33828965 := ⟨lw_g (lw_at lw_m17 183 rfl) rfl, Or.inl ⟨ini_20, by decide⟩, Nat.le_of_ble_eq_true rfl, Or.inl ⟨_, _, _, rfl⟩, nmh_20⟩
theorem np_X7_copy : npar (mNm 33828965).desc = some 4 := by decide +kernel
theorem im_X7_copy : Cond.instanceMethod (mNm 33828965) ∈ lw_all := lw_g (lw_at lw_m17 181 rfl) rfl
theorem mok_X7_sizeOf : MOK 34078721 := ⟨lw_g (lw_at lw_m17 186 rfl) rfl, Or.inl ⟨ini_20, by decide⟩, Nat.le_of_ble_eq_true rfl, Or.inl ⟨_, _, _, rfl⟩, nmh_20⟩
theorem np_X7_sizeOf : npar (mNm 34078721).desc = some 1 := by decide +kernel
theorem sm_X7_sizeOf : Cond.static (mNm 34078721) ∈ lw_all := lw_g (lw_at lw_m17 185 rfl) rfl
theorem mok_X7_sizeToCopy : MOK 34340865 := ⟨lw_g (lw_at lw_m17 189 rfl) rfl, Or.inl ⟨ini_20, by decide⟩, Nat.le_of_ble_eq_true rfl, Or.inl ⟨_, _, _, rfl⟩, nmh_20⟩
theorem np_X7_sizeToCopy : npar (mNm 34340865).desc = some 1 := by decide +kernel
theorem sm_X7_sizeToCopy : Cond.static (mNm 34340865) ∈ lw_all := lw_g (lw_at lw_m17 188 rfl) rfl
theorem mok_X7_copy_2 : MOK 34615394 := ⟨lw_g (lw_at lw_m17 194 rfl) rfl, Or.inl ⟨ini_20, by decide⟩, Nat.le_of_ble_eq_true rfl, Or.inl ⟨_, _, _, rfl⟩, nmh_20⟩
theorem np_X7_copy_2 : npar (mNm 34615394).desc = some 1 := by decide +kernel
theorem im_X7_copy_2 : Cond.instanceMethod (mNm 34615394) ∈ lw_all := lw_g (lw_at lw_m17 192 rfl) rfl
theorem mok_X7_lookUp : MOK 34877538 := ⟨lw_g (lw_at lw_m17 214 rfl) rfl, Or.inl ⟨ini_20, by decide⟩, Nat.le_of_ble_eq_true rfl, Or.inl ⟨_, _, _, rfl⟩, nmh_20⟩
theorem np_X7_lookUp : npar (mNm 34877538).desc = some 1 := by decide +kernel
theorem im_X7_lookUp : Cond.instanceMethod (mNm 34877538) ∈ lw_all := lw_g (lw_at lw_m17 212 rfl) rfl
theorem mok_X7_coerce : MOK 35139682 := ⟨lw_g (lw_at lw_m18 23 rfl) rfl, Or.inl ⟨ini_20, by decide⟩, Nat.le_of_ble_eq_true rfl, Or.inl ⟨_, _, _, rfl⟩, nmh_20⟩
theorem np_X7_coerce : npar (mNm 35139682).desc = some 1 := by decide +kernel
theorem im_X7_coerce : Cond.instanceMethod (mNm 35139682) ∈ lw_all := lw_g (lw_at lw_m18 22 rfl) rfl
theorem mok_X7_beginTries : MOK 35401825 := ⟨lw_g (lw_at lw_m18 60 rfl) rfl, Or.inl ⟨ini_20, by decide⟩, Nat.le_of_ble_eq_true rfl, Or.inl ⟨_, _, _, rfl⟩, nmh_20⟩
theorem np_X7_beginTries : npar (mNm 35401825).desc = some 0 := by decide +kernel
theorem im_X7_beginTries : Cond.instanceMethod (mNm 35401825) ∈ lw_all := lw_g (lw_at lw_m18 58 rfl) rfl
theorem mok_X7_goesOn : MOK 35663969 := ⟨lw_g (lw_at lw_m18 99 rfl) rfl, Or.inl ⟨ini_20, by decide⟩, Nat.le_of_ble_eq_true rfl, Or.inl ⟨_, _, _, rfl⟩, nmh_20⟩
theorem np_X7_goesOn : npar (mNm 35663969).desc = some 0 := by decide +kernel
theorem im_X7_goesOn : Cond.instanceMethod (mNm 35663969) ∈ lw_all := lw_g (lw_at lw_m18 97 rfl) rfl
theorem mok_X8_init : MOK 36004547 := ⟨lw_g (lw_at lw_m3 197 rfl) rfl, Or.inl ⟨ini_10, by decide⟩, Nat.le_of_ble_eq_true rfl, Or.inl ⟨_, _, _, rfl⟩, nmh_10⟩
theorem np_X8_init : npar (mNm 36004547).desc = some 2 := by decide +kernel
theorem im_X8_init : Cond.instanceMethod (mNm 36004547) ∈ lw_all := lw_g (lw_at lw_m3 196 rfl) rfl
theorem mok_X8_as : MOK 36266691 := ⟨lw_g (lw_at lw_m15 137 rfl) rfl, Or.inl ⟨ini_10, by decide⟩, Nat.le_of_ble_eq_true rfl, Or.inl ⟨_, _, _, rfl⟩, nmh_10⟩
theorem np_X8_as : npar (mNm 36266691).desc = some 2 := by decide +kernel
theorem im_X8_as : Cond.instanceMethod (mNm 36266691) ∈ lw_all := lw_g (lw_at lw_m15 135 rfl) rfl
theorem mok_X9_init : MOK 36520577 := ⟨lw_g (lw_at lw_m3 222 rfl) rfl, Or.inl ⟨ini_35, by decide⟩, Nat.le_of_ble_eq_true rfl, Or.inl ⟨_, _, _, rfl⟩, nmh_35⟩
theorem np_X9_init : npar (mNm 36520577).desc = some 0 := by decide +kernel
theorem im_X9_init : Cond.instanceMethod (mNm 36520577) ∈ lw_all := lw_g (lw_at lw_m3 221 rfl) rfl
theorem mok_X10_init : MOK 36788913 := ⟨lw_g (lw_at lw_m18 118 rfl) rfl, Or.inl ⟨ini_47, by decide⟩, Nat.le_of_ble_eq_true rfl, Or.inl ⟨_, _, _, rfl⟩, nmh_47⟩
theorem np_X10_init : npar (mNm 36788913).desc = some 0 := by decide +kernel
theorem im_X10_init : Cond.instanceMethod (mNm 36788913) ∈ lw_all := lw_g (lw_at lw_m18 117 rfl) rfl
theorem mok_X10_thrown : MOK 37051057 := ⟨lw_g (lw_at lw_m21 48 rfl) rfl, Or.inl ⟨ini_47, by decide⟩, Nat.le_of_ble_eq_true rfl, Or.inl ⟨_, _, _, rfl⟩, nmh_47⟩
theorem np_X10_thrown : npar (mNm 37051057).desc = some 0 := by decide +kernel
theorem im_X10_thrown : Cond.instanceMethod (mNm 37051057) ∈ lw_all := lw_g (lw_at lw_m21 46 rfl) rfl
theorem mok_X10_type : MOK 37313202 := ⟨lw_g (lw_at lw_m21 52 rfl) rfl, Or.inl ⟨ini_47, by decide⟩, Nat.le_of_ble_eq_true rfl, Or.inl ⟨_, _, _, rfl⟩, nmh_47⟩
theorem np_X10_type : npar (mNm 37313202).desc = some 1 := by decide +kernel
theorem im_X10_type : Cond.instanceMethod (mNm 37313202) ∈ lw_all := lw_g (lw_at lw_m21 50 rfl) rfl
theorem mok_X10_read : MOK 37575345 := ⟨lw_g (lw_at lw_m21 57 rfl) rfl, Or.inl ⟨ini_47, by decide⟩, Nat.le_of_ble_eq_true rfl, Or.inl ⟨_, _, _, rfl⟩, nmh_47⟩
theorem np_X10_read : npar (mNm 37575345).desc = some 0 := by decide +kernel
theorem im_X10_read : Cond.instanceMethod (mNm 37575345) ∈ lw_all := lw_g (lw_at lw_m21 55 rfl) rfl
theorem mok_X10_tokenize : MOK 37837489 := ⟨lw_g (lw_at lw_m21 61 rfl) rfl, Or.inl ⟨ini_47, by decide⟩, Nat.le_of_ble_eq_true rfl, Or.inl ⟨_, _, _, rfl⟩, nmh_47⟩
theorem np_X10_tokenize : npar (mNm 37837489).desc = some 0 := by decide +kernel
theorem im_X10_tokenize : Cond.instanceMethod (mNm 37837489) ∈ lw_all := lw_g (lw_at lw_m21 60 rfl) rfl
theorem mok_X10_oneToken : MOK 38099634 := ⟨lw_g (lw_at lw_m21 65 rfl) rfl, Or.inl ⟨ini_47, by decide⟩, Nat.le_of_ble_eq_true rfl, Or.inl ⟨_, _, _, rfl⟩, nmh_47⟩
theorem np_X10_oneToken : npar (mNm 38099634).desc = some 1 := by decide +kernel
theorem im_X10_oneToken : Cond.instanceMethod (mNm 38099634) ∈ lw_all := lw_g (lw_at lw_m21 64 rfl) rfl
theorem mok_X10_isGreat : MOK 38273025 := ⟨lw_g (lw_at lw_m21 68 rfl) rfl, Or.inl ⟨ini_47, by decide⟩, Nat.le_of_ble_eq_true rfl, Or.inl ⟨_, _, _, rfl⟩, nmh_47⟩
theorem np_X10_isGreat : npar (mNm 38273025).desc = some 1 := by decide +kernel
theorem sm_X10_isGreat : Cond.static (mNm 38273025) ∈ lw_all := lw_g (lw_at lw_m21 67 rfl) rfl
theorem mok_X10_byteAt : MOK 38623922 := ⟨lw_g (lw_at lw_m21 72 rfl) rfl, Or.inl ⟨ini_47, by decide⟩, Nat.le_of_ble_eq_true rfl, Or.inl ⟨_, _, _, rfl⟩, nmh_47⟩
theorem np_X10_byteAt : npar (mNm 38623922).desc = some 1 := by decide +kernel
theorem im_X10_byteAt : Cond.instanceMethod (mNm 38623922) ∈ lw_all := lw_g (lw_at lw_m21 71 rfl) rfl
theorem mok_X10_keptWord : MOK 38886067 := ⟨lw_g (lw_at lw_m21 76 rfl) rfl, Or.inl ⟨ini_47, by decide⟩, Nat.le_of_ble_eq_true rfl, Or.inl ⟨_, _, _, rfl⟩, nmh_47⟩
theorem np_X10_keptWord : npar (mNm 38886067).desc = some 2 := by decide +kernel
theorem im_X10_keptWord : Cond.instanceMethod (mNm 38886067) ∈ lw_all := lw_g (lw_at lw_m21 75 rfl) rfl
theorem mok_X10_token : MOK 39148213 := ⟨lw_g (lw_at lw_m21 82 rfl) rfl, Or.inl ⟨ini_47, by decide⟩, Nat.le_of_ble_eq_true rfl, Or.inl ⟨_, _, _, rfl⟩, nmh_47⟩
theorem np_X10_token : npar (mNm 39148213).desc = some 4 := by decide +kernel
theorem im_X10_token : Cond.instanceMethod (mNm 39148213) ∈ lw_all := lw_g (lw_at lw_m21 81 rfl) rfl
theorem mok_X10_packed : MOK 39410355 := ⟨lw_g (lw_at lw_m21 86 rfl) rfl, Or.inl ⟨ini_47, by decide⟩, Nat.le_of_ble_eq_true rfl, Or.inl ⟨_, _, _, rfl⟩, nmh_47⟩
theorem np_X10_packed : npar (mNm 39410355).desc = some 2 := by decide +kernel
theorem im_X10_packed : Cond.instanceMethod (mNm 39410355) ∈ lw_all := lw_g (lw_at lw_m21 85 rfl) rfl
theorem mok_X10_isSmall : MOK 39583745 := ⟨lw_g (lw_at lw_m21 89 rfl) rfl, Or.inl ⟨ini_47, by decide⟩, Nat.le_of_ble_eq_true rfl, Or.inl ⟨_, _, _, rfl⟩, nmh_47⟩
theorem np_X10_isSmall : npar (mNm 39583745).desc = some 1 := by decide +kernel
theorem sm_X10_isSmall : Cond.static (mNm 39583745) ∈ lw_all := lw_g (lw_at lw_m21 88 rfl) rfl
theorem mok_X10_isDigit : MOK 39845889 := ⟨lw_g (lw_at lw_m21 92 rfl) rfl, Or.inl ⟨ini_47, by decide⟩, Nat.le_of_ble_eq_true rfl, Or.inl ⟨_, _, _, rfl⟩, nmh_47⟩
theorem np_X10_isDigit : npar (mNm 39845889).desc = some 1 := by decide +kernel
theorem sm_X10_isDigit : Cond.static (mNm 39845889) ∈ lw_all := lw_g (lw_at lw_m21 91 rfl) rfl
theorem mok_X10_parse : MOK 40196785 := ⟨lw_g (lw_at lw_m21 100 rfl) rfl, Or.inl ⟨ini_47, by decide⟩, Nat.le_of_ble_eq_true rfl, Or.inl ⟨_, _, _, rfl⟩, nmh_47⟩
theorem np_X10_parse : npar (mNm 40196785).desc = some 0 := by decide +kernel
theorem im_X10_parse : Cond.instanceMethod (mNm 40196785) ∈ lw_all := lw_g (lw_at lw_m21 99 rfl) rfl
theorem mok_X10_beginModes : MOK 40458929 := ⟨lw_g (lw_at lw_m21 104 rfl) rfl, Or.inl ⟨ini_47, by decide⟩, Nat.le_of_ble_eq_true rfl, Or.inl ⟨_, _, _, rfl⟩, nmh_47⟩
theorem np_X10_beginModes : npar (mNm 40458929).desc = some 0 := by decide +kernel
theorem im_X10_beginModes : Cond.instanceMethod (mNm 40458929) ∈ lw_all := lw_g (lw_at lw_m21 103 rfl) rfl
theorem mok_X10_newMode : MOK 40721076 := ⟨lw_g (lw_at lw_m21 108 rfl) rfl, Or.inl ⟨ini_47, by decide⟩, Nat.le_of_ble_eq_true rfl, Or.inl ⟨_, _, _, rfl⟩, nmh_47⟩
theorem np_X10_newMode : npar (mNm 40721076).desc = some 3 := by decide +kernel
theorem im_X10_newMode : Cond.instanceMethod (mNm 40721076) ∈ lw_all := lw_g (lw_at lw_m21 107 rfl) rfl
theorem mok_X10_push : MOK 40983222 := ⟨lw_g (lw_at lw_m21 112 rfl) rfl, Or.inl ⟨ini_47, by decide⟩, Nat.le_of_ble_eq_true rfl, Or.inl ⟨_, _, _, rfl⟩, nmh_47⟩
theorem np_X10_push : npar (mNm 40983222).desc = some 5 := by decide +kernel
theorem im_X10_push : Cond.instanceMethod (mNm 40983222) ∈ lw_all := lw_g (lw_at lw_m21 111 rfl) rfl
theorem mok_X10_stepGoal : MOK 41245362 := ⟨lw_g (lw_at lw_m21 116 rfl) rfl, Or.inl ⟨ini_47, by decide⟩, Nat.le_of_ble_eq_true rfl, Or.inl ⟨_, _, _, rfl⟩, nmh_47⟩
theorem np_X10_stepGoal : npar (mNm 41245362).desc = some 1 := by decide +kernel
theorem im_X10_stepGoal : Cond.instanceMethod (mNm 41245362) ∈ lw_all := lw_g (lw_at lw_m21 115 rfl) rfl
theorem mok_X10_serial : MOK 41507506 := ⟨lw_g (lw_at lw_m21 120 rfl) rfl, Or.inl ⟨ini_47, by decide⟩, Nat.le_of_ble_eq_true rfl, Or.inl ⟨_, _, _, rfl⟩, nmh_47⟩
theorem np_X10_serial : npar (mNm 41507506).desc = some 1 := by decide +kernel
theorem im_X10_serial : Cond.instanceMethod (mNm 41507506) ∈ lw_all := lw_g (lw_at lw_m21 119 rfl) rfl
theorem mok_X10_newNode : MOK 41769651 := ⟨lw_g (lw_at lw_m21 124 rfl) rfl, Or.inl ⟨ini_47, by decide⟩, Nat.le_of_ble_eq_true rfl, Or.inl ⟨_, _, _, rfl⟩, nmh_47⟩
theorem np_X10_newNode : npar (mNm 41769651).desc = some 2 := by decide +kernel
theorem im_X10_newNode : Cond.instanceMethod (mNm 41769651) ∈ lw_all := lw_g (lw_at lw_m21 123 rfl) rfl
theorem mok_X10_item : MOK 42031794 := ⟨lw_g (lw_at lw_m21 128 rfl) rfl, Or.inl ⟨ini_47, by decide⟩, Nat.le_of_ble_eq_true rfl, Or.inl ⟨_, _, _, rfl⟩, nmh_47⟩
theorem np_X10_item : npar (mNm 42031794).desc = some 1 := by decide +kernel
theorem im_X10_item : Cond.instanceMethod (mNm 42031794) ∈ lw_all := lw_g (lw_at lw_m21 127 rfl) rfl
theorem mok_X10_fails : MOK 42293937 := ⟨lw_g (lw_at lw_m21 132 rfl) rfl, Or.inl ⟨ini_47, by decide⟩, Nat.le_of_ble_eq_true rfl, Or.inl ⟨_, _, _, rfl⟩, nmh_47⟩
theorem np_X10_fails : npar (mNm 42293937).desc = some 0 := by decide +kernel
theorem im_X10_fails : Cond.instanceMethod (mNm 42293937) ∈ lw_all := lw_g (lw_at lw_m21 131 rfl) rfl
theorem mok_X10_isKept : MOK 42556082 := ⟨lw_g (lw_at lw_m21 136 rfl) rfl, Or.inl ⟨ini_47, by decide⟩, Nat.le_of_ble_eq_true rfl, Or.inl ⟨_, _, _, rfl⟩, nmh_47⟩
theorem np_X10_isKept : npar (mNm 42556082).desc = some 1 := by decide +kernel
theorem im_X10_isKept : Cond.instanceMethod (mNm 42556082) ∈ lw_all := lw_g (lw_at lw_m21 135 rfl) rfl
theorem mok_X10_isModeIndicant : MOK 42818226 := ⟨lw_g (lw_at lw_m21 140 rfl) rfl, Or.inl ⟨ini_47, by decide⟩, Nat.le_of_ble_eq_true rfl, Or.inl ⟨_, _, _, rfl⟩, nmh_47⟩
theorem np_X10_isModeIndicant : npar (mNm 42818226).desc = some 1 := by decide +kernel
theorem im_X10_isModeIndicant : Cond.instanceMethod (mNm 42818226) ∈ lw_all := lw_g (lw_at lw_m21 139 rfl) rfl
theorem mok_X10_isModeWord : MOK 43080370 := ⟨lw_g (lw_at lw_m21 144 rfl) rfl, Or.inl ⟨ini_47, by decide⟩, Nat.le_of_ble_eq_true rfl, Or.inl ⟨_, _, _, rfl⟩, nmh_47⟩
theorem np_X10_isModeWord : npar (mNm 43080370).desc = some 1 := by decide +kernel
theorem im_X10_isModeWord : Cond.instanceMethod (mNm 43080370) ∈ lw_all := lw_g (lw_at lw_m21 143 rfl) rfl
theorem mok_X10_opensSign : MOK 43342514 := ⟨lw_g (lw_at lw_m21 148 rfl) rfl, Or.inl ⟨ini_47, by decide⟩, Nat.le_of_ble_eq_true rfl, Or.inl ⟨_, _, _, rfl⟩, nmh_47⟩
theorem np_X10_opensSign : npar (mNm 43342514).desc = some 1 := by decide +kernel
theorem im_X10_opensSign : Cond.instanceMethod (mNm 43342514) ∈ lw_all := lw_g (lw_at lw_m21 147 rfl) rfl
theorem mok_X10_isSign : MOK 43604658 := ⟨lw_g (lw_at lw_m21 152 rfl) rfl, Or.inl ⟨ini_47, by decide⟩, Nat.le_of_ble_eq_true rfl, Or.inl ⟨_, _, _, rfl⟩, nmh_47⟩
theorem np_X10_isSign : npar (mNm 43604658).desc = some 1 := by decide +kernel
theorem im_X10_isSign : Cond.instanceMethod (mNm 43604658) ∈ lw_all := lw_g (lw_at lw_m21 151 rfl) rfl
theorem mok_X10_opens : MOK 43866801 := ⟨lw_g (lw_at lw_m21 156 rfl) rfl, Or.inl ⟨ini_47, by decide⟩, Nat.le_of_ble_eq_true rfl, Or.inl ⟨_, _, _, rfl⟩, nmh_47⟩
theorem np_X10_opens : npar (mNm 43866801).desc = some 0 := by decide +kernel
theorem im_X10_opens : Cond.instanceMethod (mNm 43866801) ∈ lw_all := lw_g (lw_at lw_m21 155 rfl) rfl
theorem mok_X10_prio : MOK 44128946 := ⟨lw_g (lw_at lw_m21 160 rfl) rfl, Or.inl ⟨ini_47, by decide⟩, Nat.le_of_ble_eq_true rfl, Or.inl ⟨_, _, _, rfl⟩, nmh_47⟩
theorem np_X10_prio : npar (mNm 44128946).desc = some 1 := by decide +kernel
theorem im_X10_prio : Cond.instanceMethod (mNm 44128946) ∈ lw_all := lw_g (lw_at lw_m21 159 rfl) rfl
theorem mok_X10_isOpIndicant : MOK 44391090 := ⟨lw_g (lw_at lw_m21 164 rfl) rfl, Or.inl ⟨ini_47, by decide⟩, Nat.le_of_ble_eq_true rfl, Or.inl ⟨_, _, _, rfl⟩, nmh_47⟩
theorem np_X10_isOpIndicant : npar (mNm 44391090).desc = some 1 := by decide +kernel
theorem im_X10_isOpIndicant : Cond.instanceMethod (mNm 44391090) ∈ lw_all := lw_g (lw_at lw_m21 163 rfl) rfl
theorem mok_X10_in : MOK 44564483 := ⟨lw_g (lw_at lw_m21 168 rfl) rfl, Or.inl ⟨ini_47, by decide⟩, Nat.le_of_ble_eq_true rfl, Or.inl ⟨_, _, _, rfl⟩, nmh_47⟩
theorem np_X10_in : npar (mNm 44564483).desc = some 3 := by decide +kernel
theorem sm_X10_in : Cond.static (mNm 44564483) ∈ lw_all := lw_g (lw_at lw_m21 167 rfl) rfl
theorem mok_X10_behindDeclaration : MOK 44915378 := ⟨lw_g (lw_at lw_m21 172 rfl) rfl, Or.inl ⟨ini_47, by decide⟩, Nat.le_of_ble_eq_true rfl, Or.inl ⟨_, _, _, rfl⟩, nmh_47⟩
theorem np_X10_behindDeclaration : npar (mNm 44915378).desc = some 1 := by decide +kernel
theorem im_X10_behindDeclaration : Cond.instanceMethod (mNm 44915378) ∈ lw_all := lw_g (lw_at lw_m21 171 rfl) rfl
theorem mok_X10_takeSign : MOK 45177522 := ⟨lw_g (lw_at lw_m21 176 rfl) rfl, Or.inl ⟨ini_47, by decide⟩, Nat.le_of_ble_eq_true rfl, Or.inl ⟨_, _, _, rfl⟩, nmh_47⟩
theorem np_X10_takeSign : npar (mNm 45177522).desc = some 1 := by decide +kernel
theorem im_X10_takeSign : Cond.instanceMethod (mNm 45177522) ∈ lw_all := lw_g (lw_at lw_m21 175 rfl) rfl
theorem mok_X10_isOperation : MOK 45439666 := ⟨lw_g (lw_at lw_m21 180 rfl) rfl, Or.inl ⟨ini_47, by decide⟩, Nat.le_of_ble_eq_true rfl, Or.inl ⟨_, _, _, rfl⟩, nmh_47⟩
theorem np_X10_isOperation : npar (mNm 45439666).desc = some 1 := by decide +kernel
theorem im_X10_isOperation : Cond.instanceMethod (mNm 45439666) ∈ lw_all := lw_g (lw_at lw_m21 179 rfl) rfl
theorem mok_X10_isOpSign : MOK 45613057 := ⟨lw_g (lw_at lw_m21 183 rfl) rfl, Or.inl ⟨ini_47, by decide⟩, Nat.le_of_ble_eq_true rfl, Or.inl ⟨_, _, _, rfl⟩, nmh_47⟩
theorem np_X10_isOpSign : npar (mNm 45613057).desc = some 1 := by decide +kernel
theorem sm_X10_isOpSign : Cond.static (mNm 45613057) ∈ lw_all := lw_g (lw_at lw_m21 182 rfl) rfl
theorem mok_X10_opKey : MOK 45963954 := ⟨lw_g (lw_at lw_m21 187 rfl) rfl, Or.inl ⟨ini_47, by decide⟩, Nat.le_of_ble_eq_true rfl, Or.inl ⟨_, _, _, rfl⟩, nmh_47⟩
theorem np_X10_opKey : npar (mNm 45963954).desc = some 1 := by decide +kernel
theorem im_X10_opKey : Cond.instanceMethod (mNm 45963954) ∈ lw_all := lw_g (lw_at lw_m21 186 rfl) rfl
theorem mok_X10_isDeclarer : MOK 46226098 := ⟨lw_g (lw_at lw_m21 191 rfl) rfl, Or.inl ⟨ini_47, by decide⟩, Nat.le_of_ble_eq_true rfl, Or.inl ⟨_, _, _, rfl⟩, nmh_47⟩
theorem np_X10_isDeclarer : npar (mNm 46226098).desc = some 1 := by decide +kernel
theorem im_X10_isDeclarer : Cond.instanceMethod (mNm 46226098) ∈ lw_all := lw_g (lw_at lw_m21 190 rfl) rfl
theorem mok_X10_child : MOK 46488243 := ⟨lw_g (lw_at lw_m21 195 rfl) rfl, Or.inl ⟨ini_47, by decide⟩, Nat.le_of_ble_eq_true rfl, Or.inl ⟨_, _, _, rfl⟩, nmh_47⟩
theorem np_X10_child : npar (mNm 46488243).desc = some 2 := by decide +kernel
theorem im_X10_child : Cond.instanceMethod (mNm 46488243) ∈ lw_all := lw_g (lw_at lw_m21 194 rfl) rfl
theorem mok_X10_behindPlace : MOK 46750386 := ⟨lw_g (lw_at lw_m21 199 rfl) rfl, Or.inl ⟨ini_47, by decide⟩, Nat.le_of_ble_eq_true rfl, Or.inl ⟨_, _, _, rfl⟩, nmh_47⟩
theorem np_X10_behindPlace : npar (mNm 46750386).desc = some 1 := by decide +kernel
theorem im_X10_behindPlace : Cond.instanceMethod (mNm 46750386) ∈ lw_all := lw_g (lw_at lw_m21 198 rfl) rfl
theorem mok_X10_setPlace : MOK 47012530 := ⟨lw_g (lw_at lw_m21 203 rfl) rfl, Or.inl ⟨ini_47, by decide⟩, Nat.le_of_ble_eq_true rfl, Or.inl ⟨_, _, _, rfl⟩, nmh_47⟩
theorem np_X10_setPlace : npar (mNm 47012530).desc = some 1 := by decide +kernel
theorem im_X10_setPlace : Cond.instanceMethod (mNm 47012530) ∈ lw_all := lw_g (lw_at lw_m21 202 rfl) rfl
theorem mok_X10_behindDeclarer : MOK 47274674 := ⟨lw_g (lw_at lw_m21 207 rfl) rfl, Or.inl ⟨ini_47, by decide⟩, Nat.le_of_ble_eq_true rfl, Or.inl ⟨_, _, _, rfl⟩, nmh_47⟩
theorem np_X10_behindDeclarer : npar (mNm 47274674).desc = some 1 := by decide +kernel
theorem im_X10_behindDeclarer : Cond.instanceMethod (mNm 47274674) ∈ lw_all := lw_g (lw_at lw_m21 206 rfl) rfl
theorem mok_X10_parameter : MOK 47536820 := ⟨lw_g (lw_at lw_m21 211 rfl) rfl, Or.inl ⟨ini_47, by decide⟩, Nat.le_of_ble_eq_true rfl, Or.inl ⟨_, _, _, rfl⟩, nmh_47⟩
theorem np_X10_parameter : npar (mNm 47536820).desc = some 3 := by decide +kernel
theorem im_X10_parameter : Cond.instanceMethod (mNm 47536820) ∈ lw_all := lw_g (lw_at lw_m21 210 rfl) rfl
theorem mok_X10_behindUnit : MOK 47798962 := ⟨lw_g (lw_at lw_m21 215 rfl) rfl, Or.inl ⟨ini_47, by decide⟩, Nat.le_of_ble_eq_true rfl, Or.inl ⟨_, _, _, rfl⟩, nmh_47⟩
theorem np_X10_behindUnit : npar (mNm 47798962).desc = some 1 := by decide +kernel
theorem im_X10_behindUnit : Cond.instanceMethod (mNm 47798962) ∈ lw_all := lw_g (lw_at lw_m21 214 rfl) rfl
theorem mok_X10_give : MOK 48061106 := ⟨lw_g (lw_at lw_m21 219 rfl) rfl, Or.inl ⟨ini_47, by decide⟩, Nat.le_of_ble_eq_true rfl, Or.inl ⟨_, _, _, rfl⟩, nmh_47⟩
theorem np_X10_give : npar (mNm 48061106).desc = some 1 := by decide +kernel
theorem im_X10_give : Cond.instanceMethod (mNm 48061106) ∈ lw_all := lw_g (lw_at lw_m21 218 rfl) rfl
theorem mok_X10_unit : MOK 48323250 := ⟨lw_g (lw_at lw_m21 223 rfl) rfl, Or.inl ⟨ini_47, by decide⟩, Nat.le_of_ble_eq_true rfl, Or.inl ⟨_, _, _, rfl⟩, nmh_47⟩
theorem np_X10_unit : npar (mNm 48323250).desc = some 1 := by decide +kernel
theorem im_X10_unit : Cond.instanceMethod (mNm 48323250) ∈ lw_all := lw_g (lw_at lw_m21 222 rfl) rfl
theorem mok_X10_beginFormula : MOK 48585395 := ⟨lw_g (lw_at lw_m21 227 rfl) rfl, Or.inl ⟨ini_47, by decide⟩, Nat.le_of_ble_eq_true rfl, Or.inl ⟨_, _, _, rfl⟩, nmh_47⟩
theorem np_X10_beginFormula : npar (mNm 48585395).desc = some 2 := by decide +kernel
theorem im_X10_beginFormula : Cond.instanceMethod (mNm 48585395) ∈ lw_all := lw_g (lw_at lw_m21 226 rfl) rfl
theorem mok_X10_declared : MOK 48847538 := ⟨lw_g (lw_at lw_m21 231 rfl) rfl, Or.inl ⟨ini_47, by decide⟩, Nat.le_of_ble_eq_true rfl, Or.inl ⟨_, _, _, rfl⟩, nmh_47⟩
theorem np_X10_declared : npar (mNm 48847538).desc = some 1 := by decide +kernel
theorem im_X10_declared : Cond.instanceMethod (mNm 48847538) ∈ lw_all := lw_g (lw_at lw_m21 230 rfl) rfl
theorem mok_X10_mayBeVoid : MOK 49109682 := ⟨lw_g (lw_at lw_m21 235 rfl) rfl, Or.inl ⟨ini_47, by decide⟩, Nat.le_of_ble_eq_true rfl, Or.inl ⟨_, _, _, rfl⟩, nmh_47⟩
theorem np_X10_mayBeVoid : npar (mNm 49109682).desc = some 1 := by decide +kernel
theorem im_X10_mayBeVoid : Cond.instanceMethod (mNm 49109682) ∈ lw_all := lw_g (lw_at lw_m21 234 rfl) rfl
theorem mok_X10_giveRoutine : MOK 49371826 := ⟨lw_g (lw_at lw_m21 239 rfl) rfl, Or.inl ⟨ini_47, by decide⟩, Nat.le_of_ble_eq_true rfl, Or.inl ⟨_, _, _, rfl⟩, nmh_47⟩
theorem np_X10_giveRoutine : npar (mNm 49371826).desc = some 1 := by decide +kernel
theorem im_X10_giveRoutine : Cond.instanceMethod (mNm 49371826) ∈ lw_all := lw_g (lw_at lw_m21 238 rfl) rfl
theorem mok_X10_behindTertiary : MOK 49633970 := ⟨lw_g (lw_at lw_m22 3 rfl) rfl, Or.inl ⟨ini_47, by decide⟩, Nat.le_of_ble_eq_true rfl, Or.inl ⟨_, _, _, rfl⟩, nmh_47⟩
theorem np_X10_behindTertiary : npar (mNm 49633970).desc = some 1 := by decide +kernel
theorem im_X10_behindTertiary : Cond.instanceMethod (mNm 49633970) ∈ lw_all := lw_g (lw_at lw_m22 2 rfl) rfl
theorem mok_X10_formula : MOK 49896114 := ⟨lw_g (lw_at lw_m22 7 rfl) rfl, Or.inl ⟨ini_47, by decide⟩, Nat.le_of_ble_eq_true rfl, Or.inl ⟨_, _, _, rfl⟩, nmh_47⟩
theorem np_X10_formula : npar (mNm 49896114).desc = some 1 := by decide +kernel
theorem im_X10_formula : Cond.instanceMethod (mNm 49896114) ∈ lw_all := lw_g (lw_at lw_m22 6 rfl) rfl
theorem mok_X10_operandBegins : MOK 50158258 := ⟨lw_g (lw_at lw_m22 11 rfl) rfl, Or.inl ⟨ini_47, by decide⟩, Nat.le_of_ble_eq_true rfl, Or.inl ⟨_, _, _, rfl⟩, nmh_47⟩
theorem np_X10_operandBegins : npar (mNm 50158258).desc = some 1 := by decide +kernel
theorem im_X10_operandBegins : Cond.instanceMethod (mNm 50158258) ∈ lw_all := lw_g (lw_at lw_m22 10 rfl) rfl
theorem mok_X10_isMonadic : MOK 50420402 := ⟨lw_g (lw_at lw_m22 15 rfl) rfl, Or.inl ⟨ini_47, by decide⟩, Nat.le_of_ble_eq_true rfl, Or.inl ⟨_, _, _, rfl⟩, nmh_47⟩
theorem np_X10_isMonadic : npar (mNm 50420402).desc = some 1 := by decide +kernel
theorem im_X10_isMonadic : Cond.instanceMethod (mNm 50420402) ∈ lw_all := lw_g (lw_at lw_m22 14 rfl) rfl
theorem mok_X10_secondary : MOK 50682546 := ⟨lw_g (lw_at lw_m22 19 rfl) rfl, Or.inl ⟨ini_47, by decide⟩, Nat.le_of_ble_eq_true rfl, Or.inl ⟨_, _, _, rfl⟩, nmh_47⟩
theorem np_X10_secondary : npar (mNm 50682546).desc = some 1 := by decide +kernel
theorem im_X10_secondary : Cond.instanceMethod (mNm 50682546) ∈ lw_all := lw_g (lw_at lw_m22 18 rfl) rfl
theorem mok_X10_base : MOK 50944690 := ⟨lw_g (lw_at lw_m22 23 rfl) rfl, Or.inl ⟨ini_47, by decide⟩, Nat.le_of_ble_eq_true rfl, Or.inl ⟨_, _, _, rfl⟩, nmh_47⟩
theorem np_X10_base : npar (mNm 50944690).desc = some 1 := by decide +kernel
theorem im_X10_base : Cond.instanceMethod (mNm 50944690) ∈ lw_all := lw_g (lw_at lw_m22 22 rfl) rfl
theorem mok_X10_simple : MOK 51206835 := ⟨lw_g (lw_at lw_m22 27 rfl) rfl, Or.inl ⟨ini_47, by decide⟩, Nat.le_of_ble_eq_true rfl, Or.inl ⟨_, _, _, rfl⟩, nmh_47⟩
theorem np_X10_simple : npar (mNm 51206835).desc = some 2 := by decide +kernel
theorem im_X10_simple : Cond.instanceMethod (mNm 51206835) ∈ lw_all := lw_g (lw_at lw_m22 26 rfl) rfl
theorem mok_X10_enclosed : MOK 51468979 := ⟨lw_g (lw_at lw_m22 31 rfl) rfl, Or.inl ⟨ini_47, by decide⟩, Nat.le_of_ble_eq_true rfl, Or.inl ⟨_, _, _, rfl⟩, nmh_47⟩
theorem np_X10_enclosed : npar (mNm 51468979).desc = some 2 := by decide +kernel
theorem im_X10_enclosed : Cond.instanceMethod (mNm 51468979) ∈ lw_all := lw_g (lw_at lw_m22 30 rfl) rfl
theorem mok_X10_aheadsOf : MOK 51731122 := ⟨lw_g (lw_at lw_m22 35 rfl) rfl, Or.inl ⟨ini_47, by decide⟩, Nat.le_of_ble_eq_true rfl, Or.inl ⟨_, _, _, rfl⟩, nmh_47⟩
theorem np_X10_aheadsOf : npar (mNm 51731122).desc = some 1 := by decide +kernel
theorem im_X10_aheadsOf : Cond.instanceMethod (mNm 51731122) ∈ lw_all := lw_g (lw_at lw_m22 34 rfl) rfl
theorem mok_X10_closesSign : MOK 51993266 := ⟨lw_g (lw_at lw_m22 39 rfl) rfl, Or.inl ⟨ini_47, by decide⟩, Nat.le_of_ble_eq_true rfl, Or.inl ⟨_, _, _, rfl⟩, nmh_47⟩
theorem np_X10_closesSign : npar (mNm 51993266).desc = some 1 := by decide +kernel
theorem im_X10_closesSign : Cond.instanceMethod (mNm 51993266) ∈ lw_all := lw_g (lw_at lw_m22 38 rfl) rfl
theorem mok_X10_behindBase : MOK 52255410 := ⟨lw_g (lw_at lw_m22 43 rfl) rfl, Or.inl ⟨ini_47, by decide⟩, Nat.le_of_ble_eq_true rfl, Or.inl ⟨_, _, _, rfl⟩, nmh_47⟩
theorem np_X10_behindBase : npar (mNm 52255410).desc = some 1 := by decide +kernel
theorem im_X10_behindBase : Cond.instanceMethod (mNm 52255410) ∈ lw_all := lw_g (lw_at lw_m22 42 rfl) rfl
theorem mok_X10_operandEnds : MOK 52517554 := ⟨lw_g (lw_at lw_m22 47 rfl) rfl, Or.inl ⟨ini_47, by decide⟩, Nat.le_of_ble_eq_true rfl, Or.inl ⟨_, _, _, rfl⟩, nmh_47⟩
theorem np_X10_operandEnds : npar (mNm 52517554).desc = some 1 := by decide +kernel
theorem im_X10_operandEnds : Cond.instanceMethod (mNm 52517554) ∈ lw_all := lw_g (lw_at lw_m22 46 rfl) rfl
theorem mok_X10_isDyadic : MOK 52779698 := ⟨lw_g (lw_at lw_m22 51 rfl) rfl, Or.inl ⟨ini_47, by decide⟩, Nat.le_of_ble_eq_true rfl, Or.inl ⟨_, _, _, rfl⟩, nmh_47⟩
theorem np_X10_isDyadic : npar (mNm 52779698).desc = some 1 := by decide +kernel
theorem im_X10_isDyadic : Cond.instanceMethod (mNm 52779698) ∈ lw_all := lw_g (lw_at lw_m22 50 rfl) rfl
theorem mok_X10_reduce : MOK 53041841 := ⟨lw_g (lw_at lw_m22 55 rfl) rfl, Or.inl ⟨ini_47, by decide⟩, Nat.le_of_ble_eq_true rfl, Or.inl ⟨_, _, _, rfl⟩, nmh_47⟩
theorem np_X10_reduce : npar (mNm 53041841).desc = some 0 := by decide +kernel
theorem im_X10_reduce : Cond.instanceMethod (mNm 53041841) ∈ lw_all := lw_g (lw_at lw_m22 54 rfl) rfl
theorem mok_X10_priority : MOK 53303986 := ⟨lw_g (lw_at lw_m22 59 rfl) rfl, Or.inl ⟨ini_47, by decide⟩, Nat.le_of_ble_eq_true rfl, Or.inl ⟨_, _, _, rfl⟩, nmh_47⟩
theorem np_X10_priority : npar (mNm 53303986).desc = some 1 := by decide +kernel
theorem im_X10_priority : Cond.instanceMethod (mNm 53303986) ∈ lw_all := lw_g (lw_at lw_m22 58 rfl) rfl
theorem mok_X10_declarer : MOK 53566130 := ⟨lw_g (lw_at lw_m22 63 rfl) rfl, Or.inl ⟨ini_47, by decide⟩, Nat.le_of_ble_eq_true rfl, Or.inl ⟨_, _, _, rfl⟩, nmh_47⟩
theorem np_X10_declarer : npar (mNm 53566130).desc = some 1 := by decide +kernel
theorem im_X10_declarer : Cond.instanceMethod (mNm 53566130) ∈ lw_all := lw_g (lw_at lw_m22 62 rfl) rfl
theorem mok_X10_declarerBegins : MOK 53828274 := ⟨lw_g (lw_at lw_m22 67 rfl) rfl, Or.inl ⟨ini_47, by decide⟩, Nat.le_of_ble_eq_true rfl, Or.inl ⟨_, _, _, rfl⟩, nmh_47⟩
theorem np_X10_declarerBegins : npar (mNm 53828274).desc = some 1 := by decide +kernel
theorem im_X10_declarerBegins : Cond.instanceMethod (mNm 53828274) ∈ lw_all := lw_g (lw_at lw_m22 66 rfl) rfl
theorem mok_X10_giveMode : MOK 54090418 := ⟨lw_g (lw_at lw_m22 71 rfl) rfl, Or.inl ⟨ini_47, by decide⟩, Nat.le_of_ble_eq_true rfl, Or.inl ⟨_, _, _, rfl⟩, nmh_47⟩
theorem np_X10_giveMode : npar (mNm 54090418).desc = some 1 := by decide +kernel
theorem im_X10_giveMode : Cond.instanceMethod (mNm 54090418) ∈ lw_all := lw_g (lw_at lw_m22 70 rfl) rfl
theorem mok_X10_wordDeclarer : MOK 54352564 := ⟨lw_g (lw_at lw_m22 75 rfl) rfl, Or.inl ⟨ini_47, by decide⟩, Nat.le_of_ble_eq_true rfl, Or.inl ⟨_, _, _, rfl⟩, nmh_47⟩
theorem np_X10_wordDeclarer : npar (mNm 54352564).desc = some 3 := by decide +kernel
theorem im_X10_wordDeclarer : Cond.instanceMethod (mNm 54352564) ∈ lw_all := lw_g (lw_at lw_m22 74 rfl) rfl
theorem mok_X10_nextMember : MOK 54614707 := ⟨lw_g (lw_at lw_m22 79 rfl) rfl, Or.inl ⟨ini_47, by decide⟩, Nat.le_of_ble_eq_true rfl, Or.inl ⟨_, _, _, rfl⟩, nmh_47⟩
theorem np_X10_nextMember : npar (mNm 54614707).desc = some 2 := by decide +kernel
theorem im_X10_nextMember : Cond.instanceMethod (mNm 54614707) ∈ lw_all := lw_g (lw_at lw_m22 78 rfl) rfl
theorem mok_X10_withMembers : MOK 54876852 := ⟨lw_g (lw_at lw_m22 83 rfl) rfl, Or.inl ⟨ini_47, by decide⟩, Nat.le_of_ble_eq_true rfl, Or.inl ⟨_, _, _, rfl⟩, nmh_47⟩
theorem np_X10_withMembers : npar (mNm 54876852).desc = some 3 := by decide +kernel
theorem im_X10_withMembers : Cond.instanceMethod (mNm 54876852) ∈ lw_all := lw_g (lw_at lw_m22 82 rfl) rfl
theorem mok_X10_fieldEnds : MOK 55138994 := ⟨lw_g (lw_at lw_m22 87 rfl) rfl, Or.inl ⟨ini_47, by decide⟩, Nat.le_of_ble_eq_true rfl, Or.inl ⟨_, _, _, rfl⟩, nmh_47⟩
theorem np_X10_fieldEnds : npar (mNm 55138994).desc = some 1 := by decide +kernel
theorem im_X10_fieldEnds : Cond.instanceMethod (mNm 55138994) ∈ lw_all := lw_g (lw_at lw_m22 86 rfl) rfl
theorem mok_X10_routine : MOK 55401138 := ⟨lw_g (lw_at lw_m22 91 rfl) rfl, Or.inl ⟨ini_47, by decide⟩, Nat.le_of_ble_eq_true rfl, Or.inl ⟨_, _, _, rfl⟩, nmh_47⟩
theorem np_X10_routine : npar (mNm 55401138).desc = some 1 := by decide +kernel
theorem im_X10_routine : Cond.instanceMethod (mNm 55401138) ∈ lw_all := lw_g (lw_at lw_m22 90 rfl) rfl
theorem mok_X10_behindParameter : MOK 55663283 := ⟨lw_g (lw_at lw_m22 95 rfl) rfl, Or.inl ⟨ini_47, by decide⟩, Nat.le_of_ble_eq_true rfl, Or.inl ⟨_, _, _, rfl⟩, nmh_47⟩
theorem np_X10_behindParameter : npar (mNm 55663283).desc = some 2 := by decide +kernel
theorem im_X10_behindParameter : Cond.instanceMethod (mNm 55663283) ∈ lw_all := lw_g (lw_at lw_m22 94 rfl) rfl
theorem mok_X10_place : MOK 55925426 := ⟨lw_g (lw_at lw_m22 99 rfl) rfl, Or.inl ⟨ini_47, by decide⟩, Nat.le_of_ble_eq_true rfl, Or.inl ⟨_, _, _, rfl⟩, nmh_47⟩
theorem np_X10_place : npar (mNm 55925426).desc = some 1 := by decide +kernel
theorem im_X10_place : Cond.instanceMethod (mNm 55925426) ∈ lw_all := lw_g (lw_at lw_m22 98 rfl) rfl
theorem mok_X10_paren : MOK 56187570 := ⟨lw_g (lw_at lw_m22 103 rfl) rfl, Or.inl ⟨ini_47, by decide⟩, Nat.le_of_ble_eq_true rfl, Or.inl ⟨_, _, _, rfl⟩, nmh_47⟩
theorem np_X10_paren : npar (mNm 56187570).desc = some 1 := by decide +kernel
theorem im_X10_paren : Cond.instanceMethod (mNm 56187570) ∈ lw_all := lw_g (lw_at lw_m22 102 rfl) rfl
theorem mok_X10_call : MOK 56449714 := ⟨lw_g (lw_at lw_m22 107 rfl) rfl, Or.inl ⟨ini_47, by decide⟩, Nat.le_of_ble_eq_true rfl, Or.inl ⟨_, _, _, rfl⟩, nmh_47⟩
theorem np_X10_call : npar (mNm 56449714).desc = some 1 := by decide +kernel
theorem im_X10_call : Cond.instanceMethod (mNm 56449714) ∈ lw_all := lw_g (lw_at lw_m22 106 rfl) rfl
theorem mok_X10_index : MOK 56711858 := ⟨lw_g (lw_at lw_m22 111 rfl) rfl, Or.inl ⟨ini_47, by decide⟩, Nat.le_of_ble_eq_true rfl, Or.inl ⟨_, _, _, rfl⟩, nmh_47⟩
theorem np_X10_index : npar (mNm 56711858).desc = some 1 := by decide +kernel
theorem im_X10_index : Cond.instanceMethod (mNm 56711858) ∈ lw_all := lw_g (lw_at lw_m22 110 rfl) rfl
theorem mok_X10_choice : MOK 56974002 := ⟨lw_g (lw_at lw_m22 115 rfl) rfl, Or.inl ⟨ini_47, by decide⟩, Nat.le_of_ble_eq_true rfl, Or.inl ⟨_, _, _, rfl⟩, nmh_47⟩
theorem np_X10_choice : npar (mNm 56974002).desc = some 1 := by decide +kernel
theorem im_X10_choice : Cond.instanceMethod (mNm 56974002) ∈ lw_all := lw_g (lw_at lw_m22 114 rfl) rfl
theorem mok_X10_inner : MOK 57236147 := ⟨lw_g (lw_at lw_m22 119 rfl) rfl, Or.inl ⟨ini_47, by decide⟩, Nat.le_of_ble_eq_true rfl, Or.inl ⟨_, _, _, rfl⟩, nmh_47⟩
theorem np_X10_inner : npar (mNm 57236147).desc = some 2 := by decide +kernel
theorem im_X10_inner : Cond.instanceMethod (mNm 57236147) ∈ lw_all := lw_g (lw_at lw_m22 118 rfl) rfl
theorem mok_X10_takeKept : MOK 57498290 := ⟨lw_g (lw_at lw_m22 123 rfl) rfl, Or.inl ⟨ini_47, by decide⟩, Nat.le_of_ble_eq_true rfl, Or.inl ⟨_, _, _, rfl⟩, nmh_47⟩
theorem np_X10_takeKept : npar (mNm 57498290).desc = some 1 := by decide +kernel
theorem im_X10_takeKept : Cond.instanceMethod (mNm 57498290) ∈ lw_all := lw_g (lw_at lw_m22 122 rfl) rfl
theorem mok_X10_cases : MOK 57760434 := ⟨lw_g (lw_at lw_m22 127 rfl) rfl, Or.inl ⟨ini_47, by decide⟩, Nat.le_of_ble_eq_true rfl, Or.inl ⟨_, _, _, rfl⟩, nmh_47⟩
theorem np_X10_cases : npar (mNm 57760434).desc = some 1 := by decide +kernel
theorem im_X10_cases : Cond.instanceMethod (mNm 57760434) ∈ lw_all := lw_g (lw_at lw_m22 126 rfl) rfl
theorem mok_X10_oneCase : MOK 58022578 := ⟨lw_g (lw_at lw_m22 131 rfl) rfl, Or.inl ⟨ini_47, by decide⟩, Nat.le_of_ble_eq_true rfl, Or.inl ⟨_, _, _, rfl⟩, nmh_47⟩
theorem np_X10_oneCase : npar (mNm 58022578).desc = some 1 := by decide +kernel
theorem im_X10_oneCase : Cond.instanceMethod (mNm 58022578) ∈ lw_all := lw_g (lw_at lw_m22 130 rfl) rfl
theorem mok_X10_out : MOK 58284722 := ⟨lw_g (lw_at lw_m22 135 rfl) rfl, Or.inl ⟨ini_47, by decide⟩, Nat.le_of_ble_eq_true rfl, Or.inl ⟨_, _, _, rfl⟩, nmh_47⟩
theorem np_X10_out : npar (mNm 58284722).desc = some 1 := by decide +kernel
theorem im_X10_out : Cond.instanceMethod (mNm 58284722) ∈ lw_all := lw_g (lw_at lw_m22 134 rfl) rfl
theorem mok_X10_esac : MOK 58546866 := ⟨lw_g (lw_at lw_m22 139 rfl) rfl, Or.inl ⟨ini_47, by decide⟩, Nat.le_of_ble_eq_true rfl, Or.inl ⟨_, _, _, rfl⟩, nmh_47⟩
theorem np_X10_esac : npar (mNm 58546866).desc = some 1 := by decide +kernel
theorem im_X10_esac : Cond.instanceMethod (mNm 58546866) ∈ lw_all := lw_g (lw_at lw_m22 138 rfl) rfl
theorem mok_X10_choiceBegins : MOK 58809010 := ⟨lw_g (lw_at lw_m22 143 rfl) rfl, Or.inl ⟨ini_47, by decide⟩, Nat.le_of_ble_eq_true rfl, Or.inl ⟨_, _, _, rfl⟩, nmh_47⟩
theorem np_X10_choiceBegins : npar (mNm 58809010).desc = some 1 := by decide +kernel
theorem im_X10_choiceBegins : Cond.instanceMethod (mNm 58809010) ∈ lw_all := lw_g (lw_at lw_m22 142 rfl) rfl
theorem mok_X10_choiceTag : MOK 59071154 := ⟨lw_g (lw_at lw_m22 147 rfl) rfl, Or.inl ⟨ini_47, by decide⟩, Nat.le_of_ble_eq_true rfl, Or.inl ⟨_, _, _, rfl⟩, nmh_47⟩
theorem np_X10_choiceTag : npar (mNm 59071154).desc = some 1 := by decide +kernel
theorem im_X10_choiceTag : Cond.instanceMethod (mNm 59071154) ∈ lw_all := lw_g (lw_at lw_m22 146 rfl) rfl
theorem mok_X10_loop : MOK 59333298 := ⟨lw_g (lw_at lw_m22 151 rfl) rfl, Or.inl ⟨ini_47, by decide⟩, Nat.le_of_ble_eq_true rfl, Or.inl ⟨_, _, _, rfl⟩, nmh_47⟩
theorem np_X10_loop : npar (mNm 59333298).desc = some 1 := by decide +kernel
theorem im_X10_loop : Cond.instanceMethod (mNm 59333298) ∈ lw_all := lw_g (lw_at lw_m22 150 rfl) rfl
theorem mok_X10_print : MOK 59595442 := ⟨lw_g (lw_at lw_m22 155 rfl) rfl, Or.inl ⟨ini_47, by decide⟩, Nat.le_of_ble_eq_true rfl, Or.inl ⟨_, _, _, rfl⟩, nmh_47⟩
theorem np_X10_print : npar (mNm 59595442).desc = some 1 := by decide +kernel
theorem im_X10_print : Cond.instanceMethod (mNm 59595442) ∈ lw_all := lw_g (lw_at lw_m22 154 rfl) rfl
theorem mok_X10_begins : MOK 59857586 := ⟨lw_g (lw_at lw_m22 159 rfl) rfl, Or.inl ⟨ini_47, by decide⟩, Nat.le_of_ble_eq_true rfl, Or.inl ⟨_, _, _, rfl⟩, nmh_47⟩
theorem np_X10_begins : npar (mNm 59857586).desc = some 1 := by decide +kernel
theorem im_X10_begins : Cond.instanceMethod (mNm 59857586) ∈ lw_all := lw_g (lw_at lw_m22 158 rfl) rfl
theorem mok_X10_blames : MOK 60119731 := ⟨lw_g (lw_at lw_m22 163 rfl) rfl, Or.inl ⟨ini_47, by decide⟩, Nat.le_of_ble_eq_true rfl, Or.inl ⟨_, _, _, rfl⟩, nmh_47⟩
theorem np_X10_blames : npar (mNm 60119731).desc = some 2 := by decide +kernel
theorem im_X10_blames : Cond.instanceMethod (mNm 60119731) ∈ lw_all := lw_g (lw_at lw_m22 162 rfl) rfl
theorem mok_X10_settleNames : MOK 60381873 := ⟨lw_g (lw_at lw_m22 167 rfl) rfl, Or.inl ⟨ini_47, by decide⟩, Nat.le_of_ble_eq_true rfl, Or.inl ⟨_, _, _, rfl⟩, nmh_47⟩
theorem np_X10_settleNames : npar (mNm 60381873).desc = some 0 := by decide +kernel
theorem im_X10_settleNames : Cond.instanceMethod (mNm 60381873) ∈ lw_all := lw_g (lw_at lw_m22 166 rfl) rfl
theorem mok_X10_checkModes : MOK 60644017 := ⟨lw_g (lw_at lw_m22 171 rfl) rfl, Or.inl ⟨ini_47, by decide⟩, Nat.le_of_ble_eq_true rfl, Or.inl ⟨_, _, _, rfl⟩, nmh_47⟩
theorem np_X10_checkModes : npar (mNm 60644017).desc = some 0 := by decide +kernel
theorem im_X10_checkModes : Cond.instanceMethod (mNm 60644017) ∈ lw_all := lw_g (lw_at lw_m22 170 rfl) rfl
theorem mok_X10_isBehind : MOK 60906163 := ⟨lw_g (lw_at lw_m22 175 rfl) rfl, Or.inl ⟨ini_47, by decide⟩, Nat.le_of_ble_eq_true rfl, Or.inl ⟨_, _, _, rfl⟩, nmh_47⟩
theorem np_X10_isBehind : npar (mNm 60906163).desc = some 2 := by decide +kernel
theorem im_X10_isBehind : Cond.instanceMethod (mNm 60906163) ∈ lw_all := lw_g (lw_at lw_m22 174 rfl) rfl
theorem mok_X10_comesBack : MOK 61168307 := ⟨lw_g (lw_at lw_m22 179 rfl) rfl, Or.inl ⟨ini_47, by decide⟩, Nat.le_of_ble_eq_true rfl, Or.inl ⟨_, _, _, rfl⟩, nmh_47⟩
theorem np_X10_comesBack : npar (mNm 61168307).desc = some 2 := by decide +kernel
theorem im_X10_comesBack : Cond.instanceMethod (mNm 61168307) ∈ lw_all := lw_g (lw_at lw_m22 178 rfl) rfl
theorem mok_X10_goTo : MOK 61430450 := ⟨lw_g (lw_at lw_m22 183 rfl) rfl, Or.inl ⟨ini_47, by decide⟩, Nat.le_of_ble_eq_true rfl, Or.inl ⟨_, _, _, rfl⟩, nmh_47⟩
theorem np_X10_goTo : npar (mNm 61430450).desc = some 1 := by decide +kernel
theorem im_X10_goTo : Cond.instanceMethod (mNm 61430450) ∈ lw_all := lw_g (lw_at lw_m22 182 rfl) rfl
theorem mok_X10_isBadUnion : MOK 61692594 := ⟨lw_g (lw_at lw_m22 187 rfl) rfl, Or.inl ⟨ini_47, by decide⟩, Nat.le_of_ble_eq_true rfl, Or.inl ⟨_, _, _, rfl⟩, nmh_47⟩
theorem np_X10_isBadUnion : npar (mNm 61692594).desc = some 1 := by decide +kernel
theorem im_X10_isBadUnion : Cond.instanceMethod (mNm 61692594) ∈ lw_all := lw_g (lw_at lw_m22 186 rfl) rfl
theorem mok_X10_flatten : MOK 61954739 := ⟨lw_g (lw_at lw_m22 191 rfl) rfl, Or.inl ⟨ini_47, by decide⟩, Nat.le_of_ble_eq_true rfl, Or.inl ⟨_, _, _, rfl⟩, nmh_47⟩
theorem np_X10_flatten : npar (mNm 61954739).desc = some 2 := by decide +kernel
theorem im_X10_flatten : Cond.instanceMethod (mNm 61954739) ∈ lw_all := lw_g (lw_at lw_m22 190 rfl) rfl
theorem mok_X10_plain : MOK 62216882 := ⟨lw_g (lw_at lw_m22 195 rfl) rfl, Or.inl ⟨ini_47, by decide⟩, Nat.le_of_ble_eq_true rfl, Or.inl ⟨_, _, _, rfl⟩, nmh_47⟩
theorem np_X10_plain : npar (mNm 62216882).desc = some 1 := by decide +kernel
theorem im_X10_plain : Cond.instanceMethod (mNm 62216882) ∈ lw_all := lw_g (lw_at lw_m22 194 rfl) rfl
theorem mok_X10_areOne : MOK 62479027 := ⟨lw_g (lw_at lw_m22 199 rfl) rfl, Or.inl ⟨ini_47, by decide⟩, Nat.le_of_ble_eq_true rfl, Or.inl ⟨_, _, _, rfl⟩, nmh_47⟩
theorem np_X10_areOne : npar (mNm 62479027).desc = some 2 := by decide +kernel
theorem im_X10_areOne : Cond.instanceMethod (mNm 62479027) ∈ lw_all := lw_g (lw_at lw_m22 198 rfl) rfl
theorem mok_X10_pairOf : MOK 62741171 := ⟨lw_g (lw_at lw_m22 203 rfl) rfl, Or.inl ⟨ini_47, by decide⟩, Nat.le_of_ble_eq_true rfl, Or.inl ⟨_, _, _, rfl⟩, nmh_47⟩
theorem np_X10_pairOf : npar (mNm 62741171).desc = some 2 := by decide +kernel
theorem im_X10_pairOf : Cond.instanceMethod (mNm 62741171) ∈ lw_all := lw_g (lw_at lw_m22 202 rfl) rfl
theorem mok_X10_mayBe : MOK 63003314 := ⟨lw_g (lw_at lw_m22 207 rfl) rfl, Or.inl ⟨ini_47, by decide⟩, Nat.le_of_ble_eq_true rfl, Or.inl ⟨_, _, _, rfl⟩, nmh_47⟩
theorem np_X10_mayBe : npar (mNm 63003314).desc = some 1 := by decide +kernel
theorem im_X10_mayBe : Cond.instanceMethod (mNm 63003314) ∈ lw_all := lw_g (lw_at lw_m22 206 rfl) rfl
theorem mok_X10_haveLike : MOK 63265459 := ⟨lw_g (lw_at lw_m22 211 rfl) rfl, Or.inl ⟨ini_47, by decide⟩, Nat.le_of_ble_eq_true rfl, Or.inl ⟨_, _, _, rfl⟩, nmh_47⟩
theorem np_X10_haveLike : npar (mNm 63265459).desc = some 2 := by decide +kernel
theorem im_X10_haveLike : Cond.instanceMethod (mNm 63265459) ∈ lw_all := lw_g (lw_at lw_m22 210 rfl) rfl
theorem mok_X10_stripped : MOK 63527602 := ⟨lw_g (lw_at lw_m22 215 rfl) rfl, Or.inl ⟨ini_47, by decide⟩, Nat.le_of_ble_eq_true rfl, Or.inl ⟨_, _, _, rfl⟩, nmh_47⟩
theorem np_X10_stripped : npar (mNm 63527602).desc = some 1 := by decide +kernel
theorem im_X10_stripped : Cond.instanceMethod (mNm 63527602) ∈ lw_all := lw_g (lw_at lw_m22 214 rfl) rfl
theorem mok_X10_numberNodes : MOK 63789746 := ⟨lw_g (lw_at lw_m22 219 rfl) rfl, Or.inl ⟨ini_47, by decide⟩, Nat.le_of_ble_eq_true rfl, Or.inl ⟨_, _, _, rfl⟩, nmh_47⟩
theorem np_X10_numberNodes : npar (mNm 63789746).desc = some 1 := by decide +kernel
theorem im_X10_numberNodes : Cond.instanceMethod (mNm 63789746) ∈ lw_all := lw_g (lw_at lw_m22 218 rfl) rfl
theorem mok_X10_judge : MOK 64051889 := ⟨lw_g (lw_at lw_m22 223 rfl) rfl, Or.inl ⟨ini_47, by decide⟩, Nat.le_of_ble_eq_true rfl, Or.inl ⟨_, _, _, rfl⟩, nmh_47⟩
theorem np_X10_judge : npar (mNm 64051889).desc = some 0 := by decide +kernel
theorem im_X10_judge : Cond.instanceMethod (mNm 64051889) ∈ lw_all := lw_g (lw_at lw_m22 222 rfl) rfl
theorem mok_X10_begins0 : MOK 64314034 := ⟨lw_g (lw_at lw_m22 227 rfl) rfl, Or.inl ⟨ini_47, by decide⟩, Nat.le_of_ble_eq_true rfl, Or.inl ⟨_, _, _, rfl⟩, nmh_47⟩
theorem np_X10_begins0 : npar (mNm 64314034).desc = some 1 := by decide +kernel
theorem im_X10_begins0 : Cond.instanceMethod (mNm 64314034) ∈ lw_all := lw_g (lw_at lw_m22 226 rfl) rfl
theorem mok_X10_findTag : MOK 64576178 := ⟨lw_g (lw_at lw_m22 231 rfl) rfl, Or.inl ⟨ini_47, by decide⟩, Nat.le_of_ble_eq_true rfl, Or.inl ⟨_, _, _, rfl⟩, nmh_47⟩
theorem np_X10_findTag : npar (mNm 64576178).desc = some 1 := by decide +kernel
theorem im_X10_findTag : Cond.instanceMethod (mNm 64576178) ∈ lw_all := lw_g (lw_at lw_m22 230 rfl) rfl
theorem mok_X10_up : MOK 64838322 := ⟨lw_g (lw_at lw_m22 235 rfl) rfl, Or.inl ⟨ini_47, by decide⟩, Nat.le_of_ble_eq_true rfl, Or.inl ⟨_, _, _, rfl⟩, nmh_47⟩
theorem np_X10_up : npar (mNm 64838322).desc = some 1 := by decide +kernel
theorem im_X10_up : Cond.instanceMethod (mNm 64838322) ∈ lw_all := lw_g (lw_at lw_m22 234 rfl) rfl
theorem mok_X10_inSerial : MOK 65100467 := ⟨lw_g (lw_at lw_m22 239 rfl) rfl, Or.inl ⟨ini_47, by decide⟩, Nat.le_of_ble_eq_true rfl, Or.inl ⟨_, _, _, rfl⟩, nmh_47⟩
theorem np_X10_inSerial : npar (mNm 65100467).desc = some 2 := by decide +kernel
theorem im_X10_inSerial : Cond.instanceMethod (mNm 65100467) ∈ lw_all := lw_g (lw_at lw_m22 238 rfl) rfl
theorem mok_X10_means : MOK 65362613 := ⟨lw_g (lw_at lw_m23 3 rfl) rfl, Or.inl ⟨ini_47, by decide⟩, Nat.le_of_ble_eq_true rfl, Or.inl ⟨_, _, _, rfl⟩, nmh_47⟩
theorem np_X10_means : npar (mNm 65362613).desc = some 4 := by decide +kernel
theorem im_X10_means : Cond.instanceMethod (mNm 65362613) ∈ lw_all := lw_g (lw_at lw_m23 2 rfl) rfl
theorem mok_X10_inParameters : MOK 65624755 := ⟨lw_g (lw_at lw_m23 7 rfl) rfl, Or.inl ⟨ini_47, by decide⟩, Nat.le_of_ble_eq_true rfl, Or.inl ⟨_, _, _, rfl⟩, nmh_47⟩
theorem np_X10_inParameters : npar (mNm 65624755).desc = some 2 := by decide +kernel
theorem im_X10_inParameters : Cond.instanceMethod (mNm 65624755) ∈ lw_all := lw_g (lw_at lw_m23 6 rfl) rfl
theorem mok_X10_which : MOK 65886898 := ⟨lw_g (lw_at lw_m23 11 rfl) rfl, Or.inl ⟨ini_47, by decide⟩, Nat.le_of_ble_eq_true rfl, Or.inl ⟨_, _, _, rfl⟩, nmh_47⟩
theorem np_X10_which : npar (mNm 65886898).desc = some 1 := by decide +kernel
theorem im_X10_which : Cond.instanceMethod (mNm 65886898) ∈ lw_all := lw_g (lw_at lw_m23 10 rfl) rfl
theorem mok_X10_numbersOf : MOK 66149042 := ⟨lw_g (lw_at lw_m23 15 rfl) rfl, Or.inl ⟨ini_47, by decide⟩, Nat.le_of_ble_eq_true rfl, Or.inl ⟨_, _, _, rfl⟩, nmh_47⟩
theorem np_X10_numbersOf : npar (mNm 66149042).desc = some 1 := by decide +kernel
theorem im_X10_numbersOf : Cond.instanceMethod (mNm 66149042) ∈ lw_all := lw_g (lw_at lw_m23 14 rfl) rfl
theorem mok_X10_basic : MOK 66322434 := ⟨lw_g (lw_at lw_m23 18 rfl) rfl, Or.inl ⟨ini_47, by decide⟩, Nat.le_of_ble_eq_true rfl, Or.inl ⟨_, _, _, rfl⟩, nmh_47⟩
theorem np_X10_basic : npar (mNm 66322434).desc = some 2 := by decide +kernel
theorem sm_X10_basic : Cond.static (mNm 66322434) ∈ lw_all := lw_g (lw_at lw_m23 17 rfl) rfl
theorem mok_X10_ends0 : MOK 66673330 := ⟨lw_g (lw_at lw_m23 22 rfl) rfl, Or.inl ⟨ini_47, by decide⟩, Nat.le_of_ble_eq_true rfl, Or.inl ⟨_, _, _, rfl⟩, nmh_47⟩
theorem np_X10_ends0 : npar (mNm 66673330).desc = some 1 := by decide +kernel
theorem im_X10_ends0 : Cond.instanceMethod (mNm 66673330) ∈ lw_all := lw_g (lw_at lw_m23 21 rfl) rfl
theorem mok_X10_routineMode : MOK 66935474 := ⟨lw_g (lw_at lw_m23 26 rfl) rfl, Or.inl ⟨ini_47, by decide⟩, Nat.le_of_ble_eq_true rfl, Or.inl ⟨_, _, _, rfl⟩, nmh_47⟩
theorem np_X10_routineMode : npar (mNm 66935474).desc = some 1 := by decide +kernel
theorem im_X10_routineMode : Cond.instanceMethod (mNm 66935474) ∈ lw_all := lw_g (lw_at lw_m23 25 rfl) rfl
theorem mok_X10_part : MOK 67197619 := ⟨lw_g (lw_at lw_m23 30 rfl) rfl, Or.inl ⟨ini_47, by decide⟩, Nat.le_of_ble_eq_true rfl, Or.inl ⟨_, _, _, rfl⟩, nmh_47⟩
theorem np_X10_part : npar (mNm 67197619).desc = some 2 := by decide +kernel
theorem im_X10_part : Cond.instanceMethod (mNm 67197619) ∈ lw_all := lw_g (lw_at lw_m23 29 rfl) rfl
theorem mok_X10_operates : MOK 67459763 := ⟨lw_g (lw_at lw_m23 34 rfl) rfl, Or.inl ⟨ini_47, by decide⟩, Nat.le_of_ble_eq_true rfl, Or.inl ⟨_, _, _, rfl⟩, nmh_47⟩
theorem np_X10_operates : npar (mNm 67459763).desc = some 2 := by decide +kernel
theorem im_X10_operates : Cond.instanceMethod (mNm 67459763) ∈ lw_all := lw_g (lw_at lw_m23 33 rfl) rfl
theorem mok_X10_findOperation : MOK 67721908 := ⟨lw_g (lw_at lw_m23 38 rfl) rfl, Or.inl ⟨ini_47, by decide⟩, Nat.le_of_ble_eq_true rfl, Or.inl ⟨_, _, _, rfl⟩, nmh_47⟩
theorem np_X10_findOperation : npar (mNm 67721908).desc = some 3 := by decide +kernel
theorem im_X10_findOperation : Cond.instanceMethod (mNm 67721908) ∈ lw_all := lw_g (lw_at lw_m23 37 rfl) rfl
theorem mok_X10_firm : MOK 67984052 := ⟨lw_g (lw_at lw_m23 42 rfl) rfl, Or.inl ⟨ini_47, by decide⟩, Nat.le_of_ble_eq_true rfl, Or.inl ⟨_, _, _, rfl⟩, nmh_47⟩
theorem np_X10_firm : npar (mNm 67984052).desc = some 3 := by decide +kernel
theorem im_X10_firm : Cond.instanceMethod (mNm 67984052) ∈ lw_all := lw_g (lw_at lw_m23 41 rfl) rfl
theorem mok_X10_unites : MOK 68246195 := ⟨lw_g (lw_at lw_m23 46 rfl) rfl, Or.inl ⟨ini_47, by decide⟩, Nat.le_of_ble_eq_true rfl, Or.inl ⟨_, _, _, rfl⟩, nmh_47⟩
theorem np_X10_unites : npar (mNm 68246195).desc = some 2 := by decide +kernel
theorem im_X10_unites : Cond.instanceMethod (mNm 68246195) ∈ lw_all := lw_g (lw_at lw_m23 45 rfl) rfl
theorem mok_X10_isMember : MOK 68508339 := ⟨lw_g (lw_at lw_m23 50 rfl) rfl, Or.inl ⟨ini_47, by decide⟩, Nat.le_of_ble_eq_true rfl, Or.inl ⟨_, _, _, rfl⟩, nmh_47⟩
theorem np_X10_isMember : npar (mNm 68508339).desc = some 2 := by decide +kernel
theorem im_X10_isMember : Cond.instanceMethod (mNm 68508339) ∈ lw_all := lw_g (lw_at lw_m23 49 rfl) rfl
theorem mok_X10_lay : MOK 68770483 := ⟨lw_g (lw_at lw_m23 54 rfl) rfl, Or.inl ⟨ini_47, by decide⟩, Nat.le_of_ble_eq_true rfl, Or.inl ⟨_, _, _, rfl⟩, nmh_47⟩
theorem np_X10_lay : npar (mNm 68770483).desc = some 2 := by decide +kernel
theorem im_X10_lay : Cond.instanceMethod (mNm 68770483) ∈ lw_all := lw_g (lw_at lw_m23 53 rfl) rfl
theorem mok_X10_strip : MOK 69032625 := ⟨lw_g (lw_at lw_m23 58 rfl) rfl, Or.inl ⟨ini_47, by decide⟩, Nat.le_of_ble_eq_true rfl, Or.inl ⟨_, _, _, rfl⟩, nmh_47⟩
theorem np_X10_strip : npar (mNm 69032625).desc = some 0 := by decide +kernel
theorem im_X10_strip : Cond.instanceMethod (mNm 69032625) ∈ lw_all := lw_g (lw_at lw_m23 57 rfl) rfl
theorem mok_X10_standardOne : MOK 69294771 := ⟨lw_g (lw_at lw_m23 62 rfl) rfl, Or.inl ⟨ini_47, by decide⟩, Nat.le_of_ble_eq_true rfl, Or.inl ⟨_, _, _, rfl⟩, nmh_47⟩
theorem np_X10_standardOne : npar (mNm 69294771).desc = some 2 := by decide +kernel
theorem im_X10_standardOne : Cond.instanceMethod (mNm 69294771) ∈ lw_all := lw_g (lw_at lw_m23 61 rfl) rfl
theorem mok_X10_takesOne : MOK 69556917 := ⟨lw_g (lw_at lw_m23 68 rfl) rfl, Or.inl ⟨ini_47, by decide⟩, Nat.le_of_ble_eq_true rfl, Or.inl ⟨_, _, _, rfl⟩, nmh_47⟩
theorem np_X10_takesOne : npar (mNm 69556917).desc = some 4 := by decide +kernel
theorem im_X10_takesOne : Cond.instanceMethod (mNm 69556917) ∈ lw_all := lw_g (lw_at lw_m23 67 rfl) rfl
theorem mok_X10_reaches : MOK 69819059 := ⟨lw_g (lw_at lw_m23 72 rfl) rfl, Or.inl ⟨ini_47, by decide⟩, Nat.le_of_ble_eq_true rfl, Or.inl ⟨_, _, _, rfl⟩, nmh_47⟩
theorem np_X10_reaches : npar (mNm 69819059).desc = some 2 := by decide +kernel
theorem im_X10_reaches : Cond.instanceMethod (mNm 69819059) ∈ lw_all := lw_g (lw_at lw_m23 71 rfl) rfl
theorem mok_X10_standardTwo : MOK 70081204 := ⟨lw_g (lw_at lw_m23 79 rfl) rfl, Or.inl ⟨ini_47, by decide⟩, Nat.le_of_ble_eq_true rfl, Or.inl ⟨_, _, _, rfl⟩, nmh_47⟩
theorem np_X10_standardTwo : npar (mNm 70081204).desc = some 3 := by decide +kernel
theorem im_X10_standardTwo : Cond.instanceMethod (mNm 70081204) ∈ lw_all := lw_g (lw_at lw_m23 78 rfl) rfl
theorem mok_X10_takesBoth : MOK 70343350 := ⟨lw_g (lw_at lw_m23 92 rfl) rfl, Or.inl ⟨ini_47, by decide⟩, Nat.le_of_ble_eq_true rfl, Or.inl ⟨_, _, _, rfl⟩, nmh_47⟩
theorem np_X10_takesBoth : npar (mNm 70343350).desc = some 5 := by decide +kernel
theorem im_X10_takesBoth : Cond.instanceMethod (mNm 70343350) ∈ lw_all := lw_g (lw_at lw_m23 91 rfl) rfl
theorem mok_X10_comesFirm : MOK 70605491 := ⟨lw_g (lw_at lw_m23 98 rfl) rfl, Or.inl ⟨ini_47, by decide⟩, Nat.le_of_ble_eq_true rfl, Or.inl ⟨_, _, _, rfl⟩, nmh_47⟩
theorem np_X10_comesFirm : npar (mNm 70605491).desc = some 2 := by decide +kernel
theorem im_X10_comesFirm : Cond.instanceMethod (mNm 70605491) ∈ lw_all := lw_g (lw_at lw_m23 97 rfl) rfl
theorem mok_X10_settleSteps : MOK 70867634 := ⟨lw_g (lw_at lw_m23 102 rfl) rfl, Or.inl ⟨ini_47, by decide⟩, Nat.le_of_ble_eq_true rfl, Or.inl ⟨_, _, _, rfl⟩, nmh_47⟩
theorem np_X10_settleSteps : npar (mNm 70867634).desc = some 1 := by decide +kernel
theorem im_X10_settleSteps : Cond.instanceMethod (mNm 70867634) ∈ lw_all := lw_g (lw_at lw_m23 101 rfl) rfl
theorem mok_X10_selects : MOK 71129778 := ⟨lw_g (lw_at lw_m23 106 rfl) rfl, Or.inl ⟨ini_47, by decide⟩, Nat.le_of_ble_eq_true rfl, Or.inl ⟨_, _, _, rfl⟩, nmh_47⟩
theorem np_X10_selects : npar (mNm 71129778).desc = some 1 := by decide +kernel
theorem im_X10_selects : Cond.instanceMethod (mNm 71129778) ∈ lw_all := lw_g (lw_at lw_m23 105 rfl) rfl
theorem mok_X10_calls : MOK 71391922 := ⟨lw_g (lw_at lw_m23 110 rfl) rfl, Or.inl ⟨ini_47, by decide⟩, Nat.le_of_ble_eq_true rfl, Or.inl ⟨_, _, _, rfl⟩, nmh_47⟩
theorem np_X10_calls : npar (mNm 71391922).desc = some 1 := by decide +kernel
theorem im_X10_calls : Cond.instanceMethod (mNm 71391922) ∈ lw_all := lw_g (lw_at lw_m23 109 rfl) rfl
theorem mok_X10_partsOf : MOK 71654066 := ⟨lw_g (lw_at lw_m23 114 rfl) rfl, Or.inl ⟨ini_47, by decide⟩, Nat.le_of_ble_eq_true rfl, Or.inl ⟨_, _, _, rfl⟩, nmh_47⟩
theorem np_X10_partsOf : npar (mNm 71654066).desc = some 1 := by decide +kernel
theorem im_X10_partsOf : Cond.instanceMethod (mNm 71654066) ∈ lw_all := lw_g (lw_at lw_m23 113 rfl) rfl
theorem mok_X10_comesStrong : MOK 71916211 := ⟨lw_g (lw_at lw_m23 118 rfl) rfl, Or.inl ⟨ini_47, by decide⟩, Nat.le_of_ble_eq_true rfl, Or.inl ⟨_, _, _, rfl⟩, nmh_47⟩
theorem np_X10_comesStrong : npar (mNm 71916211).desc = some 2 := by decide +kernel
theorem im_X10_comesStrong : Cond.instanceMethod (mNm 71916211) ∈ lw_all := lw_g (lw_at lw_m23 117 rfl) rfl
theorem mok_X10_comesOne : MOK 72178355 := ⟨lw_g (lw_at lw_m23 122 rfl) rfl, Or.inl ⟨ini_47, by decide⟩, Nat.le_of_ble_eq_true rfl, Or.inl ⟨_, _, _, rfl⟩, nmh_47⟩
theorem np_X10_comesOne : npar (mNm 72178355).desc = some 2 := by decide +kernel
theorem im_X10_comesOne : Cond.instanceMethod (mNm 72178355) ∈ lw_all := lw_g (lw_at lw_m23 121 rfl) rfl
theorem mok_X10_isMixed : MOK 72440498 := ⟨lw_g (lw_at lw_m23 126 rfl) rfl, Or.inl ⟨ini_47, by decide⟩, Nat.le_of_ble_eq_true rfl, Or.inl ⟨_, _, _, rfl⟩, nmh_47⟩
theorem np_X10_isMixed : npar (mNm 72440498).desc = some 1 := by decide +kernel
theorem im_X10_isMixed : Cond.instanceMethod (mNm 72440498) ∈ lw_all := lw_g (lw_at lw_m23 125 rfl) rfl
theorem mok_X10_pileEnds : MOK 72702643 := ⟨lw_g (lw_at lw_m23 130 rfl) rfl, Or.inl ⟨ini_47, by decide⟩, Nat.le_of_ble_eq_true rfl, Or.inl ⟨_, _, _, rfl⟩, nmh_47⟩
theorem np_X10_pileEnds : npar (mNm 72702643).desc = some 2 := by decide +kernel
theorem im_X10_pileEnds : Cond.instanceMethod (mNm 72702643) ∈ lw_all := lw_g (lw_at lw_m23 129 rfl) rfl
theorem mok_X10_displays : MOK 72964787 := ⟨lw_g (lw_at lw_m23 134 rfl) rfl, Or.inl ⟨ini_47, by decide⟩, Nat.le_of_ble_eq_true rfl, Or.inl ⟨_, _, _, rfl⟩, nmh_47⟩
theorem np_X10_displays : npar (mNm 72964787).desc = some 2 := by decide +kernel
theorem im_X10_displays : Cond.instanceMethod (mNm 72964787) ∈ lw_all := lw_g (lw_at lw_m23 133 rfl) rfl
theorem mok_X10_strong : MOK 73226931 := ⟨lw_g (lw_at lw_m23 138 rfl) rfl, Or.inl ⟨ini_47, by decide⟩, Nat.le_of_ble_eq_true rfl, Or.inl ⟨_, _, _, rfl⟩, nmh_47⟩
theorem np_X10_strong : npar (mNm 73226931).desc = some 2 := by decide +kernel
theorem im_X10_strong : Cond.instanceMethod (mNm 73226931) ∈ lw_all := lw_g (lw_at lw_m23 137 rfl) rfl
theorem mok_X10_kindOf : MOK 73489074 := ⟨lw_g (lw_at lw_m23 142 rfl) rfl, Or.inl ⟨ini_47, by decide⟩, Nat.le_of_ble_eq_true rfl, Or.inl ⟨_, _, _, rfl⟩, nmh_47⟩
theorem np_X10_kindOf : npar (mNm 73489074).desc = some 1 := by decide +kernel
theorem im_X10_kindOf : Cond.instanceMethod (mNm 73489074) ∈ lw_all := lw_g (lw_at lw_m23 141 rfl) rfl
theorem mok_X10_slices : MOK 73751218 := ⟨lw_g (lw_at lw_m23 146 rfl) rfl, Or.inl ⟨ini_47, by decide⟩, Nat.le_of_ble_eq_true rfl, Or.inl ⟨_, _, _, rfl⟩, nmh_47⟩
theorem np_X10_slices : npar (mNm 73751218).desc = some 1 := by decide +kernel
theorem im_X10_slices : Cond.instanceMethod (mNm 73751218) ∈ lw_all := lw_g (lw_at lw_m23 145 rfl) rfl
theorem mok_X10_behindPart : MOK 74013364 := ⟨lw_g (lw_at lw_m23 150 rfl) rfl, Or.inl ⟨ini_47, by decide⟩, Nat.le_of_ble_eq_true rfl, Or.inl ⟨_, _, _, rfl⟩, nmh_47⟩
theorem np_X10_behindPart : npar (mNm 74013364).desc = some 3 := by decide +kernel
theorem im_X10_behindPart : Cond.instanceMethod (mNm 74013364) ∈ lw_all := lw_g (lw_at lw_m23 149 rfl) rfl
theorem mok_X10_isDeclaration : MOK 74275506 := ⟨lw_g (lw_at lw_m23 154 rfl) rfl, Or.inl ⟨ini_47, by decide⟩, Nat.le_of_ble_eq_true rfl, Or.inl ⟨_, _, _, rfl⟩, nmh_47⟩
theorem np_X10_isDeclaration : npar (mNm 74275506).desc = some 1 := by decide +kernel
theorem im_X10_isDeclaration : Cond.instanceMethod (mNm 74275506) ∈ lw_all := lw_g (lw_at lw_m23 153 rfl) rfl
theorem mok_X10_comes : MOK 74537651 := ⟨lw_g (lw_at lw_m23 158 rfl) rfl, Or.inl ⟨ini_47, by decide⟩, Nat.le_of_ble_eq_true rfl, Or.inl ⟨_, _, _, rfl⟩, nmh_47⟩
theorem np_X10_comes : npar (mNm 74537651).desc = some 2 := by decide +kernel
theorem im_X10_comes : Cond.instanceMethod (mNm 74537651) ∈ lw_all := lw_g (lw_at lw_m23 157 rfl) rfl
theorem mok_X10_settles : MOK 74799794 := ⟨lw_g (lw_at lw_m23 162 rfl) rfl, Or.inl ⟨ini_47, by decide⟩, Nat.le_of_ble_eq_true rfl, Or.inl ⟨_, _, _, rfl⟩, nmh_47⟩
theorem np_X10_settles : npar (mNm 74799794).desc = some 1 := by decide +kernel
theorem im_X10_settles : Cond.instanceMethod (mNm 74799794) ∈ lw_all := lw_g (lw_at lw_m23 161 rfl) rfl
theorem mok_X10_hasNone : MOK 75061938 := ⟨lw_g (lw_at lw_m23 166 rfl) rfl, Or.inl ⟨ini_47, by decide⟩, Nat.le_of_ble_eq_true rfl, Or.inl ⟨_, _, _, rfl⟩, nmh_47⟩
theorem np_X10_hasNone : npar (mNm 75061938).desc = some 1 := by decide +kernel
theorem im_X10_hasNone : Cond.instanceMethod (mNm 75061938) ∈ lw_all := lw_g (lw_at lw_m23 165 rfl) rfl
theorem mok_X10_endMode : MOK 75324082 := ⟨lw_g (lw_at lw_m23 170 rfl) rfl, Or.inl ⟨ini_47, by decide⟩, Nat.le_of_ble_eq_true rfl, Or.inl ⟨_, _, _, rfl⟩, nmh_47⟩
theorem np_X10_endMode : npar (mNm 75324082).desc = some 1 := by decide +kernel
theorem im_X10_endMode : Cond.instanceMethod (mNm 75324082) ∈ lw_all := lw_g (lw_at lw_m23 169 rfl) rfl
theorem mok_X10_findEnds : MOK 75586226 := ⟨lw_g (lw_at lw_m23 174 rfl) rfl, Or.inl ⟨ini_47, by decide⟩, Nat.le_of_ble_eq_true rfl, Or.inl ⟨_, _, _, rfl⟩, nmh_47⟩
theorem np_X10_findEnds : npar (mNm 75586226).desc = some 1 := by decide +kernel
theorem im_X10_findEnds : Cond.instanceMethod (mNm 75586226) ∈ lw_all := lw_g (lw_at lw_m23 173 rfl) rfl
theorem mok_X10_meek : MOK 75848371 := ⟨lw_g (lw_at lw_m23 178 rfl) rfl, Or.inl ⟨ini_47, by decide⟩, Nat.le_of_ble_eq_true rfl, Or.inl ⟨_, _, _, rfl⟩, nmh_47⟩
theorem np_X10_meek : npar (mNm 75848371).desc = some 2 := by decide +kernel
theorem im_X10_meek : Cond.instanceMethod (mNm 75848371) ∈ lw_all := lw_g (lw_at lw_m23 177 rfl) rfl
theorem mok_X10_suits : MOK 76110515 := ⟨lw_g (lw_at lw_m23 182 rfl) rfl, Or.inl ⟨ini_47, by decide⟩, Nat.le_of_ble_eq_true rfl, Or.inl ⟨_, _, _, rfl⟩, nmh_47⟩
theorem np_X10_suits : npar (mNm 76110515).desc = some 2 := by decide +kernel
theorem im_X10_suits : Cond.instanceMethod (mNm 76110515) ∈ lw_all := lw_g (lw_at lw_m23 181 rfl) rfl
theorem mok_X10_compares : MOK 76372659 := ⟨lw_g (lw_at lw_m23 186 rfl) rfl, Or.inl ⟨ini_47, by decide⟩, Nat.le_of_ble_eq_true rfl, Or.inl ⟨_, _, _, rfl⟩, nmh_47⟩
theorem np_X10_compares : npar (mNm 76372659).desc = some 2 := by decide +kernel
theorem im_X10_compares : Cond.instanceMethod (mNm 76372659) ∈ lw_all := lw_g (lw_at lw_m23 185 rfl) rfl
theorem mok_X10_loops : MOK 76634804 := ⟨lw_g (lw_at lw_m23 190 rfl) rfl, Or.inl ⟨ini_47, by decide⟩, Nat.le_of_ble_eq_true rfl, Or.inl ⟨_, _, _, rfl⟩, nmh_47⟩
theorem np_X10_loops : npar (mNm 76634804).desc = some 3 := by decide +kernel
theorem im_X10_loops : Cond.instanceMethod (mNm 76634804) ∈ lw_all := lw_g (lw_at lw_m23 189 rfl) rfl
theorem mok_X10_fails0 : MOK 76896945 := ⟨lw_g (lw_at lw_m23 194 rfl) rfl, Or.inl ⟨ini_47, by decide⟩, Nat.le_of_ble_eq_true rfl, Or.inl ⟨_, _, _, rfl⟩, nmh_47⟩
theorem np_X10_fails0 : npar (mNm 76896945).desc = some 0 := by decide +kernel
theorem im_X10_fails0 : Cond.instanceMethod (mNm 76896945) ∈ lw_all := lw_g (lw_at lw_m23 193 rfl) rfl
theorem mok_X10_fault : MOK 77159090 := ⟨lw_g (lw_at lw_m23 198 rfl) rfl, Or.inl ⟨ini_47, by decide⟩, Nat.le_of_ble_eq_true rfl, Or.inl ⟨_, _, _, rfl⟩, nmh_47⟩
theorem np_X10_fault : npar (mNm 77159090).desc = some 1 := by decide +kernel
theorem im_X10_fault : Cond.instanceMethod (mNm 77159090) ∈ lw_all := lw_g (lw_at lw_m23 196 rfl) rfl
theorem mok_X10_programs : MOK 77421233 := ⟨lw_g (lw_at lw_m23 202 rfl) rfl, Or.inl ⟨ini_47, by decide⟩, Nat.le_of_ble_eq_true rfl, Or.inl ⟨_, _, _, rfl⟩, nmh_47⟩
theorem np_X10_programs : npar (mNm 77421233).desc = some 0 := by decide +kernel
theorem im_X10_programs : Cond.instanceMethod (mNm 77421233) ∈ lw_all := lw_g (lw_at lw_m23 200 rfl) rfl
theorem mok_X10_clear : MOK 77683377 := ⟨lw_g (lw_at lw_m23 206 rfl) rfl, Or.inl ⟨ini_47, by decide⟩, Nat.le_of_ble_eq_true rfl, Or.inl ⟨_, _, _, rfl⟩, nmh_47⟩
theorem np_X10_clear : npar (mNm 77683377).desc = some 0 := by decide +kernel
theorem im_X10_clear : Cond.instanceMethod (mNm 77683377) ∈ lw_all := lw_g (lw_at lw_m23 204 rfl) rfl
theorem mok_X10_nodes : MOK 77945522 := ⟨lw_g (lw_at lw_m23 210 rfl) rfl, Or.inl ⟨ini_47, by decide⟩, Nat.le_of_ble_eq_true rfl, Or.inl ⟨_, _, _, rfl⟩, nmh_47⟩
theorem np_X10_nodes : npar (mNm 77945522).desc = some 1 := by decide +kernel
theorem im_X10_nodes : Cond.instanceMethod (mNm 77945522) ∈ lw_all := lw_g (lw_at lw_m23 208 rfl) rfl
theorem mok_X10_isProgram : MOK 78207666 := ⟨lw_g (lw_at lw_m23 214 rfl) rfl, Or.inl ⟨ini_47, by decide⟩, Nat.le_of_ble_eq_true rfl, Or.inl ⟨_, _, _, rfl⟩, nmh_47⟩
theorem np_X10_isProgram : npar (mNm 78207666).desc = some 1 := by decide +kernel
theorem im_X10_isProgram : Cond.instanceMethod (mNm 78207666) ∈ lw_all := lw_g (lw_at lw_m23 213 rfl) rfl
theorem mok_X10_node : MOK 78469812 := ⟨lw_g (lw_at lw_m23 218 rfl) rfl, Or.inl ⟨ini_47, by decide⟩, Nat.le_of_ble_eq_true rfl, Or.inl ⟨_, _, _, rfl⟩, nmh_47⟩
theorem np_X10_node : npar (mNm 78469812).desc = some 3 := by decide +kernel
theorem im_X10_node : Cond.instanceMethod (mNm 78469812) ∈ lw_all := lw_g (lw_at lw_m23 216 rfl) rfl
theorem mok_X10_isNode : MOK 78731955 := ⟨lw_g (lw_at lw_m23 222 rfl) rfl, Or.inl ⟨ini_47, by decide⟩, Nat.le_of_ble_eq_true rfl, Or.inl ⟨_, _, _, rfl⟩, nmh_47⟩
theorem np_X10_isNode : npar (mNm 78731955).desc = some 2 := by decide +kernel
theorem im_X10_isNode : Cond.instanceMethod (mNm 78731955) ∈ lw_all := lw_g (lw_at lw_m23 221 rfl) rfl
theorem mok_X10_step : MOK 78994100 := ⟨lw_g (lw_at lw_m23 227 rfl) rfl, Or.inl ⟨ini_47, by decide⟩, Nat.le_of_ble_eq_true rfl, Or.inl ⟨_, _, _, rfl⟩, nmh_47⟩
theorem np_X10_step : npar (mNm 78994100).desc = some 3 := by decide +kernel
theorem im_X10_step : Cond.instanceMethod (mNm 78994100) ∈ lw_all := lw_g (lw_at lw_m23 225 rfl) rfl
theorem mok_X10_mode : MOK 79256244 := ⟨lw_g (lw_at lw_m23 231 rfl) rfl, Or.inl ⟨ini_47, by decide⟩, Nat.le_of_ble_eq_true rfl, Or.inl ⟨_, _, _, rfl⟩, nmh_47⟩
theorem np_X10_mode : npar (mNm 79256244).desc = some 3 := by decide +kernel
theorem im_X10_mode : Cond.instanceMethod (mNm 79256244) ∈ lw_all := lw_g (lw_at lw_m23 229 rfl) rfl
theorem mok_X10_walked : MOK 79518387 := ⟨lw_g (lw_at lw_m23 235 rfl) rfl, Or.inl ⟨ini_47, by decide⟩, Nat.le_of_ble_eq_true rfl, Or.inl ⟨_, _, _, rfl⟩, nmh_47⟩
theorem np_X10_walked : npar (mNm 79518387).desc = some 2 := by decide +kernel
theorem im_X10_walked : Cond.instanceMethod (mNm 79518387) ∈ lw_all := lw_g (lw_at lw_m23 234 rfl) rfl
theorem mok_X10_modeAhead : MOK 79780530 := ⟨lw_g (lw_at lw_m23 239 rfl) rfl, Or.inl ⟨ini_47, by decide⟩, Nat.le_of_ble_eq_true rfl, Or.inl ⟨_, _, _, rfl⟩, nmh_47⟩
theorem np_X10_modeAhead : npar (mNm 79780530).desc = some 1 := by decide +kernel
theorem im_X10_modeAhead : Cond.instanceMethod (mNm 79780530) ∈ lw_all := lw_g (lw_at lw_m23 238 rfl) rfl
theorem mok_X10_parts : MOK 80042676 := ⟨lw_g (lw_at lw_m24 3 rfl) rfl, Or.inl ⟨ini_47, by decide⟩, Nat.le_of_ble_eq_true rfl, Or.inl ⟨_, _, _, rfl⟩, nmh_47⟩
theorem np_X10_parts : npar (mNm 80042676).desc = some 3 := by decide +kernel
theorem im_X10_parts : Cond.instanceMethod (mNm 80042676) ∈ lw_all := lw_g (lw_at lw_m24 1 rfl) rfl
theorem mok_X10_one : MOK 80304821 := ⟨lw_g (lw_at lw_m24 7 rfl) rfl, Or.inl ⟨ini_47, by decide⟩, Nat.le_of_ble_eq_true rfl, Or.inl ⟨_, _, _, rfl⟩, nmh_47⟩
theorem np_X10_one : npar (mNm 80304821).desc = some 4 := by decide +kernel
theorem im_X10_one : Cond.instanceMethod (mNm 80304821) ∈ lw_all := lw_g (lw_at lw_m24 5 rfl) rfl
theorem mok_X10_meant : MOK 80566963 := ⟨lw_g (lw_at lw_m24 11 rfl) rfl, Or.inl ⟨ini_47, by decide⟩, Nat.le_of_ble_eq_true rfl, Or.inl ⟨_, _, _, rfl⟩, nmh_47⟩
theorem np_X10_meant : npar (mNm 80566963).desc = some 2 := by decide +kernel
theorem im_X10_meant : Cond.instanceMethod (mNm 80566963) ∈ lw_all := lw_g (lw_at lw_m24 9 rfl) rfl
theorem mok_X10_run : MOK 80829108 := ⟨lw_g (lw_at lw_m24 15 rfl) rfl, Or.inl ⟨ini_47, by decide⟩, Nat.le_of_ble_eq_true rfl, Or.inl ⟨_, _, _, rfl⟩, nmh_47⟩
theorem np_X10_run : npar (mNm 80829108).desc = some 3 := by decide +kernel
theorem im_X10_run : Cond.instanceMethod (mNm 80829108) ∈ lw_all := lw_g (lw_at lw_m24 13 rfl) rfl
theorem mok_X10_works : MOK 81091251 := ⟨lw_g (lw_at lw_m24 20 rfl) rfl, Or.inl ⟨ini_47, by decide⟩, Nat.le_of_ble_eq_true rfl, Or.inl ⟨_, _, _, rfl⟩, nmh_47⟩
theorem np_X10_works : npar (mNm 81091251).desc = some 2 := by decide +kernel
theorem im_X10_works : Cond.instanceMethod (mNm 81091251) ∈ lw_all := lw_g (lw_at lw_m24 19 rfl) rfl
theorem mok_X10_beginValues : MOK 81353393 := ⟨lw_g (lw_at lw_m24 24 rfl) rfl, Or.inl ⟨ini_47, by decide⟩, Nat.le_of_ble_eq_true rfl, Or.inl ⟨_, _, _, rfl⟩, nmh_47⟩
theorem np_X10_beginValues : npar (mNm 81353393).desc = some 0 := by decide +kernel
theorem im_X10_beginValues : Cond.instanceMethod (mNm 81353393) ∈ lw_all := lw_g (lw_at lw_m24 23 rfl) rfl
theorem mok_X10_value : MOK 81615542 := ⟨lw_g (lw_at lw_m24 28 rfl) rfl, Or.inl ⟨ini_47, by decide⟩, Nat.le_of_ble_eq_true rfl, Or.inl ⟨_, _, _, rfl⟩, nmh_47⟩
theorem np_X10_value : npar (mNm 81615542).desc = some 5 := by decide +kernel
theorem im_X10_value : Cond.instanceMethod (mNm 81615542) ∈ lw_all := lw_g (lw_at lw_m24 27 rfl) rfl
theorem mok_X10_enter : MOK 81877682 := ⟨lw_g (lw_at lw_m24 32 rfl) rfl, Or.inl ⟨ini_47, by decide⟩, Nat.le_of_ble_eq_true rfl, Or.inl ⟨_, _, _, rfl⟩, nmh_47⟩
theorem np_X10_enter : npar (mNm 81877682).desc = some 1 := by decide +kernel
theorem im_X10_enter : Cond.instanceMethod (mNm 81877682) ∈ lw_all := lw_g (lw_at lw_m24 31 rfl) rfl
theorem mok_X10_takesStep : MOK 82139826 := ⟨lw_g (lw_at lw_m24 36 rfl) rfl, Or.inl ⟨ini_47, by decide⟩, Nat.le_of_ble_eq_true rfl, Or.inl ⟨_, _, _, rfl⟩, nmh_47⟩
theorem np_X10_takesStep : npar (mNm 82139826).desc = some 1 := by decide +kernel
theorem im_X10_takesStep : Cond.instanceMethod (mNm 82139826) ∈ lw_all := lw_g (lw_at lw_m24 35 rfl) rfl
theorem mok_X10_failsAt : MOK 82401971 := ⟨lw_g (lw_at lw_m24 40 rfl) rfl, Or.inl ⟨ini_47, by decide⟩, Nat.le_of_ble_eq_true rfl, Or.inl ⟨_, _, _, rfl⟩, nmh_47⟩
theorem np_X10_failsAt : npar (mNm 82401971).desc = some 2 := by decide +kernel
theorem im_X10_failsAt : Cond.instanceMethod (mNm 82401971) ∈ lw_all := lw_g (lw_at lw_m24 39 rfl) rfl
theorem mok_X10_turn : MOK 82664114 := ⟨lw_g (lw_at lw_m24 44 rfl) rfl, Or.inl ⟨ini_47, by decide⟩, Nat.le_of_ble_eq_true rfl, Or.inl ⟨_, _, _, rfl⟩, nmh_47⟩
theorem np_X10_turn : npar (mNm 82664114).desc = some 1 := by decide +kernel
theorem im_X10_turn : Cond.instanceMethod (mNm 82664114) ∈ lw_all := lw_g (lw_at lw_m24 43 rfl) rfl
theorem mok_X10_beginsWork : MOK 82926259 := ⟨lw_g (lw_at lw_m24 48 rfl) rfl, Or.inl ⟨ini_47, by decide⟩, Nat.le_of_ble_eq_true rfl, Or.inl ⟨_, _, _, rfl⟩, nmh_47⟩
theorem np_X10_beginsWork : npar (mNm 82926259).desc = some 2 := by decide +kernel
theorem im_X10_beginsWork : Cond.instanceMethod (mNm 82926259) ∈ lw_all := lw_g (lw_at lw_m24 47 rfl) rfl
theorem mok_X10_beginRange : MOK 83188405 := ⟨lw_g (lw_at lw_m24 52 rfl) rfl, Or.inl ⟨ini_47, by decide⟩, Nat.le_of_ble_eq_true rfl, Or.inl ⟨_, _, _, rfl⟩, nmh_47⟩
theorem np_X10_beginRange : npar (mNm 83188405).desc = some 4 := by decide +kernel
theorem im_X10_beginRange : Cond.instanceMethod (mNm 83188405) ∈ lw_all := lw_g (lw_at lw_m24 51 rfl) rfl
theorem mok_X10_partsFirst : MOK 83450546 := ⟨lw_g (lw_at lw_m24 56 rfl) rfl, Or.inl ⟨ini_47, by decide⟩, Nat.le_of_ble_eq_true rfl, Or.inl ⟨_, _, _, rfl⟩, nmh_47⟩
theorem np_X10_partsFirst : npar (mNm 83450546).desc = some 1 := by decide +kernel
theorem im_X10_partsFirst : Cond.instanceMethod (mNm 83450546) ∈ lw_all := lw_g (lw_at lw_m24 55 rfl) rfl
theorem mok_X10_orderOf : MOK 83712690 := ⟨lw_g (lw_at lw_m24 60 rfl) rfl, Or.inl ⟨ini_47, by decide⟩, Nat.le_of_ble_eq_true rfl, Or.inl ⟨_, _, _, rfl⟩, nmh_47⟩
theorem np_X10_orderOf : npar (mNm 83712690).desc = some 1 := by decide +kernel
theorem im_X10_orderOf : Cond.instanceMethod (mNm 83712690) ∈ lw_all := lw_g (lw_at lw_m24 59 rfl) rfl
theorem mok_X10_drawOf : MOK 83974834 := ⟨lw_g (lw_at lw_m24 64 rfl) rfl, Or.inl ⟨ini_47, by decide⟩, Nat.le_of_ble_eq_true rfl, Or.inl ⟨_, _, _, rfl⟩, nmh_47⟩
theorem np_X10_drawOf : npar (mNm 83974834).desc = some 1 := by decide +kernel
theorem im_X10_drawOf : Cond.instanceMethod (mNm 83974834) ∈ lw_all := lw_g (lw_at lw_m24 63 rfl) rfl
theorem mok_X10_acts : MOK 84236979 := ⟨lw_g (lw_at lw_m24 72 rfl) rfl, Or.inl ⟨ini_47, by decide⟩, Nat.le_of_ble_eq_true rfl, Or.inl ⟨_, _, _, rfl⟩, nmh_47⟩
theorem np_X10_acts : npar (mNm 84236979).desc = some 2 := by decide +kernel
theorem im_X10_acts : Cond.instanceMethod (mNm 84236979) ∈ lw_all := lw_g (lw_at lw_m24 71 rfl) rfl
theorem mok_X10_numberValue : MOK 84499122 := ⟨lw_g (lw_at lw_m24 76 rfl) rfl, Or.inl ⟨ini_47, by decide⟩, Nat.le_of_ble_eq_true rfl, Or.inl ⟨_, _, _, rfl⟩, nmh_47⟩
theorem np_X10_numberValue : npar (mNm 84499122).desc = some 1 := by decide +kernel
theorem im_X10_numberValue : Cond.instanceMethod (mNm 84499122) ∈ lw_all := lw_g (lw_at lw_m24 75 rfl) rfl
theorem mok_X10_yields : MOK 84761267 := ⟨lw_g (lw_at lw_m24 80 rfl) rfl, Or.inl ⟨ini_47, by decide⟩, Nat.le_of_ble_eq_true rfl, Or.inl ⟨_, _, _, rfl⟩, nmh_47⟩
theorem np_X10_yields : npar (mNm 84761267).desc = some 2 := by decide +kernel
theorem im_X10_yields : Cond.instanceMethod (mNm 84761267) ∈ lw_all := lw_g (lw_at lw_m24 79 rfl) rfl
theorem mok_X10_named0 : MOK 85023411 := ⟨lw_g (lw_at lw_m24 84 rfl) rfl, Or.inl ⟨ini_47, by decide⟩, Nat.le_of_ble_eq_true rfl, Or.inl ⟨_, _, _, rfl⟩, nmh_47⟩
theorem np_X10_named0 : npar (mNm 85023411).desc = some 2 := by decide +kernel
theorem im_X10_named0 : Cond.instanceMethod (mNm 85023411) ∈ lw_all := lw_g (lw_at lw_m24 83 rfl) rfl
theorem mok_X10_rangeNodeOf : MOK 85285554 := ⟨lw_g (lw_at lw_m24 88 rfl) rfl, Or.inl ⟨ini_47, by decide⟩, Nat.le_of_ble_eq_true rfl, Or.inl ⟨_, _, _, rfl⟩, nmh_47⟩
theorem np_X10_rangeNodeOf : npar (mNm 85285554).desc = some 1 := by decide +kernel
theorem im_X10_rangeNodeOf : Cond.instanceMethod (mNm 85285554) ∈ lw_all := lw_g (lw_at lw_m24 87 rfl) rfl
theorem mok_X10_rangeOf : MOK 85547698 := ⟨lw_g (lw_at lw_m24 92 rfl) rfl, Or.inl ⟨ini_47, by decide⟩, Nat.le_of_ble_eq_true rfl, Or.inl ⟨_, _, _, rfl⟩, nmh_47⟩
theorem np_X10_rangeOf : npar (mNm 85547698).desc = some 1 := by decide +kernel
theorem im_X10_rangeOf : Cond.instanceMethod (mNm 85547698) ∈ lw_all := lw_g (lw_at lw_m24 91 rfl) rfl
theorem mok_X10_ageOf : MOK 85809842 := ⟨lw_g (lw_at lw_m24 96 rfl) rfl, Or.inl ⟨ini_47, by decide⟩, Nat.le_of_ble_eq_true rfl, Or.inl ⟨_, _, _, rfl⟩, nmh_47⟩
theorem np_X10_ageOf : npar (mNm 85809842).desc = some 1 := by decide +kernel
theorem im_X10_ageOf : Cond.instanceMethod (mNm 85809842) ∈ lw_all := lw_g (lw_at lw_m24 95 rfl) rfl
theorem mok_X10_left : MOK 86071986 := ⟨lw_g (lw_at lw_m24 100 rfl) rfl, Or.inl ⟨ini_47, by decide⟩, Nat.le_of_ble_eq_true rfl, Or.inl ⟨_, _, _, rfl⟩, nmh_47⟩
theorem np_X10_left : npar (mNm 86071986).desc = some 1 := by decide +kernel
theorem im_X10_left : Cond.instanceMethod (mNm 86071986) ∈ lw_all := lw_g (lw_at lw_m24 99 rfl) rfl
theorem mok_X10_variable : MOK 86334131 := ⟨lw_g (lw_at lw_m24 104 rfl) rfl, Or.inl ⟨ini_47, by decide⟩, Nat.le_of_ble_eq_true rfl, Or.inl ⟨_, _, _, rfl⟩, nmh_47⟩
theorem np_X10_variable : npar (mNm 86334131).desc = some 2 := by decide +kernel
theorem im_X10_variable : Cond.instanceMethod (mNm 86334131) ∈ lw_all := lw_g (lw_at lw_m24 103 rfl) rfl
theorem mok_X10_newPlace : MOK 86596275 := ⟨lw_g (lw_at lw_m24 108 rfl) rfl, Or.inl ⟨ini_47, by decide⟩, Nat.le_of_ble_eq_true rfl, Or.inl ⟨_, _, _, rfl⟩, nmh_47⟩
theorem np_X10_newPlace : npar (mNm 86596275).desc = some 2 := by decide +kernel
theorem im_X10_newPlace : Cond.instanceMethod (mNm 86596275) ∈ lw_all := lw_g (lw_at lw_m24 107 rfl) rfl
theorem mok_X10_right : MOK 86858418 := ⟨lw_g (lw_at lw_m24 112 rfl) rfl, Or.inl ⟨ini_47, by decide⟩, Nat.le_of_ble_eq_true rfl, Or.inl ⟨_, _, _, rfl⟩, nmh_47⟩
theorem np_X10_right : npar (mNm 86858418).desc = some 1 := by decide +kernel
theorem im_X10_right : Cond.instanceMethod (mNm 86858418) ∈ lw_all := lw_g (lw_at lw_m24 111 rfl) rfl
theorem mok_X10_sizeOf : MOK 87120562 := ⟨lw_g (lw_at lw_m24 117 rfl) rfl, Or.inl ⟨ini_47, by decide⟩, Nat.le_of_ble_eq_true rfl, Or.inl ⟨_, _, _, rfl⟩, nmh_47⟩
theorem np_X10_sizeOf : npar (mNm 87120562).desc = some 1 := by decide +kernel
theorem im_X10_sizeOf : Cond.instanceMethod (mNm 87120562) ∈ lw_all := lw_g (lw_at lw_m24 116 rfl) rfl
theorem mok_X10_makePlace : MOK 87382708 := ⟨lw_g (lw_at lw_m24 121 rfl) rfl, Or.inl ⟨ini_47, by decide⟩, Nat.le_of_ble_eq_true rfl, Or.inl ⟨_, _, _, rfl⟩, nmh_47⟩
theorem np_X10_makePlace : npar (mNm 87382708).desc = some 3 := by decide +kernel
theorem im_X10_makePlace : Cond.instanceMethod (mNm 87382708) ∈ lw_all := lw_g (lw_at lw_m24 120 rfl) rfl
theorem mok_X10_onePlace : MOK 87644852 := ⟨lw_g (lw_at lw_m24 125 rfl) rfl, Or.inl ⟨ini_47, by decide⟩, Nat.le_of_ble_eq_true rfl, Or.inl ⟨_, _, _, rfl⟩, nmh_47⟩
theorem np_X10_onePlace : npar (mNm 87644852).desc = some 3 := by decide +kernel
theorem im_X10_onePlace : Cond.instanceMethod (mNm 87644852) ∈ lw_all := lw_g (lw_at lw_m24 124 rfl) rfl
theorem mok_X10_elements : MOK 87906996 := ⟨lw_g (lw_at lw_m24 129 rfl) rfl, Or.inl ⟨ini_47, by decide⟩, Nat.le_of_ble_eq_true rfl, Or.inl ⟨_, _, _, rfl⟩, nmh_47⟩
theorem np_X10_elements : npar (mNm 87906996).desc = some 3 := by decide +kernel
theorem im_X10_elements : Cond.instanceMethod (mNm 87906996) ∈ lw_all := lw_g (lw_at lw_m24 128 rfl) rfl
theorem mok_X10_assigns : MOK 88169139 := ⟨lw_g (lw_at lw_m24 133 rfl) rfl, Or.inl ⟨ini_47, by decide⟩, Nat.le_of_ble_eq_true rfl, Or.inl ⟨_, _, _, rfl⟩, nmh_47⟩
theorem np_X10_assigns : npar (mNm 88169139).desc = some 2 := by decide +kernel
theorem im_X10_assigns : Cond.instanceMethod (mNm 88169139) ∈ lw_all := lw_g (lw_at lw_m24 132 rfl) rfl
theorem mok_X10_isThere : MOK 88431283 := ⟨lw_g (lw_at lw_m24 137 rfl) rfl, Or.inl ⟨ini_47, by decide⟩, Nat.le_of_ble_eq_true rfl, Or.inl ⟨_, _, _, rfl⟩, nmh_47⟩
theorem np_X10_isThere : npar (mNm 88431283).desc = some 2 := by decide +kernel
theorem im_X10_isThere : Cond.instanceMethod (mNm 88431283) ∈ lw_all := lw_g (lw_at lw_m24 136 rfl) rfl
theorem mok_X10_puts : MOK 88693428 := ⟨lw_g (lw_at lw_m24 141 rfl) rfl, Or.inl ⟨ini_47, by decide⟩, Nat.le_of_ble_eq_true rfl, Or.inl ⟨_, _, _, rfl⟩, nmh_47⟩
theorem np_X10_puts : npar (mNm 88693428).desc = some 3 := by decide +kernel
theorem im_X10_puts : Cond.instanceMethod (mNm 88693428) ∈ lw_all := lw_g (lw_at lw_m24 140 rfl) rfl
theorem mok_X10_newPlaces : MOK 88955571 := ⟨lw_g (lw_at lw_m24 145 rfl) rfl, Or.inl ⟨ini_47, by decide⟩, Nat.le_of_ble_eq_true rfl, Or.inl ⟨_, _, _, rfl⟩, nmh_47⟩
theorem np_X10_newPlaces : npar (mNm 88955571).desc = some 2 := by decide +kernel
theorem im_X10_newPlaces : Cond.instanceMethod (mNm 88955571) ∈ lw_all := lw_g (lw_at lw_m24 144 rfl) rfl
theorem mok_X10_sizeWith : MOK 89217715 := ⟨lw_g (lw_at lw_m24 149 rfl) rfl, Or.inl ⟨ini_47, by decide⟩, Nat.le_of_ble_eq_true rfl, Or.inl ⟨_, _, _, rfl⟩, nmh_47⟩
theorem np_X10_sizeWith : npar (mNm 89217715).desc = some 2 := by decide +kernel
theorem im_X10_sizeWith : Cond.instanceMethod (mNm 89217715) ∈ lw_all := lw_g (lw_at lw_m24 148 rfl) rfl
theorem mok_X10_put : MOK 89479859 := ⟨lw_g (lw_at lw_m24 153 rfl) rfl, Or.inl ⟨ini_47, by decide⟩, Nat.le_of_ble_eq_true rfl, Or.inl ⟨_, _, _, rfl⟩, nmh_47⟩
theorem np_X10_put : npar (mNm 89479859).desc = some 2 := by decide +kernel
theorem im_X10_put : Cond.instanceMethod (mNm 89479859) ∈ lw_all := lw_g (lw_at lw_m24 152 rfl) rfl
theorem mok_X10_stale : MOK 89742002 := ⟨lw_g (lw_at lw_m24 157 rfl) rfl, Or.inl ⟨ini_47, by decide⟩, Nat.le_of_ble_eq_true rfl, Or.inl ⟨_, _, _, rfl⟩, nmh_47⟩
theorem np_X10_stale : npar (mNm 89742002).desc = some 1 := by decide +kernel
theorem im_X10_stale : Cond.instanceMethod (mNm 89742002) ∈ lw_all := lw_g (lw_at lw_m24 156 rfl) rfl
theorem mok_X10_operation : MOK 90004147 := ⟨lw_g (lw_at lw_m24 161 rfl) rfl, Or.inl ⟨ini_47, by decide⟩, Nat.le_of_ble_eq_true rfl, Or.inl ⟨_, _, _, rfl⟩, nmh_47⟩
theorem np_X10_operation : npar (mNm 90004147).desc = some 2 := by decide +kernel
theorem im_X10_operation : Cond.instanceMethod (mNm 90004147) ∈ lw_all := lw_g (lw_at lw_m24 160 rfl) rfl
theorem mok_X10_callsRoutine : MOK 90266294 := ⟨lw_g (lw_at lw_m24 165 rfl) rfl, Or.inl ⟨ini_47, by decide⟩, Nat.le_of_ble_eq_true rfl, Or.inl ⟨_, _, _, rfl⟩, nmh_47⟩
theorem np_X10_callsRoutine : npar (mNm 90266294).desc = some 5 := by decide +kernel
theorem im_X10_callsRoutine : Cond.instanceMethod (mNm 90266294) ∈ lw_all := lw_g (lw_at lw_m24 164 rfl) rfl
theorem mok_X10_fitsLong : MOK 90439684 := ⟨lw_g (lw_at lw_m24 168 rfl) rfl, Or.inl ⟨ini_47, by decide⟩, Nat.le_of_ble_eq_true rfl, Or.inl ⟨_, _, _, rfl⟩, nmh_47⟩
theorem np_X10_fitsLong : npar (mNm 90439684).desc = some 4 := by decide +kernel
theorem sm_X10_fitsLong : Cond.static (mNm 90439684) ∈ lw_all := lw_g (lw_at lw_m24 167 rfl) rfl
theorem mok_X10_standard : MOK 90701827 := ⟨lw_g (lw_at lw_m24 173 rfl) rfl, Or.inl ⟨ini_47, by decide⟩, Nat.le_of_ble_eq_true rfl, Or.inl ⟨_, _, _, rfl⟩, nmh_47⟩
theorem np_X10_standard : npar (mNm 90701827).desc = some 3 := by decide +kernel
theorem sm_X10_standard : Cond.static (mNm 90701827) ∈ lw_all := lw_g (lw_at lw_m24 172 rfl) rfl
theorem mok_X10_single : MOK 90963970 := ⟨lw_g (lw_at lw_m24 176 rfl) rfl, Or.inl ⟨ini_47, by decide⟩, Nat.le_of_ble_eq_true rfl, Or.inl ⟨_, _, _, rfl⟩, nmh_47⟩
theorem np_X10_single : npar (mNm 90963970).desc = some 2 := by decide +kernel
theorem sm_X10_single : Cond.static (mNm 90963970) ∈ lw_all := lw_g (lw_at lw_m24 175 rfl) rfl
theorem mok_X10_bounds : MOK 91314867 := ⟨lw_g (lw_at lw_m24 180 rfl) rfl, Or.inl ⟨ini_47, by decide⟩, Nat.le_of_ble_eq_true rfl, Or.inl ⟨_, _, _, rfl⟩, nmh_47⟩
theorem np_X10_bounds : npar (mNm 91314867).desc = some 2 := by decide +kernel
theorem im_X10_bounds : Cond.instanceMethod (mNm 91314867) ∈ lw_all := lw_g (lw_at lw_m24 179 rfl) rfl
theorem mok_X10_isRow : MOK 91577011 := ⟨lw_g (lw_at lw_m24 184 rfl) rfl, Or.inl ⟨ini_47, by decide⟩, Nat.le_of_ble_eq_true rfl, Or.inl ⟨_, _, _, rfl⟩, nmh_47⟩
theorem np_X10_isRow : npar (mNm 91577011).desc = some 2 := by decide +kernel
theorem im_X10_isRow : Cond.instanceMethod (mNm 91577011) ∈ lw_all := lw_g (lw_at lw_m24 183 rfl) rfl
theorem mok_X10_lowOf : MOK 91839154 := ⟨lw_g (lw_at lw_m24 188 rfl) rfl, Or.inl ⟨ini_47, by decide⟩, Nat.le_of_ble_eq_true rfl, Or.inl ⟨_, _, _, rfl⟩, nmh_47⟩
theorem np_X10_lowOf : npar (mNm 91839154).desc = some 1 := by decide +kernel
theorem im_X10_lowOf : Cond.instanceMethod (mNm 91839154) ∈ lw_all := lw_g (lw_at lw_m24 187 rfl) rfl
theorem mok_X10_manyOf : MOK 92101298 := ⟨lw_g (lw_at lw_m24 192 rfl) rfl, Or.inl ⟨ini_47, by decide⟩, Nat.le_of_ble_eq_true rfl, Or.inl ⟨_, _, _, rfl⟩, nmh_47⟩
theorem np_X10_manyOf : npar (mNm 92101298).desc = some 1 := by decide +kernel
theorem im_X10_manyOf : Cond.instanceMethod (mNm 92101298) ∈ lw_all := lw_g (lw_at lw_m24 191 rfl) rfl
theorem mok_X10_selected : MOK 92363443 := ⟨lw_g (lw_at lw_m24 196 rfl) rfl, Or.inl ⟨ini_47, by decide⟩, Nat.le_of_ble_eq_true rfl, Or.inl ⟨_, _, _, rfl⟩, nmh_47⟩
theorem np_X10_selected : npar (mNm 92363443).desc = some 2 := by decide +kernel
theorem im_X10_selected : Cond.instanceMethod (mNm 92363443) ∈ lw_all := lw_g (lw_at lw_m24 195 rfl) rfl
theorem mok_X10_inside : MOK 92625587 := ⟨lw_g (lw_at lw_m24 200 rfl) rfl, Or.inl ⟨ini_47, by decide⟩, Nat.le_of_ble_eq_true rfl, Or.inl ⟨_, _, _, rfl⟩, nmh_47⟩
theorem np_X10_inside : npar (mNm 92625587).desc = some 2 := by decide +kernel
theorem im_X10_inside : Cond.instanceMethod (mNm 92625587) ∈ lw_all := lw_g (lw_at lw_m24 199 rfl) rfl
theorem mok_X10_sliced : MOK 92887731 := ⟨lw_g (lw_at lw_m24 204 rfl) rfl, Or.inl ⟨ini_47, by decide⟩, Nat.le_of_ble_eq_true rfl, Or.inl ⟨_, _, _, rfl⟩, nmh_47⟩
theorem np_X10_sliced : npar (mNm 92887731).desc = some 2 := by decide +kernel
theorem im_X10_sliced : Cond.instanceMethod (mNm 92887731) ∈ lw_all := lw_g (lw_at lw_m24 203 rfl) rfl
theorem mok_X10_trimmed : MOK 93149876 := ⟨lw_g (lw_at lw_m24 208 rfl) rfl, Or.inl ⟨ini_47, by decide⟩, Nat.le_of_ble_eq_true rfl, Or.inl ⟨_, _, _, rfl⟩, nmh_47⟩
theorem np_X10_trimmed : npar (mNm 93149876).desc = some 3 := by decide +kernel
theorem im_X10_trimmed : Cond.instanceMethod (mNm 93149876) ∈ lw_all := lw_g (lw_at lw_m24 207 rfl) rfl
theorem mok_X10_valueOf : MOK 93412018 := ⟨lw_g (lw_at lw_m24 212 rfl) rfl, Or.inl ⟨ini_47, by decide⟩, Nat.le_of_ble_eq_true rfl, Or.inl ⟨_, _, _, rfl⟩, nmh_47⟩
theorem np_X10_valueOf : npar (mNm 93412018).desc = some 1 := by decide +kernel
theorem im_X10_valueOf : Cond.instanceMethod (mNm 93412018) ∈ lw_all := lw_g (lw_at lw_m24 211 rfl) rfl
theorem mok_X10_gathered : MOK 93674162 := ⟨lw_g (lw_at lw_m24 216 rfl) rfl, Or.inl ⟨ini_47, by decide⟩, Nat.le_of_ble_eq_true rfl, Or.inl ⟨_, _, _, rfl⟩, nmh_47⟩
theorem np_X10_gathered : npar (mNm 93674162).desc = some 1 := by decide +kernel
theorem im_X10_gathered : Cond.instanceMethod (mNm 93674162) ∈ lw_all := lw_g (lw_at lw_m24 215 rfl) rfl
theorem mok_X10_placesIn : MOK 93936306 := ⟨lw_g (lw_at lw_m24 220 rfl) rfl, Or.inl ⟨ini_47, by decide⟩, Nat.le_of_ble_eq_true rfl, Or.inl ⟨_, _, _, rfl⟩, nmh_47⟩
theorem np_X10_placesIn : npar (mNm 93936306).desc = some 1 := by decide +kernel
theorem im_X10_placesIn : Cond.instanceMethod (mNm 93936306) ∈ lw_all := lw_g (lw_at lw_m24 219 rfl) rfl
theorem mok_X10_isSmall_2 : MOK 94198451 := ⟨lw_g (lw_at lw_m24 224 rfl) rfl, Or.inl ⟨ini_47, by decide⟩, Nat.le_of_ble_eq_true rfl, Or.inl ⟨_, _, _, rfl⟩, nmh_47⟩
theorem np_X10_isSmall_2 : npar (mNm 94198451).desc = some 2 := by decide +kernel
theorem im_X10_isSmall_2 : Cond.instanceMethod (mNm 94198451) ∈ lw_all := lw_g (lw_at lw_m24 223 rfl) rfl
theorem mok_X10_takesSteps : MOK 94460595 := ⟨lw_g (lw_at lw_m24 228 rfl) rfl, Or.inl ⟨ini_47, by decide⟩, Nat.le_of_ble_eq_true rfl, Or.inl ⟨_, _, _, rfl⟩, nmh_47⟩
theorem np_X10_takesSteps : npar (mNm 94460595).desc = some 2 := by decide +kernel
theorem im_X10_takesSteps : Cond.instanceMethod (mNm 94460595) ∈ lw_all := lw_g (lw_at lw_m24 227 rfl) rfl
theorem mok_X10_displayed : MOK 94722739 := ⟨lw_g (lw_at lw_m24 232 rfl) rfl, Or.inl ⟨ini_47, by decide⟩, Nat.le_of_ble_eq_true rfl, Or.inl ⟨_, _, _, rfl⟩, nmh_47⟩
theorem np_X10_displayed : npar (mNm 94722739).desc = some 2 := by decide +kernel
theorem im_X10_displayed : Cond.instanceMethod (mNm 94722739) ∈ lw_all := lw_g (lw_at lw_m24 231 rfl) rfl
theorem mok_X10_chosen : MOK 94984884 := ⟨lw_g (lw_at lw_m24 236 rfl) rfl, Or.inl ⟨ini_47, by decide⟩, Nat.le_of_ble_eq_true rfl, Or.inl ⟨_, _, _, rfl⟩, nmh_47⟩
theorem np_X10_chosen : npar (mNm 94984884).desc = some 3 := by decide +kernel
theorem im_X10_chosen : Cond.instanceMethod (mNm 94984884) ∈ lw_all := lw_g (lw_at lw_m24 235 rfl) rfl
theorem mok_X10_whens : MOK 95247027 := ⟨lw_g (lw_at lw_m25 0 rfl) rfl, Or.inl ⟨ini_47, by decide⟩, Nat.le_of_ble_eq_true rfl, Or.inl ⟨_, _, _, rfl⟩, nmh_47⟩
theorem np_X10_whens : npar (mNm 95247027).desc = some 2 := by decide +kernel
theorem im_X10_whens : Cond.instanceMethod (mNm 95247027) ∈ lw_all := lw_g (lw_at lw_m24 239 rfl) rfl
theorem mok_X10_loopBegins : MOK 95509171 := ⟨lw_g (lw_at lw_m25 4 rfl) rfl, Or.inl ⟨ini_47, by decide⟩, Nat.le_of_ble_eq_true rfl, Or.inl ⟨_, _, _, rfl⟩, nmh_47⟩
theorem np_X10_loopBegins : npar (mNm 95509171).desc = some 2 := by decide +kernel
theorem im_X10_loopBegins : Cond.instanceMethod (mNm 95509171) ∈ lw_all := lw_g (lw_at lw_m25 3 rfl) rfl
theorem mok_X10_numberAt : MOK 95771317 := ⟨lw_g (lw_at lw_m25 8 rfl) rfl, Or.inl ⟨ini_47, by decide⟩, Nat.le_of_ble_eq_true rfl, Or.inl ⟨_, _, _, rfl⟩, nmh_47⟩
theorem np_X10_numberAt : npar (mNm 95771317).desc = some 4 := by decide +kernel
theorem im_X10_numberAt : Cond.instanceMethod (mNm 95771317) ∈ lw_all := lw_g (lw_at lw_m25 7 rfl) rfl
theorem mok_X10_prints : MOK 96033459 := ⟨lw_g (lw_at lw_m25 12 rfl) rfl, Or.inl ⟨ini_47, by decide⟩, Nat.le_of_ble_eq_true rfl, Or.inl ⟨_, _, _, rfl⟩, nmh_47⟩
theorem np_X10_prints : npar (mNm 96033459).desc = some 2 := by decide +kernel
theorem im_X10_prints : Cond.instanceMethod (mNm 96033459) ∈ lw_all := lw_g (lw_at lw_m25 11 rfl) rfl
theorem mok_X10_leaves : MOK 96295603 := ⟨lw_g (lw_at lw_m25 16 rfl) rfl, Or.inl ⟨ini_47, by decide⟩, Nat.le_of_ble_eq_true rfl, Or.inl ⟨_, _, _, rfl⟩, nmh_47⟩
theorem np_X10_leaves : npar (mNm 96295603).desc = some 2 := by decide +kernel
theorem im_X10_leaves : Cond.instanceMethod (mNm 96295603) ∈ lw_all := lw_g (lw_at lw_m25 15 rfl) rfl
theorem mok_X10_mayLeave : MOK 96557746 := ⟨lw_g (lw_at lw_m25 20 rfl) rfl, Or.inl ⟨ini_47, by decide⟩, Nat.le_of_ble_eq_true rfl, Or.inl ⟨_, _, _, rfl⟩, nmh_47⟩
theorem np_X10_mayLeave : npar (mNm 96557746).desc = some 1 := by decide +kernel
theorem im_X10_mayLeave : Cond.instanceMethod (mNm 96557746) ∈ lw_all := lw_g (lw_at lw_m25 19 rfl) rfl
theorem mok_X10_unitOfVariable : MOK 96819891 := ⟨lw_g (lw_at lw_m25 24 rfl) rfl, Or.inl ⟨ini_47, by decide⟩, Nat.le_of_ble_eq_true rfl, Or.inl ⟨_, _, _, rfl⟩, nmh_47⟩
theorem np_X10_unitOfVariable : npar (mNm 96819891).desc = some 2 := by decide +kernel
theorem im_X10_unitOfVariable : Cond.instanceMethod (mNm 96819891) ∈ lw_all := lw_g (lw_at lw_m25 23 rfl) rfl
theorem mok_X10_nextStep : MOK 97082035 := ⟨lw_g (lw_at lw_m25 28 rfl) rfl, Or.inl ⟨ini_47, by decide⟩, Nat.le_of_ble_eq_true rfl, Or.inl ⟨_, _, _, rfl⟩, nmh_47⟩
theorem np_X10_nextStep : npar (mNm 97082035).desc = some 2 := by decide +kernel
theorem im_X10_nextStep : Cond.instanceMethod (mNm 97082035) ∈ lw_all := lw_g (lw_at lw_m25 27 rfl) rfl
theorem mok_X10_follows : MOK 97344178 := ⟨lw_g (lw_at lw_m25 32 rfl) rfl, Or.inl ⟨ini_47, by decide⟩, Nat.le_of_ble_eq_true rfl, Or.inl ⟨_, _, _, rfl⟩, nmh_47⟩
theorem np_X10_follows : npar (mNm 97344178).desc = some 1 := by decide +kernel
theorem im_X10_follows : Cond.instanceMethod (mNm 97344178) ∈ lw_all := lw_g (lw_at lw_m25 31 rfl) rfl
theorem mok_X10_nextItem : MOK 97606323 := ⟨lw_g (lw_at lw_m25 36 rfl) rfl, Or.inl ⟨ini_47, by decide⟩, Nat.le_of_ble_eq_true rfl, Or.inl ⟨_, _, _, rfl⟩, nmh_47⟩
theorem np_X10_nextItem : npar (mNm 97606323).desc = some 2 := by decide +kernel
theorem im_X10_nextItem : Cond.instanceMethod (mNm 97606323) ∈ lw_all := lw_g (lw_at lw_m25 35 rfl) rfl
theorem mok_X10_loopTurn : MOK 97868467 := ⟨lw_g (lw_at lw_m25 40 rfl) rfl, Or.inl ⟨ini_47, by decide⟩, Nat.le_of_ble_eq_true rfl, Or.inl ⟨_, _, _, rfl⟩, nmh_47⟩
theorem np_X10_loopTurn : npar (mNm 97868467).desc = some 2 := by decide +kernel
theorem im_X10_loopTurn : Cond.instanceMethod (mNm 97868467) ∈ lw_all := lw_g (lw_at lw_m25 39 rfl) rfl
theorem mok_X10_told : MOK 98130609 := ⟨lw_g (lw_at lw_m25 44 rfl) rfl, Or.inl ⟨ini_47, by decide⟩, Nat.le_of_ble_eq_true rfl, Or.inl ⟨_, _, _, rfl⟩, nmh_47⟩
theorem np_X10_told : npar (mNm 98130609).desc = some 0 := by decide +kernel
theorem im_X10_told : Cond.instanceMethod (mNm 98130609) ∈ lw_all := lw_g (lw_at lw_m25 42 rfl) rfl
theorem mok_X10_number : MOK 98392754 := ⟨lw_g (lw_at lw_m25 48 rfl) rfl, Or.inl ⟨ini_47, by decide⟩, Nat.le_of_ble_eq_true rfl, Or.inl ⟨_, _, _, rfl⟩, nmh_47⟩
theorem np_X10_number : npar (mNm 98392754).desc = some 1 := by decide +kernel
theorem im_X10_number : Cond.instanceMethod (mNm 98392754) ∈ lw_all := lw_g (lw_at lw_m25 46 rfl) rfl
theorem mok_X10_kind : MOK 98654898 := ⟨lw_g (lw_at lw_m25 52 rfl) rfl, Or.inl ⟨ini_47, by decide⟩, Nat.le_of_ble_eq_true rfl, Or.inl ⟨_, _, _, rfl⟩, nmh_47⟩
theorem np_X10_kind : npar (mNm 98654898).desc = some 1 := by decide +kernel
theorem im_X10_kind : Cond.instanceMethod (mNm 98654898) ∈ lw_all := lw_g (lw_at lw_m25 50 rfl) rfl
theorem mok_X10_ran : MOK 98917042 := ⟨lw_g (lw_at lw_m25 56 rfl) rfl, Or.inl ⟨ini_47, by decide⟩, Nat.le_of_ble_eq_true rfl, Or.inl ⟨_, _, _, rfl⟩, nmh_47⟩
theorem np_X10_ran : npar (mNm 98917042).desc = some 1 := by decide +kernel
theorem im_X10_ran : Cond.instanceMethod (mNm 98917042) ∈ lw_all := lw_g (lw_at lw_m25 54 rfl) rfl
theorem mok_X10_orders : MOK 99179188 := ⟨lw_g (lw_at lw_m25 61 rfl) rfl, Or.inl ⟨ini_47, by decide⟩, Nat.le_of_ble_eq_true rfl, Or.inl ⟨_, _, _, rfl⟩, nmh_47⟩
theorem np_X10_orders : npar (mNm 99179188).desc = some 3 := by decide +kernel
theorem im_X10_orders : Cond.instanceMethod (mNm 99179188) ∈ lw_all := lw_g (lw_at lw_m25 59 rfl) rfl
theorem mok_X10_counted : MOK 99441329 := ⟨lw_g (lw_at lw_m25 66 rfl) rfl, Or.inl ⟨ini_47, by decide⟩, Nat.le_of_ble_eq_true rfl, Or.inl ⟨_, _, _, rfl⟩, nmh_47⟩
theorem np_X10_counted : npar (mNm 99441329).desc = some 0 := by decide +kernel
theorem im_X10_counted : Cond.instanceMethod (mNm 99441329) ∈ lw_all := lw_g (lw_at lw_m25 65 rfl) rfl
theorem mok_X10_isOutcome : MOK 99703474 := ⟨lw_g (lw_at lw_m25 70 rfl) rfl, Or.inl ⟨ini_47, by decide⟩, Nat.le_of_ble_eq_true rfl, Or.inl ⟨_, _, _, rfl⟩, nmh_47⟩
theorem np_X10_isOutcome : npar (mNm 99703474).desc = some 1 := by decide +kernel
theorem im_X10_isOutcome : Cond.instanceMethod (mNm 99703474) ∈ lw_all := lw_g (lw_at lw_m25 69 rfl) rfl
theorem mok_X10_nextDigits : MOK 99965617 := ⟨lw_g (lw_at lw_m25 74 rfl) rfl, Or.inl ⟨ini_47, by decide⟩, Nat.le_of_ble_eq_true rfl, Or.inl ⟨_, _, _, rfl⟩, nmh_47⟩
theorem np_X10_nextDigits : npar (mNm 99965617).desc = some 0 := by decide +kernel
theorem im_X10_nextDigits : Cond.instanceMethod (mNm 99965617) ∈ lw_all := lw_g (lw_at lw_m25 73 rfl) rfl
theorem mok_X10_outcome : MOK 100227763 := ⟨lw_g (lw_at lw_m25 78 rfl) rfl, Or.inl ⟨ini_47, by decide⟩, Nat.le_of_ble_eq_true rfl, Or.inl ⟨_, _, _, rfl⟩, nmh_47⟩
theorem np_X10_outcome : npar (mNm 100227763).desc = some 2 := by decide +kernel
theorem im_X10_outcome : Cond.instanceMethod (mNm 100227763) ∈ lw_all := lw_g (lw_at lw_m25 76 rfl) rfl
theorem mok_X10_outcomes : MOK 100489907 := ⟨lw_g (lw_at lw_m25 82 rfl) rfl, Or.inl ⟨ini_47, by decide⟩, Nat.le_of_ble_eq_true rfl, Or.inl ⟨_, _, _, rfl⟩, nmh_47⟩
theorem np_X10_outcomes : npar (mNm 100489907).desc = some 2 := by decide +kernel
theorem im_X10_outcomes : Cond.instanceMethod (mNm 100489907) ∈ lw_all := lw_g (lw_at lw_m25 80 rfl) rfl
theorem mok_X11_init : MOK 100737603 := ⟨lw_g (lw_at lw_m5 25 rfl) rfl, Or.inl ⟨ini_29, by decide⟩, Nat.le_of_ble_eq_true rfl, Or.inl ⟨_, _, _, rfl⟩, nmh_29⟩
theorem np_X11_init : npar (mNm 100737603).desc = some 2 := by decide +kernel
theorem im_X11_init : Cond.instanceMethod (mNm 100737603) ∈ lw_all := lw_g (lw_at lw_m5 24 rfl) rfl
theorem mok_X11_program : MOK 100999745 := ⟨lw_g (lw_at lw_m5 69 rfl) rfl, Or.inl ⟨ini_29, by decide⟩, Nat.le_of_ble_eq_true rfl, Or.inl ⟨_, _, _, rfl⟩, nmh_29⟩
theorem np_X11_program : npar (mNm 100999745).desc = some 0 := by decide +kernel
theorem im_X11_program : Cond.instanceMethod (mNm 100999745) ∈ lw_all := lw_g (lw_at lw_m5 67 rfl) rfl
theorem mok_X11_serial : MOK 101261889 := ⟨lw_g (lw_at lw_m5 73 rfl) rfl, Or.inl ⟨ini_29, by decide⟩, Nat.le_of_ble_eq_true rfl, Or.inl ⟨_, _, _, rfl⟩, nmh_29⟩
theorem np_X11_serial : npar (mNm 101261889).desc = some 0 := by decide +kernel
theorem im_X11_serial : Cond.instanceMethod (mNm 101261889) ∈ lw_all := lw_g (lw_at lw_m5 72 rfl) rfl
theorem mok_X11_place : MOK 101524033 := ⟨lw_g (lw_at lw_m5 79 rfl) rfl, Or.inl ⟨ini_29, by decide⟩, Nat.le_of_ble_eq_true rfl, Or.inl ⟨_, _, _, rfl⟩, nmh_29⟩
theorem np_X11_place : npar (mNm 101524033).desc = some 0 := by decide +kernel
theorem im_X11_place : Cond.instanceMethod (mNm 101524033) ∈ lw_all := lw_g (lw_at lw_m5 78 rfl) rfl
theorem mok_X11_rest : MOK 101786179 := ⟨lw_g (lw_at lw_m5 227 rfl) rfl, Or.inl ⟨ini_29, by decide⟩, Nat.le_of_ble_eq_true rfl, Or.inl ⟨_, _, _, rfl⟩, nmh_29⟩
theorem np_X11_rest : npar (mNm 101786179).desc = some 2 := by decide +kernel
theorem im_X11_rest : Cond.instanceMethod (mNm 101786179) ∈ lw_all := lw_g (lw_at lw_m5 226 rfl) rfl
theorem mok_X11_wrong : MOK 102048321 := ⟨lw_g (lw_at lw_m5 231 rfl) rfl, Or.inl ⟨ini_29, by decide⟩, Nat.le_of_ble_eq_true rfl, Or.inl ⟨_, _, _, rfl⟩, nmh_29⟩
theorem np_X11_wrong : npar (mNm 102048321).desc = some 0 := by decide +kernel
theorem im_X11_wrong : Cond.instanceMethod (mNm 102048321) ∈ lw_all := lw_g (lw_at lw_m5 230 rfl) rfl
theorem mok_X11_item : MOK 102310466 := ⟨lw_g (lw_at lw_m5 237 rfl) rfl, Or.inl ⟨ini_29, by decide⟩, Nat.le_of_ble_eq_true rfl, Or.inl ⟨_, _, _, rfl⟩, nmh_29⟩
theorem np_X11_item : npar (mNm 102310466).desc = some 1 := by decide +kernel
theorem im_X11_item : Cond.instanceMethod (mNm 102310466) ∈ lw_all := lw_g (lw_at lw_m5 236 rfl) rfl
theorem mok_X11_isWord : MOK 102572610 := ⟨lw_g (lw_at lw_m6 2 rfl) rfl, Or.inl ⟨ini_29, by decide⟩, Nat.le_of_ble_eq_true rfl, Or.inl ⟨_, _, _, rfl⟩, nmh_29⟩
theorem np_X11_isWord : npar (mNm 102572610).desc = some 1 := by decide +kernel
theorem im_X11_isWord : Cond.instanceMethod (mNm 102572610) ∈ lw_all := lw_g (lw_at lw_m6 1 rfl) rfl
theorem mok_X11_isWord_2 : MOK 102834755 := ⟨lw_g (lw_at lw_m6 6 rfl) rfl, Or.inl ⟨ini_29, by decide⟩, Nat.le_of_ble_eq_true rfl, Or.inl ⟨_, _, _, rfl⟩, nmh_29⟩
theorem np_X11_isWord_2 : npar (mNm 102834755).desc = some 2 := by decide +kernel
theorem im_X11_isWord_2 : Cond.instanceMethod (mNm 102834755) ∈ lw_all := lw_g (lw_at lw_m6 5 rfl) rfl
theorem mok_X11_kind : MOK 103096898 := ⟨lw_g (lw_at lw_m6 10 rfl) rfl, Or.inl ⟨ini_29, by decide⟩, Nat.le_of_ble_eq_true rfl, Or.inl ⟨_, _, _, rfl⟩, nmh_29⟩
theorem np_X11_kind : npar (mNm 103096898).desc = some 1 := by decide +kernel
theorem im_X11_kind : Cond.instanceMethod (mNm 103096898) ∈ lw_all := lw_g (lw_at lw_m6 9 rfl) rfl
theorem mok_X11_modeDeclared : MOK 103359041 := ⟨lw_g (lw_at lw_m6 20 rfl) rfl, Or.inl ⟨ini_29, by decide⟩, Nat.le_of_ble_eq_true rfl, Or.inl ⟨_, _, _, rfl⟩, nmh_29⟩
theorem np_X11_modeDeclared : npar (mNm 103359041).desc = some 0 := by decide +kernel
theorem im_X11_modeDeclared : Cond.instanceMethod (mNm 103359041) ∈ lw_all := lw_g (lw_at lw_m6 19 rfl) rfl
theorem mok_X11_equalsOpens : MOK 103621185 := ⟨lw_g (lw_at lw_m6 154 rfl) rfl, Or.inl ⟨ini_29, by decide⟩, Nat.le_of_ble_eq_true rfl, Or.inl ⟨_, _, _, rfl⟩, nmh_29⟩
theorem np_X11_equalsOpens : npar (mNm 103621185).desc = some 0 := by decide +kernel
theorem im_X11_equalsOpens : Cond.instanceMethod (mNm 103621185) ∈ lw_all := lw_g (lw_at lw_m6 153 rfl) rfl
theorem mok_X11_open : MOK 103883329 := ⟨lw_g (lw_at lw_m6 160 rfl) rfl, Or.inl ⟨ini_29, by decide⟩, Nat.le_of_ble_eq_true rfl, Or.inl ⟨_, _, _, rfl⟩, nmh_29⟩
theorem np_X11_open : npar (mNm 103883329).desc = some 0 := by decide +kernel
theorem im_X11_open : Cond.instanceMethod (mNm 103883329) ∈ lw_all := lw_g (lw_at lw_m6 159 rfl) rfl
theorem mok_X11_declarer : MOK 104145474 := ⟨lw_g (lw_at lw_m6 164 rfl) rfl, Or.inl ⟨ini_29, by decide⟩, Nat.le_of_ble_eq_true rfl, Or.inl ⟨_, _, _, rfl⟩, nmh_29⟩
theorem np_X11_declarer : npar (mNm 104145474).desc = some 1 := by decide +kernel
theorem im_X11_declarer : Cond.instanceMethod (mNm 104145474) ∈ lw_all := lw_g (lw_at lw_m6 163 rfl) rfl
theorem mok_X11_declarer_2 : MOK 104407619 := ⟨lw_g (lw_at lw_m6 168 rfl) rfl, Or.inl ⟨ini_29, by decide⟩, Nat.le_of_ble_eq_true rfl, Or.inl ⟨_, _, _, rfl⟩, nmh_29⟩
theorem np_X11_declarer_2 : npar (mNm 104407619).desc = some 2 := by decide +kernel
theorem im_X11_declarer_2 : Cond.instanceMethod (mNm 104407619) ∈ lw_all := lw_g (lw_at lw_m6 167 rfl) rfl
theorem mok_X11_isModeTag : MOK 104669762 := ⟨lw_g (lw_at lw_m6 172 rfl) rfl, Or.inl ⟨ini_29, by decide⟩, Nat.le_of_ble_eq_true rfl, Or.inl ⟨_, _, _, rfl⟩, nmh_29⟩
theorem np_X11_isModeTag : npar (mNm 104669762).desc = some 1 := by decide +kernel
theorem im_X11_isModeTag : Cond.instanceMethod (mNm 104669762) ∈ lw_all := lw_g (lw_at lw_m6 171 rfl) rfl
theorem mok_X11_isMark : MOK 104931906 := ⟨lw_g (lw_at lw_m6 179 rfl) rfl, Or.inl ⟨ini_29, by decide⟩, Nat.le_of_ble_eq_true rfl, Or.inl ⟨_, _, _, rfl⟩, nmh_29⟩
theorem np_X11_isMark : npar (mNm 104931906).desc = some 1 := by decide +kernel
theorem im_X11_isMark : Cond.instanceMethod (mNm 104931906) ∈ lw_all := lw_g (lw_at lw_m6 178 rfl) rfl
theorem mok_X11_isMark_2 : MOK 105194051 := ⟨lw_g (lw_at lw_m6 183 rfl) rfl, Or.inl ⟨ini_29, by decide⟩, Nat.le_of_ble_eq_true rfl, Or.inl ⟨_, _, _, rfl⟩, nmh_29⟩
theorem np_X11_isMark_2 : npar (mNm 105194051).desc = some 2 := by decide +kernel
theorem im_X11_isMark_2 : Cond.instanceMethod (mNm 105194051) ∈ lw_all := lw_g (lw_at lw_m6 182 rfl) rfl
theorem mok_X11_row : MOK 105456194 := ⟨lw_g (lw_at lw_m6 188 rfl) rfl, Or.inl ⟨ini_29, by decide⟩, Nat.le_of_ble_eq_true rfl, Or.inl ⟨_, _, _, rfl⟩, nmh_29⟩
theorem np_X11_row : npar (mNm 105456194).desc = some 1 := by decide +kernel
theorem im_X11_row : Cond.instanceMethod (mNm 105456194) ∈ lw_all := lw_g (lw_at lw_m6 187 rfl) rfl
theorem mok_X11_unit : MOK 105718337 := ⟨lw_g (lw_at lw_m6 193 rfl) rfl, Or.inl ⟨ini_29, by decide⟩, Nat.le_of_ble_eq_true rfl, Or.inl ⟨_, _, _, rfl⟩, nmh_29⟩
theorem np_X11_unit : npar (mNm 105718337).desc = some 0 := by decide +kernel
theorem im_X11_unit : Cond.instanceMethod (mNm 105718337) ∈ lw_all := lw_g (lw_at lw_m6 192 rfl) rfl
theorem mok_X11_bracket : MOK 105980482 := ⟨lw_g (lw_at lw_m6 214 rfl) rfl, Or.inl ⟨ini_29, by decide⟩, Nat.le_of_ble_eq_true rfl, Or.inl ⟨_, _, _, rfl⟩, nmh_29⟩
theorem np_X11_bracket : npar (mNm 105980482).desc = some 1 := by decide +kernel
theorem im_X11_bracket : Cond.instanceMethod (mNm 105980482) ∈ lw_all := lw_g (lw_at lw_m6 213 rfl) rfl
theorem mok_X11_takes : MOK 106242626 := ⟨lw_g (lw_at lw_m6 219 rfl) rfl, Or.inl ⟨ini_29, by decide⟩, Nat.le_of_ble_eq_true rfl, Or.inl ⟨_, _, _, rfl⟩, nmh_29⟩
theorem np_X11_takes : npar (mNm 106242626).desc = some 1 := by decide +kernel
theorem im_X11_takes : Cond.instanceMethod (mNm 106242626) ∈ lw_all := lw_g (lw_at lw_m6 218 rfl) rfl
theorem mok_X11_close : MOK 106504769 := ⟨lw_g (lw_at lw_m6 223 rfl) rfl, Or.inl ⟨ini_29, by decide⟩, Nat.le_of_ble_eq_true rfl, Or.inl ⟨_, _, _, rfl⟩, nmh_29⟩
theorem np_X11_close : npar (mNm 106504769).desc = some 0 := by decide +kernel
theorem im_X11_close : Cond.instanceMethod (mNm 106504769) ∈ lw_all := lw_g (lw_at lw_m6 222 rfl) rfl
theorem mok_X11_isDeclarer : MOK 106766914 := ⟨lw_g (lw_at lw_m7 5 rfl) rfl, Or.inl ⟨ini_29, by decide⟩, Nat.le_of_ble_eq_true rfl, Or.inl ⟨_, _, _, rfl⟩, nmh_29⟩
theorem np_X11_isDeclarer : npar (mNm 106766914).desc = some 1 := by decide +kernel
theorem im_X11_isDeclarer : Cond.instanceMethod (mNm 106766914) ∈ lw_all := lw_g (lw_at lw_m7 4 rfl) rfl
theorem mok_X11_parameters : MOK 107029061 := ⟨lw_g (lw_at lw_m7 20 rfl) rfl, Or.inl ⟨ini_29, by decide⟩, Nat.le_of_ble_eq_true rfl, Or.inl ⟨_, _, _, rfl⟩, nmh_29⟩
theorem np_X11_parameters : npar (mNm 107029061).desc = some 4 := by decide +kernel
theorem im_X11_parameters : Cond.instanceMethod (mNm 107029061) ∈ lw_all := lw_g (lw_at lw_m7 19 rfl) rfl
theorem mok_X11_parameter : MOK 107291204 := ⟨lw_g (lw_at lw_m7 71 rfl) rfl, Or.inl ⟨ini_29, by decide⟩, Nat.le_of_ble_eq_true rfl, Or.inl ⟨_, _, _, rfl⟩, nmh_29⟩
theorem np_X11_parameter : npar (mNm 107291204).desc = some 3 := by decide +kernel
theorem im_X11_parameter : Cond.instanceMethod (mNm 107291204) ∈ lw_all := lw_g (lw_at lw_m7 70 rfl) rfl
theorem mok_X11_voidAt : MOK 107553346 := ⟨lw_g (lw_at lw_m7 76 rfl) rfl, Or.inl ⟨ini_29, by decide⟩, Nat.le_of_ble_eq_true rfl, Or.inl ⟨_, _, _, rfl⟩, nmh_29⟩
theorem np_X11_voidAt : npar (mNm 107553346).desc = some 1 := by decide +kernel
theorem im_X11_voidAt : Cond.instanceMethod (mNm 107553346) ∈ lw_all := lw_g (lw_at lw_m7 75 rfl) rfl
theorem mok_X11_tag : MOK 107815489 := ⟨lw_g (lw_at lw_m7 111 rfl) rfl, Or.inl ⟨ini_29, by decide⟩, Nat.le_of_ble_eq_true rfl, Or.inl ⟨_, _, _, rfl⟩, nmh_29⟩
theorem np_X11_tag : npar (mNm 107815489).desc = some 0 := by decide +kernel
theorem im_X11_tag : Cond.instanceMethod (mNm 107815489) ∈ lw_all := lw_g (lw_at lw_m7 110 rfl) rfl
theorem mok_X11_mark : MOK 108077634 := ⟨lw_g (lw_at lw_m7 213 rfl) rfl, Or.inl ⟨ini_29, by decide⟩, Nat.le_of_ble_eq_true rfl, Or.inl ⟨_, _, _, rfl⟩, nmh_29⟩
theorem np_X11_mark : npar (mNm 108077634).desc = some 1 := by decide +kernel
theorem im_X11_mark : Cond.instanceMethod (mNm 108077634) ∈ lw_all := lw_g (lw_at lw_m7 212 rfl) rfl
theorem mok_X11_body : MOK 108339778 := ⟨lw_g (lw_at lw_m7 217 rfl) rfl, Or.inl ⟨ini_29, by decide⟩, Nat.le_of_ble_eq_true rfl, Or.inl ⟨_, _, _, rfl⟩, nmh_29⟩
theorem np_X11_body : npar (mNm 108339778).desc = some 1 := by decide +kernel
theorem im_X11_body : Cond.instanceMethod (mNm 108339778) ∈ lw_all := lw_g (lw_at lw_m7 216 rfl) rfl
theorem mok_X11_unitOf : MOK 108601922 := ⟨lw_g (lw_at lw_m7 221 rfl) rfl, Or.inl ⟨ini_29, by decide⟩, Nat.le_of_ble_eq_true rfl, Or.inl ⟨_, _, _, rfl⟩, nmh_29⟩
theorem np_X11_unitOf : npar (mNm 108601922).desc = some 1 := by decide +kernel
theorem im_X11_unitOf : Cond.instanceMethod (mNm 108601922) ∈ lw_all := lw_g (lw_at lw_m7 220 rfl) rfl
theorem mok_X11_identity : MOK 108864067 := ⟨lw_g (lw_at lw_m7 233 rfl) rfl, Or.inl ⟨ini_29, by decide⟩, Nat.le_of_ble_eq_true rfl, Or.inl ⟨_, _, _, rfl⟩, nmh_29⟩
theorem np_X11_identity : npar (mNm 108864067).desc = some 2 := by decide +kernel
theorem im_X11_identity : Cond.instanceMethod (mNm 108864067) ∈ lw_all := lw_g (lw_at lw_m7 232 rfl) rfl
theorem mok_X11_unitFrom : MOK 109126211 := ⟨lw_g (lw_at lw_m8 36 rfl) rfl, Or.inl ⟨ini_29, by decide⟩, Nat.le_of_ble_eq_true rfl, Or.inl ⟨_, _, _, rfl⟩, nmh_29⟩
theorem np_X11_unitFrom : npar (mNm 109126211).desc = some 2 := by decide +kernel
theorem im_X11_unitFrom : Cond.instanceMethod (mNm 109126211) ∈ lw_all := lw_g (lw_at lw_m8 35 rfl) rfl
theorem mok_X11_cast : MOK 109388355 := ⟨lw_g (lw_at lw_m8 40 rfl) rfl, Or.inl ⟨ini_29, by decide⟩, Nat.le_of_ble_eq_true rfl, Or.inl ⟨_, _, _, rfl⟩, nmh_29⟩
theorem np_X11_cast : npar (mNm 109388355).desc = some 2 := by decide +kernel
theorem im_X11_cast : Cond.instanceMethod (mNm 109388355) ∈ lw_all := lw_g (lw_at lw_m8 39 rfl) rfl
theorem mok_X11_primaryBehind : MOK 109650498 := ⟨lw_g (lw_at lw_m8 65 rfl) rfl, Or.inl ⟨ini_29, by decide⟩, Nat.le_of_ble_eq_true rfl, Or.inl ⟨_, _, _, rfl⟩, nmh_29⟩
theorem np_X11_primaryBehind : npar (mNm 109650498).desc = some 1 := by decide +kernel
theorem im_X11_primaryBehind : Cond.instanceMethod (mNm 109650498) ∈ lw_all := lw_g (lw_at lw_m8 64 rfl) rfl
theorem mok_X11_units : MOK 109912643 := ⟨lw_g (lw_at lw_m8 109 rfl) rfl, Or.inl ⟨ini_29, by decide⟩, Nat.le_of_ble_eq_true rfl, Or.inl ⟨_, _, _, rfl⟩, nmh_29⟩
theorem np_X11_units : npar (mNm 109912643).desc = some 2 := by decide +kernel
theorem im_X11_units : Cond.instanceMethod (mNm 109912643) ∈ lw_all := lw_g (lw_at lw_m8 108 rfl) rfl
theorem mok_X11_tertiaryBehind : MOK 110174786 := ⟨lw_g (lw_at lw_m8 113 rfl) rfl, Or.inl ⟨ini_29, by decide⟩, Nat.le_of_ble_eq_true rfl, Or.inl ⟨_, _, _, rfl⟩, nmh_29⟩
theorem np_X11_tertiaryBehind : npar (mNm 110174786).desc = some 1 := by decide +kernel
theorem im_X11_tertiaryBehind : Cond.instanceMethod (mNm 110174786) ∈ lw_all := lw_g (lw_at lw_m8 112 rfl) rfl
theorem mok_X11_isDyadic : MOK 110436930 := ⟨lw_g (lw_at lw_m8 117 rfl) rfl, Or.inl ⟨ini_29, by decide⟩, Nat.le_of_ble_eq_true rfl, Or.inl ⟨_, _, _, rfl⟩, nmh_29⟩
theorem np_X11_isDyadic : npar (mNm 110436930).desc = some 1 := by decide +kernel
theorem im_X11_isDyadic : Cond.instanceMethod (mNm 110436930) ∈ lw_all := lw_g (lw_at lw_m8 116 rfl) rfl
theorem mok_X11_isOperation : MOK 110699074 := ⟨lw_g (lw_at lw_m8 121 rfl) rfl, Or.inl ⟨ini_29, by decide⟩, Nat.le_of_ble_eq_true rfl, Or.inl ⟨_, _, _, rfl⟩, nmh_29⟩
theorem np_X11_isOperation : npar (mNm 110699074).desc = some 1 := by decide +kernel
theorem im_X11_isOperation : Cond.instanceMethod (mNm 110699074) ∈ lw_all := lw_g (lw_at lw_m8 120 rfl) rfl
theorem mok_X11_priority : MOK 110961218 := ⟨lw_g (lw_at lw_m8 126 rfl) rfl, Or.inl ⟨ini_29, by decide⟩, Nat.le_of_ble_eq_true rfl, Or.inl ⟨_, _, _, rfl⟩, nmh_29⟩
theorem np_X11_priority : npar (mNm 110961218).desc = some 1 := by decide +kernel
theorem im_X11_priority : Cond.instanceMethod (mNm 110961218) ∈ lw_all := lw_g (lw_at lw_m8 125 rfl) rfl
theorem mok_X11_join : MOK 111223363 := ⟨lw_g (lw_at lw_m8 141 rfl) rfl, Or.inl ⟨ini_29, by decide⟩, Nat.le_of_ble_eq_true rfl, Or.inl ⟨_, _, _, rfl⟩, nmh_29⟩
theorem np_X11_join : npar (mNm 111223363).desc = some 2 := by decide +kernel
theorem im_X11_join : Cond.instanceMethod (mNm 111223363) ∈ lw_all := lw_g (lw_at lw_m8 140 rfl) rfl
theorem mok_X11_sign : MOK 111485506 := ⟨lw_g (lw_at lw_m8 157 rfl) rfl, Or.inl ⟨ini_29, by decide⟩, Nat.le_of_ble_eq_true rfl, Or.inl ⟨_, _, _, rfl⟩, nmh_29⟩
theorem np_X11_sign : npar (mNm 111485506).desc = some 1 := by decide +kernel
theorem im_X11_sign : Cond.instanceMethod (mNm 111485506) ∈ lw_all := lw_g (lw_at lw_m8 156 rfl) rfl
theorem mok_X11_operand : MOK 111747649 := ⟨lw_g (lw_at lw_m8 191 rfl) rfl, Or.inl ⟨ini_29, by decide⟩, Nat.le_of_ble_eq_true rfl, Or.inl ⟨_, _, _, rfl⟩, nmh_29⟩
theorem np_X11_operand : npar (mNm 111747649).desc = some 0 := by decide +kernel
theorem im_X11_operand : Cond.instanceMethod (mNm 111747649) ∈ lw_all := lw_g (lw_at lw_m8 190 rfl) rfl
theorem mok_X11_isMonadic : MOK 112009794 := ⟨lw_g (lw_at lw_m8 221 rfl) rfl, Or.inl ⟨ini_29, by decide⟩, Nat.le_of_ble_eq_true rfl, Or.inl ⟨_, _, _, rfl⟩, nmh_29⟩
theorem np_X11_isMonadic : npar (mNm 112009794).desc = some 1 := by decide +kernel
theorem im_X11_isMonadic : Cond.instanceMethod (mNm 112009794) ∈ lw_all := lw_g (lw_at lw_m8 220 rfl) rfl
theorem mok_X11_secondary : MOK 112271937 := ⟨lw_g (lw_at lw_m8 225 rfl) rfl, Or.inl ⟨ini_29, by decide⟩, Nat.le_of_ble_eq_true rfl, Or.inl ⟨_, _, _, rfl⟩, nmh_29⟩
theorem np_X11_secondary : npar (mNm 112271937).desc = some 0 := by decide +kernel
theorem im_X11_secondary : Cond.instanceMethod (mNm 112271937) ∈ lw_all := lw_g (lw_at lw_m8 224 rfl) rfl
theorem mok_X11_generated : MOK 112534081 := ⟨lw_g (lw_at lw_m9 21 rfl) rfl, Or.inl ⟨ini_29, by decide⟩, Nat.le_of_ble_eq_true rfl, Or.inl ⟨_, _, _, rfl⟩, nmh_29⟩
theorem np_X11_generated : npar (mNm 112534081).desc = some 0 := by decide +kernel
theorem im_X11_generated : Cond.instanceMethod (mNm 112534081) ∈ lw_all := lw_g (lw_at lw_m9 20 rfl) rfl
theorem mok_X11_base : MOK 112796225 := ⟨lw_g (lw_at lw_m9 44 rfl) rfl, Or.inl ⟨ini_29, by decide⟩, Nat.le_of_ble_eq_true rfl, Or.inl ⟨_, _, _, rfl⟩, nmh_29⟩
theorem np_X11_base : npar (mNm 112796225).desc = some 0 := by decide +kernel
theorem im_X11_base : Cond.instanceMethod (mNm 112796225) ∈ lw_all := lw_g (lw_at lw_m9 43 rfl) rfl
theorem mok_X11_takesWord : MOK 113058370 := ⟨lw_g (lw_at lw_m9 70 rfl) rfl, Or.inl ⟨ini_29, by decide⟩, Nat.le_of_ble_eq_true rfl, Or.inl ⟨_, _, _, rfl⟩, nmh_29⟩
theorem np_X11_takesWord : npar (mNm 113058370).desc = some 1 := by decide +kernel
theorem im_X11_takesWord : Cond.instanceMethod (mNm 113058370) ∈ lw_all := lw_g (lw_at lw_m9 69 rfl) rfl
theorem mok_X11_word : MOK 113320514 := ⟨lw_g (lw_at lw_m9 99 rfl) rfl, Or.inl ⟨ini_29, by decide⟩, Nat.le_of_ble_eq_true rfl, Or.inl ⟨_, _, _, rfl⟩, nmh_29⟩
theorem np_X11_word : npar (mNm 113320514).desc = some 1 := by decide +kernel
theorem im_X11_word : Cond.instanceMethod (mNm 113320514) ∈ lw_all := lw_g (lw_at lw_m9 98 rfl) rfl
theorem mok_X11_choice : MOK 113582658 := ⟨lw_g (lw_at lw_m9 104 rfl) rfl, Or.inl ⟨ini_29, by decide⟩, Nat.le_of_ble_eq_true rfl, Or.inl ⟨_, _, _, rfl⟩, nmh_29⟩
theorem np_X11_choice : npar (mNm 113582658).desc = some 1 := by decide +kernel
theorem im_X11_choice : Cond.instanceMethod (mNm 113582658) ∈ lw_all := lw_g (lw_at lw_m9 103 rfl) rfl
theorem mok_X11_choices : MOK 113844802 := ⟨lw_g (lw_at lw_m9 130 rfl) rfl, Or.inl ⟨ini_29, by decide⟩, Nat.le_of_ble_eq_true rfl, Or.inl ⟨_, _, _, rfl⟩, nmh_29⟩
theorem np_X11_choices : npar (mNm 113844802).desc = some 1 := by decide +kernel
theorem im_X11_choices : Cond.instanceMethod (mNm 113844802) ∈ lw_all := lw_g (lw_at lw_m9 129 rfl) rfl
theorem mok_X11_when : MOK 114106946 := ⟨lw_g (lw_at lw_m9 172 rfl) rfl, Or.inl ⟨ini_29, by decide⟩, Nat.le_of_ble_eq_true rfl, Or.inl ⟨_, _, _, rfl⟩, nmh_29⟩
theorem np_X11_when : npar (mNm 114106946).desc = some 1 := by decide +kernel
theorem im_X11_when : Cond.instanceMethod (mNm 114106946) ∈ lw_all := lw_g (lw_at lw_m9 171 rfl) rfl
theorem mok_X11_loop : MOK 114369090 := ⟨lw_g (lw_at lw_m9 239 rfl) rfl, Or.inl ⟨ini_29, by decide⟩, Nat.le_of_ble_eq_true rfl, Or.inl ⟨_, _, _, rfl⟩, nmh_29⟩
theorem np_X11_loop : npar (mNm 114369090).desc = some 1 := by decide +kernel
theorem im_X11_loop : Cond.instanceMethod (mNm 114369090) ∈ lw_all := lw_g (lw_at lw_m9 238 rfl) rfl
theorem mok_X11_loopPart : MOK 114631235 := ⟨lw_g (lw_at lw_m10 10 rfl) rfl, Or.inl ⟨ini_29, by decide⟩, Nat.le_of_ble_eq_true rfl, Or.inl ⟨_, _, _, rfl⟩, nmh_29⟩
theorem np_X11_loopPart : npar (mNm 114631235).desc = some 2 := by decide +kernel
theorem im_X11_loopPart : Cond.instanceMethod (mNm 114631235) ∈ lw_all := lw_g (lw_at lw_m10 9 rfl) rfl
theorem mok_X11_unitBehind : MOK 114893378 := ⟨lw_g (lw_at lw_m10 45 rfl) rfl, Or.inl ⟨ini_29, by decide⟩, Nat.le_of_ble_eq_true rfl, Or.inl ⟨_, _, _, rfl⟩, nmh_29⟩
theorem np_X11_unitBehind : npar (mNm 114893378).desc = some 1 := by decide +kernel
theorem im_X11_unitBehind : Cond.instanceMethod (mNm 114893378) ∈ lw_all := lw_g (lw_at lw_m10 44 rfl) rfl
theorem mok_X11_tertiary : MOK 115155521 := ⟨lw_g (lw_at lw_m10 91 rfl) rfl, Or.inl ⟨ini_29, by decide⟩, Nat.le_of_ble_eq_true rfl, Or.inl ⟨_, _, _, rfl⟩, nmh_29⟩
theorem np_X11_tertiary : npar (mNm 115155521).desc = some 0 := by decide +kernel
theorem im_X11_tertiary : Cond.instanceMethod (mNm 115155521) ∈ lw_all := lw_g (lw_at lw_m10 90 rfl) rfl
theorem mok_X11_display : MOK 115417667 := ⟨lw_g (lw_at lw_m10 119 rfl) rfl, Or.inl ⟨ini_29, by decide⟩, Nat.le_of_ble_eq_true rfl, Or.inl ⟨_, _, _, rfl⟩, nmh_29⟩
theorem np_X11_display : npar (mNm 115417667).desc = some 2 := by decide +kernel
theorem im_X11_display : Cond.instanceMethod (mNm 115417667) ∈ lw_all := lw_g (lw_at lw_m10 118 rfl) rfl
theorem mok_X11_procedure : MOK 115679809 := ⟨lw_g (lw_at lw_m10 127 rfl) rfl, Or.inl ⟨ini_29, by decide⟩, Nat.le_of_ble_eq_true rfl, Or.inl ⟨_, _, _, rfl⟩, nmh_29⟩
theorem np_X11_procedure : npar (mNm 115679809).desc = some 0 := by decide +kernel
theorem im_X11_procedure : Cond.instanceMethod (mNm 115679809) ∈ lw_all := lw_g (lw_at lw_m10 126 rfl) rfl
theorem mok_X11_declarers : MOK 115941954 := ⟨lw_g (lw_at lw_m10 131 rfl) rfl, Or.inl ⟨ini_29, by decide⟩, Nat.le_of_ble_eq_true rfl, Or.inl ⟨_, _, _, rfl⟩, nmh_29⟩
theorem np_X11_declarers : npar (mNm 115941954).desc = some 1 := by decide +kernel
theorem im_X11_declarers : Cond.instanceMethod (mNm 115941954) ∈ lw_all := lw_g (lw_at lw_m10 130 rfl) rfl
theorem mok_X11_structure : MOK 116204097 := ⟨lw_g (lw_at lw_m10 135 rfl) rfl, Or.inl ⟨ini_29, by decide⟩, Nat.le_of_ble_eq_true rfl, Or.inl ⟨_, _, _, rfl⟩, nmh_29⟩
theorem np_X11_structure : npar (mNm 116204097).desc = some 0 := by decide +kernel
theorem im_X11_structure : Cond.instanceMethod (mNm 116204097) ∈ lw_all := lw_g (lw_at lw_m10 134 rfl) rfl
theorem mok_X11_prioDeclared : MOK 116466241 := ⟨lw_g (lw_at lw_m10 140 rfl) rfl, Or.inl ⟨ini_29, by decide⟩, Nat.le_of_ble_eq_true rfl, Or.inl ⟨_, _, _, rfl⟩, nmh_29⟩
theorem np_X11_prioDeclared : npar (mNm 116466241).desc = some 0 := by decide +kernel
theorem im_X11_prioDeclared : Cond.instanceMethod (mNm 116466241) ∈ lw_all := lw_g (lw_at lw_m10 139 rfl) rfl
theorem mok_X11_operation : MOK 116728385 := ⟨lw_g (lw_at lw_m10 146 rfl) rfl, Or.inl ⟨ini_29, by decide⟩, Nat.le_of_ble_eq_true rfl, Or.inl ⟨_, _, _, rfl⟩, nmh_29⟩
theorem np_X11_operation : npar (mNm 116728385).desc = some 0 := by decide +kernel
theorem im_X11_operation : Cond.instanceMethod (mNm 116728385) ∈ lw_all := lw_g (lw_at lw_m10 145 rfl) rfl
theorem mok_X11_named : MOK 116990530 := ⟨lw_g (lw_at lw_m10 175 rfl) rfl, Or.inl ⟨ini_29, by decide⟩, Nat.le_of_ble_eq_true rfl, Or.inl ⟨_, _, _, rfl⟩, nmh_29⟩
theorem np_X11_named : npar (mNm 116990530).desc = some 1 := by decide +kernel
theorem im_X11_named : Cond.instanceMethod (mNm 116990530) ∈ lw_all := lw_g (lw_at lw_m10 174 rfl) rfl
theorem mok_X11_settle : MOK 117252673 := ⟨lw_g (lw_at lw_m10 214 rfl) rfl, Or.inl ⟨ini_29, by decide⟩, Nat.le_of_ble_eq_true rfl, Or.inl ⟨_, _, _, rfl⟩, nmh_29⟩
theorem np_X11_settle : npar (mNm 117252673).desc = some 0 := by decide +kernel
theorem im_X11_settle : Cond.instanceMethod (mNm 117252673) ∈ lw_all := lw_g (lw_at lw_m10 212 rfl) rfl
theorem mok_X11_declared : MOK 117514818 := ⟨lw_g (lw_at lw_m10 222 rfl) rfl, Or.inl ⟨ini_29, by decide⟩, Nat.le_of_ble_eq_true rfl, Or.inl ⟨_, _, _, rfl⟩, nmh_29⟩
theorem np_X11_declared : npar (mNm 117514818).desc = some 1 := by decide +kernel
theorem im_X11_declared : Cond.instanceMethod (mNm 117514818) ∈ lw_all := lw_g (lw_at lw_m10 221 rfl) rfl
theorem mok_X11_comesBack : MOK 117776965 := ⟨lw_g (lw_at lw_m10 226 rfl) rfl, Or.inl ⟨ini_29, by decide⟩, Nat.le_of_ble_eq_true rfl, Or.inl ⟨_, _, _, rfl⟩, nmh_29⟩
theorem np_X11_comesBack : npar (mNm 117776965).desc = some 4 := by decide +kernel
theorem im_X11_comesBack : Cond.instanceMethod (mNm 117776965) ∈ lw_all := lw_g (lw_at lw_m10 225 rfl) rfl
theorem mok_X12_init : MOK 118034610 := ⟨lw_g (lw_at lw_m5 88 rfl) rfl, Or.inl ⟨ini_25, by decide⟩, Nat.le_of_ble_eq_true rfl, Or.inl ⟨_, _, _, rfl⟩, nmh_25⟩
theorem np_X12_init : npar (mNm 118034610).desc = some 1 := by decide +kernel
theorem im_X12_init : Cond.instanceMethod (mNm 118034610) ∈ lw_all := lw_g (lw_at lw_m5 87 rfl) rfl
theorem mok_X12_with : MOK 118296754 := ⟨lw_g (lw_at lw_m7 228 rfl) rfl, Or.inl ⟨ini_25, by decide⟩, Nat.le_of_ble_eq_true rfl, Or.inl ⟨_, _, _, rfl⟩, nmh_25⟩
theorem np_X12_with : npar (mNm 118296754).desc = some 1 := by decide +kernel
theorem im_X12_with : Cond.instanceMethod (mNm 118296754) ∈ lw_all := lw_g (lw_at lw_m7 227 rfl) rfl
theorem mok_X12_part : MOK 118558898 := ⟨lw_g (lw_at lw_m10 113 rfl) rfl, Or.inl ⟨ini_25, by decide⟩, Nat.le_of_ble_eq_true rfl, Or.inl ⟨_, _, _, rfl⟩, nmh_25⟩
theorem np_X12_part : npar (mNm 118558898).desc = some 1 := by decide +kernel
theorem im_X12_part : Cond.instanceMethod (mNm 118558898) ∈ lw_all := lw_g (lw_at lw_m10 112 rfl) rfl
theorem mok_X12_enter : MOK 118821042 := ⟨lw_g (lw_at lw_m11 239 rfl) rfl, Or.inl ⟨ini_25, by decide⟩, Nat.le_of_ble_eq_true rfl, Or.inl ⟨_, _, _, rfl⟩, nmh_25⟩
theorem np_X12_enter : npar (mNm 118821042).desc = some 1 := by decide +kernel
theorem im_X12_enter : Cond.instanceMethod (mNm 118821042) ∈ lw_all := lw_g (lw_at lw_m11 60 rfl) rfl
theorem mok_X12_ends : MOK 119083185 := ⟨lw_g (lw_at lw_m12 63 rfl) rfl, Or.inl ⟨ini_25, by decide⟩, Nat.le_of_ble_eq_true rfl, Or.inl ⟨_, _, _, rfl⟩, nmh_25⟩
theorem np_X12_ends : npar (mNm 119083185).desc = some 0 := by decide +kernel
theorem im_X12_ends : Cond.instanceMethod (mNm 119083185) ∈ lw_all := lw_g (lw_at lw_m12 26 rfl) rfl
theorem mok_X12_end : MOK 119345330 := ⟨lw_g (lw_at lw_m12 108 rfl) rfl, Or.inl ⟨ini_25, by decide⟩, Nat.le_of_ble_eq_true rfl, Or.inl ⟨_, _, _, rfl⟩, nmh_25⟩
theorem np_X12_end : npar (mNm 119345330).desc = some 1 := by decide +kernel
theorem im_X12_end : Cond.instanceMethod (mNm 119345330) ∈ lw_all := lw_g (lw_at lw_m12 65 rfl) rfl
theorem mok_X12_comes : MOK 119607475 := ⟨lw_g (lw_at lw_m12 166 rfl) rfl, Or.inl ⟨ini_25, by decide⟩, Nat.le_of_ble_eq_true rfl, Or.inl ⟨_, _, _, rfl⟩, nmh_25⟩
theorem np_X12_comes : npar (mNm 119607475).desc = some 2 := by decide +kernel
theorem im_X12_comes : Cond.instanceMethod (mNm 119607475) ∈ lw_all := lw_g (lw_at lw_m12 115 rfl) rfl
theorem mok_X12_keep : MOK 119869618 := ⟨lw_g (lw_at lw_m12 227 rfl) rfl, Or.inl ⟨ini_25, by decide⟩, Nat.le_of_ble_eq_true rfl, Or.inl ⟨_, _, _, rfl⟩, nmh_25⟩
theorem np_X12_keep : npar (mNm 119869618).desc = some 1 := by decide +kernel
theorem im_X12_keep : Cond.instanceMethod (mNm 119869618) ∈ lw_all := lw_g (lw_at lw_m12 201 rfl) rfl
theorem mok_X12_behind : MOK 120131763 := ⟨lw_g (lw_at lw_m13 111 rfl) rfl, Or.inl ⟨ini_25, by decide⟩, Nat.le_of_ble_eq_true rfl, Or.inl ⟨_, _, _, rfl⟩, nmh_25⟩
theorem np_X12_behind : npar (mNm 120131763).desc = some 2 := by decide +kernel
theorem im_X12_behind : Cond.instanceMethod (mNm 120131763) ∈ lw_all := lw_g (lw_at lw_m12 5 rfl) rfl
theorem mok_X12_judged : MOK 120393906 := ⟨lw_g (lw_at lw_m14 55 rfl) rfl, Or.inl ⟨ini_25, by decide⟩, Nat.le_of_ble_eq_true rfl, Or.inl ⟨_, _, _, rfl⟩, nmh_25⟩
theorem np_X12_judged : npar (mNm 120393906).desc = some 1 := by decide +kernel
theorem im_X12_judged : Cond.instanceMethod (mNm 120393906) ∈ lw_all := lw_g (lw_at lw_m13 113 rfl) rfl
theorem mok_X12_before : MOK 120656051 := ⟨lw_g (lw_at lw_m14 97 rfl) rfl, Or.inl ⟨ini_25, by decide⟩, Nat.le_of_ble_eq_true rfl, Or.inl ⟨_, _, _, rfl⟩, nmh_25⟩
theorem np_X12_before : npar (mNm 120656051).desc = some 2 := by decide +kernel
theorem im_X12_before : Cond.instanceMethod (mNm 120656051) ∈ lw_all := lw_g (lw_at lw_m14 58 rfl) rfl
theorem mok_X12_steps : MOK 120918193 := ⟨lw_g (lw_at lw_m15 62 rfl) rfl, Or.inl ⟨ini_25, by decide⟩, Nat.le_of_ble_eq_true rfl, Or.inl ⟨_, _, _, rfl⟩, nmh_25⟩
theorem np_X12_steps : npar (mNm 120918193).desc = some 0 := by decide +kernel
theorem im_X12_steps : Cond.instanceMethod (mNm 120918193) ∈ lw_all := lw_g (lw_at lw_m15 36 rfl) rfl
theorem mok_X13_init : MOK 121155890 := ⟨lw_g (lw_at lw_m5 85 rfl) rfl, Or.inl ⟨ini_9, by decide⟩, Nat.le_of_ble_eq_true rfl, Or.inl ⟨_, _, _, rfl⟩, nmh_9⟩
theorem np_X13_init : npar (mNm 121155890).desc = some 1 := by decide +kernel
theorem im_X13_init : Cond.instanceMethod (mNm 121155890) ∈ lw_all := lw_g (lw_at lw_m5 84 rfl) rfl
theorem mok_X13_judged : MOK 121418034 := ⟨lw_g (lw_at lw_m13 126 rfl) rfl, Or.inl ⟨ini_9, by decide⟩, Nat.le_of_ble_eq_true rfl, Or.inl ⟨_, _, _, rfl⟩, nmh_9⟩
theorem np_X13_judged : npar (mNm 121418034).desc = some 1 := by decide +kernel
theorem im_X13_judged : Cond.instanceMethod (mNm 121418034) ∈ lw_all := lw_g (lw_at lw_m13 125 rfl) rfl
theorem mok_X13_closed : MOK 121680178 := ⟨lw_g (lw_at lw_m13 138 rfl) rfl, Or.inl ⟨ini_9, by decide⟩, Nat.le_of_ble_eq_true rfl, Or.inl ⟨_, _, _, rfl⟩, nmh_9⟩
theorem np_X13_closed : npar (mNm 121680178).desc = some 1 := by decide +kernel
theorem im_X13_closed : Cond.instanceMethod (mNm 121680178) ∈ lw_all := lw_g (lw_at lw_m13 129 rfl) rfl
theorem mok_X14_init : MOK 121940306 := ⟨lw_g (lw_at lw_m5 82 rfl) rfl, Or.inl ⟨ini_39, by decide⟩, Nat.le_of_ble_eq_true rfl, Or.inl ⟨_, _, _, rfl⟩, nmh_39⟩
theorem np_X14_init : npar (mNm 121940306).desc = some 1 := by decide +kernel
theorem im_X14_init : Cond.instanceMethod (mNm 121940306) ∈ lw_all := lw_g (lw_at lw_m5 81 rfl) rfl
theorem mok_X14_enter : MOK 122202450 := ⟨lw_g (lw_at lw_m11 187 rfl) rfl, Or.inl ⟨ini_39, by decide⟩, Nat.le_of_ble_eq_true rfl, Or.inl ⟨_, _, _, rfl⟩, nmh_39⟩
theorem np_X14_enter : npar (mNm 122202450).desc = some 1 := by decide +kernel
theorem im_X14_enter : Cond.instanceMethod (mNm 122202450) ∈ lw_all := lw_g (lw_at lw_m11 186 rfl) rfl
theorem mok_X14_ends : MOK 122464593 := ⟨lw_g (lw_at lw_m12 54 rfl) rfl, Or.inl ⟨ini_39, by decide⟩, Nat.le_of_ble_eq_true rfl, Or.inl ⟨_, _, _, rfl⟩, nmh_39⟩
theorem np_X14_ends : npar (mNm 122464593).desc = some 0 := by decide +kernel
theorem im_X14_ends : Cond.instanceMethod (mNm 122464593) ∈ lw_all := lw_g (lw_at lw_m12 53 rfl) rfl
theorem mok_X14_end : MOK 122726738 := ⟨lw_g (lw_at lw_m12 97 rfl) rfl, Or.inl ⟨ini_39, by decide⟩, Nat.le_of_ble_eq_true rfl, Or.inl ⟨_, _, _, rfl⟩, nmh_39⟩
theorem np_X14_end : npar (mNm 122726738).desc = some 1 := by decide +kernel
theorem im_X14_end : Cond.instanceMethod (mNm 122726738) ∈ lw_all := lw_g (lw_at lw_m12 96 rfl) rfl
theorem mok_X14_behind : MOK 122988883 := ⟨lw_g (lw_at lw_m13 82 rfl) rfl, Or.inl ⟨ini_39, by decide⟩, Nat.le_of_ble_eq_true rfl, Or.inl ⟨_, _, _, rfl⟩, nmh_39⟩
theorem np_X14_behind : npar (mNm 122988883).desc = some 2 := by decide +kernel
theorem im_X14_behind : Cond.instanceMethod (mNm 122988883) ∈ lw_all := lw_g (lw_at lw_m13 81 rfl) rfl
theorem mok_X14_closed : MOK 123251026 := ⟨lw_g (lw_at lw_m13 135 rfl) rfl, Or.inl ⟨ini_39, by decide⟩, Nat.le_of_ble_eq_true rfl, Or.inl ⟨_, _, _, rfl⟩, nmh_39⟩
theorem np_X14_closed : npar (mNm 123251026).desc = some 1 := by decide +kernel
theorem im_X14_closed : Cond.instanceMethod (mNm 123251026) ∈ lw_all := lw_g (lw_at lw_m13 134 rfl) rfl
theorem mok_X14_kind : MOK 123513169 := ⟨lw_g (lw_at lw_m15 19 rfl) rfl, Or.inl ⟨ini_39, by decide⟩, Nat.le_of_ble_eq_true rfl, Or.inl ⟨_, _, _, rfl⟩, nmh_39⟩
theorem np_X14_kind : npar (mNm 123513169).desc = some 0 := by decide +kernel
theorem im_X14_kind : Cond.instanceMethod (mNm 123513169) ∈ lw_all := lw_g (lw_at lw_m15 18 rfl) rfl
theorem mok_X14_work : MOK 123775315 := ⟨lw_g (lw_at lw_m17 164 rfl) rfl, Or.inl ⟨ini_39, by decide⟩, Nat.le_of_ble_eq_true rfl, Or.inl ⟨_, _, _, rfl⟩, nmh_39⟩
theorem np_X14_work : npar (mNm 123775315).desc = some 2 := by decide +kernel
theorem im_X14_work : Cond.instanceMethod (mNm 123775315) ∈ lw_all := lw_g (lw_at lw_m17 163 rfl) rfl
theorem mok_X15_init : MOK 124060162 := ⟨lw_g (lw_at lw_m6 199 rfl) rfl, Or.inl ⟨ini_40, by decide⟩, Nat.le_of_ble_eq_true rfl, Or.inl ⟨_, _, _, rfl⟩, nmh_40⟩
theorem np_X15_init : npar (mNm 124060162).desc = some 1 := by decide +kernel
theorem im_X15_init : Cond.instanceMethod (mNm 124060162) ∈ lw_all := lw_g (lw_at lw_m6 198 rfl) rfl
theorem mok_X15_comes : MOK 124322307 := ⟨lw_g (lw_at lw_m12 145 rfl) rfl, Or.inl ⟨ini_40, by decide⟩, Nat.le_of_ble_eq_true rfl, Or.inl ⟨_, _, _, rfl⟩, nmh_40⟩
theorem np_X15_comes : npar (mNm 124322307).desc = some 2 := by decide +kernel
theorem im_X15_comes : Cond.instanceMethod (mNm 124322307) ∈ lw_all := lw_g (lw_at lw_m12 144 rfl) rfl
theorem mok_X15_kind : MOK 124584449 := ⟨lw_g (lw_at lw_m15 22 rfl) rfl, Or.inl ⟨ini_40, by decide⟩, Nat.le_of_ble_eq_true rfl, Or.inl ⟨_, _, _, rfl⟩, nmh_40⟩
theorem np_X15_kind : npar (mNm 124584449).desc = some 0 := by decide +kernel
theorem im_X15_kind : Cond.instanceMethod (mNm 124584449) ∈ lw_all := lw_g (lw_at lw_m15 21 rfl) rfl
theorem mok_X15_work : MOK 124846595 := ⟨lw_g (lw_at lw_m17 171 rfl) rfl, Or.inl ⟨ini_40, by decide⟩, Nat.le_of_ble_eq_true rfl, Or.inl ⟨_, _, _, rfl⟩, nmh_40⟩
theorem np_X15_work : npar (mNm 124846595).desc = some 2 := by decide +kernel
theorem im_X15_work : Cond.instanceMethod (mNm 124846595) ∈ lw_all := lw_g (lw_at lw_m17 170 rfl) rfl
theorem mok_X16_init : MOK 125077778 := ⟨lw_g (lw_at lw_m6 228 rfl) rfl, Or.inl ⟨ini_7, by decide⟩, Nat.le_of_ble_eq_true rfl, Or.inl ⟨_, _, _, rfl⟩, nmh_7⟩
theorem np_X16_init : npar (mNm 125077778).desc = some 1 := by decide +kernel
theorem im_X16_init : Cond.instanceMethod (mNm 125077778) ∈ lw_all := lw_g (lw_at lw_m6 227 rfl) rfl
theorem mok_X16_comes : MOK 125339923 := ⟨lw_g (lw_at lw_m12 123 rfl) rfl, Or.inl ⟨ini_7, by decide⟩, Nat.le_of_ble_eq_true rfl, Or.inl ⟨_, _, _, rfl⟩, nmh_7⟩
theorem np_X16_comes : npar (mNm 125339923).desc = some 2 := by decide +kernel
theorem im_X16_comes : Cond.instanceMethod (mNm 125339923) ∈ lw_all := lw_g (lw_at lw_m12 122 rfl) rfl
theorem mok_X16_kind : MOK 125602065 := ⟨lw_g (lw_at lw_m14 217 rfl) rfl, Or.inl ⟨ini_7, by decide⟩, Nat.le_of_ble_eq_true rfl, Or.inl ⟨_, _, _, rfl⟩, nmh_7⟩
theorem np_X16_kind : npar (mNm 125602065).desc = some 0 := by decide +kernel
theorem im_X16_kind : Cond.instanceMethod (mNm 125602065) ∈ lw_all := lw_g (lw_at lw_m14 216 rfl) rfl
theorem mok_X16_work : MOK 125864211 := ⟨lw_g (lw_at lw_m16 221 rfl) rfl, Or.inl ⟨ini_7, by decide⟩, Nat.le_of_ble_eq_true rfl, Or.inl ⟨_, _, _, rfl⟩, nmh_7⟩
theorem np_X16_work : npar (mNm 125864211).desc = some 2 := by decide +kernel
theorem im_X16_work : Cond.instanceMethod (mNm 125864211) ∈ lw_all := lw_g (lw_at lw_m16 220 rfl) rfl
theorem mok_X17_init : MOK 126153186 := ⟨lw_g (lw_at lw_m7 25 rfl) rfl, Or.inl ⟨ini_36, by decide⟩, Nat.le_of_ble_eq_true rfl, Or.inl ⟨_, _, _, rfl⟩, nmh_36⟩
theorem np_X17_init : npar (mNm 126153186).desc = some 1 := by decide +kernel
theorem im_X17_init : Cond.instanceMethod (mNm 126153186) ∈ lw_all := lw_g (lw_at lw_m7 24 rfl) rfl
theorem mok_X17_enter : MOK 126415330 := ⟨lw_g (lw_at lw_m11 84 rfl) rfl, Or.inl ⟨ini_36, by decide⟩, Nat.le_of_ble_eq_true rfl, Or.inl ⟨_, _, _, rfl⟩, nmh_36⟩
theorem np_X17_enter : npar (mNm 126415330).desc = some 1 := by decide +kernel
theorem im_X17_enter : Cond.instanceMethod (mNm 126415330) ∈ lw_all := lw_g (lw_at lw_m11 83 rfl) rfl
theorem mok_X17_has : MOK 126677474 := ⟨lw_g (lw_at lw_m11 235 rfl) rfl, Or.inl ⟨ini_36, by decide⟩, Nat.le_of_ble_eq_true rfl, Or.inl ⟨_, _, _, rfl⟩, nmh_36⟩
theorem np_X17_has : npar (mNm 126677474).desc = some 1 := by decide +kernel
theorem im_X17_has : Cond.instanceMethod (mNm 126677474) ∈ lw_all := lw_g (lw_at lw_m11 233 rfl) rfl
theorem mok_X17_behind : MOK 126939619 := ⟨lw_g (lw_at lw_m13 70 rfl) rfl, Or.inl ⟨ini_36, by decide⟩, Nat.le_of_ble_eq_true rfl, Or.inl ⟨_, _, _, rfl⟩, nmh_36⟩
theorem np_X17_behind : npar (mNm 126939619).desc = some 2 := by decide +kernel
theorem im_X17_behind : Cond.instanceMethod (mNm 126939619) ∈ lw_all := lw_g (lw_at lw_m13 69 rfl) rfl
theorem mok_X17_kind : MOK 127201761 := ⟨lw_g (lw_at lw_m15 13 rfl) rfl, Or.inl ⟨ini_36, by decide⟩, Nat.le_of_ble_eq_true rfl, Or.inl ⟨_, _, _, rfl⟩, nmh_36⟩
theorem np_X17_kind : npar (mNm 127201761).desc = some 0 := by decide +kernel
theorem im_X17_kind : Cond.instanceMethod (mNm 127201761) ∈ lw_all := lw_g (lw_at lw_m15 12 rfl) rfl
theorem mok_X17_work : MOK 127463907 := ⟨lw_g (lw_at lw_m17 138 rfl) rfl, Or.inl ⟨ini_36, by decide⟩, Nat.le_of_ble_eq_true rfl, Or.inl ⟨_, _, _, rfl⟩, nmh_36⟩
theorem np_X17_work : npar (mNm 127463907).desc = some 2 := by decide +kernel
theorem im_X17_work : Cond.instanceMethod (mNm 127463907) ∈ lw_all := lw_g (lw_at lw_m17 137 rfl) rfl
theorem mok_X18_init : MOK 127668260 := ⟨lw_g (lw_at lw_m7 93 rfl) rfl, Or.inl ⟨ini_3, by decide⟩, Nat.le_of_ble_eq_true rfl, Or.inl ⟨_, _, _, rfl⟩, nmh_3⟩
theorem np_X18_init : npar (mNm 127668260).desc = some 3 := by decide +kernel
theorem im_X18_init : Cond.instanceMethod (mNm 127668260) ∈ lw_all := lw_g (lw_at lw_m7 92 rfl) rfl
theorem mok_X19_init : MOK 127959266 := ⟨lw_g (lw_at lw_m8 1 rfl) rfl, Or.inl ⟨ini_6, by decide⟩, Nat.le_of_ble_eq_true rfl, Or.inl ⟨_, _, _, rfl⟩, nmh_6⟩
theorem np_X19_init : npar (mNm 127959266).desc = some 1 := by decide +kernel
theorem im_X19_init : Cond.instanceMethod (mNm 127959266) ∈ lw_all := lw_g (lw_at lw_m8 0 rfl) rfl
theorem mok_X20_init : MOK 128217317 := ⟨lw_g (lw_at lw_m7 238 rfl) rfl, Or.inl ⟨ini_14, by decide⟩, Nat.le_of_ble_eq_true rfl, Or.inl ⟨_, _, _, rfl⟩, nmh_14⟩
theorem np_X20_init : npar (mNm 128217317).desc = some 4 := by decide +kernel
theorem im_X20_init : Cond.instanceMethod (mNm 128217317) ∈ lw_all := lw_g (lw_at lw_m7 237 rfl) rfl
theorem mok_X20_declare : MOK 128479458 := ⟨lw_g (lw_at lw_m11 197 rfl) rfl, Or.inl ⟨ini_14, by decide⟩, Nat.le_of_ble_eq_true rfl, Or.inl ⟨_, _, _, rfl⟩, nmh_14⟩
theorem np_X20_declare : npar (mNm 128479458).desc = some 1 := by decide +kernel
theorem im_X20_declare : Cond.instanceMethod (mNm 128479458) ∈ lw_all := lw_g (lw_at lw_m11 196 rfl) rfl
theorem mok_X20_behind : MOK 128741603 := ⟨lw_g (lw_at lw_m13 35 rfl) rfl, Or.inl ⟨ini_14, by decide⟩, Nat.le_of_ble_eq_true rfl, Or.inl ⟨_, _, _, rfl⟩, nmh_14⟩
theorem np_X20_behind : npar (mNm 128741603).desc = some 2 := by decide +kernel
theorem im_X20_behind : Cond.instanceMethod (mNm 128741603) ∈ lw_all := lw_g (lw_at lw_m13 34 rfl) rfl
theorem mok_X20_kind : MOK 129003745 := ⟨lw_g (lw_at lw_m14 229 rfl) rfl, Or.inl ⟨ini_14, by decide⟩, Nat.le_of_ble_eq_true rfl, Or.inl ⟨_, _, _, rfl⟩, nmh_14⟩
theorem np_X20_kind : npar (mNm 129003745).desc = some 0 := by decide +kernel
theorem im_X20_kind : Cond.instanceMethod (mNm 129003745) ∈ lw_all := lw_g (lw_at lw_m14 228 rfl) rfl
theorem mok_X20_work : MOK 129265891 := ⟨lw_g (lw_at lw_m17 75 rfl) rfl, Or.inl ⟨ini_14, by decide⟩, Nat.le_of_ble_eq_true rfl, Or.inl ⟨_, _, _, rfl⟩, nmh_14⟩
theorem np_X20_work : npar (mNm 129265891).desc = some 2 := by decide +kernel
theorem im_X20_work : Cond.instanceMethod (mNm 129265891) ∈ lw_all := lw_g (lw_at lw_m17 74 rfl) rfl
theorem mok_X21_init : MOK 129525971 := ⟨lw_g (lw_at lw_m8 45 rfl) rfl, Or.inl ⟨ini_5, by decide⟩, Nat.le_of_ble_eq_true rfl, Or.inl ⟨_, _, _, rfl⟩, nmh_5⟩
theorem np_X21_init : npar (mNm 129525971).desc = some 2 := by decide +kernel
theorem im_X21_init : Cond.instanceMethod (mNm 129525971) ∈ lw_all := lw_g (lw_at lw_m8 44 rfl) rfl
theorem mok_X21_judged : MOK 129788114 := ⟨lw_g (lw_at lw_m13 141 rfl) rfl, Or.inl ⟨ini_5, by decide⟩, Nat.le_of_ble_eq_true rfl, Or.inl ⟨_, _, _, rfl⟩, nmh_5⟩
theorem np_X21_judged : npar (mNm 129788114).desc = some 1 := by decide +kernel
theorem im_X21_judged : Cond.instanceMethod (mNm 129788114) ∈ lw_all := lw_g (lw_at lw_m13 140 rfl) rfl
theorem mok_X21_kind : MOK 130050257 := ⟨lw_g (lw_at lw_m14 214 rfl) rfl, Or.inl ⟨ini_5, by decide⟩, Nat.le_of_ble_eq_true rfl, Or.inl ⟨_, _, _, rfl⟩, nmh_5⟩
theorem np_X21_kind : npar (mNm 130050257).desc = some 0 := by decide +kernel
theorem im_X21_kind : Cond.instanceMethod (mNm 130050257) ∈ lw_all := lw_g (lw_at lw_m14 213 rfl) rfl
theorem mok_X21_work : MOK 130312403 := ⟨lw_g (lw_at lw_m16 216 rfl) rfl, Or.inl ⟨ini_5, by decide⟩, Nat.le_of_ble_eq_true rfl, Or.inl ⟨_, _, _, rfl⟩, nmh_5⟩
theorem np_X21_work : npar (mNm 130312403).desc = some 2 := by decide +kernel
theorem im_X21_work : Cond.instanceMethod (mNm 130312403) ∈ lw_all := lw_g (lw_at lw_m16 215 rfl) rfl
theorem mok_X22_init : MOK 130572482 := ⟨lw_g (lw_at lw_m8 70 rfl) rfl, Or.inl ⟨ini_2, by decide⟩, Nat.le_of_ble_eq_true rfl, Or.inl ⟨_, _, _, rfl⟩, nmh_2⟩
theorem np_X22_init : npar (mNm 130572482).desc = some 1 := by decide +kernel
theorem im_X22_init : Cond.instanceMethod (mNm 130572482) ∈ lw_all := lw_g (lw_at lw_m8 69 rfl) rfl
theorem mok_X22_behind : MOK 130834627 := ⟨lw_g (lw_at lw_m12 235 rfl) rfl, Or.inl ⟨ini_2, by decide⟩, Nat.le_of_ble_eq_true rfl, Or.inl ⟨_, _, _, rfl⟩, nmh_2⟩
theorem np_X22_behind : npar (mNm 130834627).desc = some 2 := by decide +kernel
theorem im_X22_behind : Cond.instanceMethod (mNm 130834627) ∈ lw_all := lw_g (lw_at lw_m12 234 rfl) rfl
theorem mok_X22_judged : MOK 131096770 := ⟨lw_g (lw_at lw_m13 118 rfl) rfl, Or.inl ⟨ini_2, by decide⟩, Nat.le_of_ble_eq_true rfl, Or.inl ⟨_, _, _, rfl⟩, nmh_2⟩
theorem np_X22_judged : npar (mNm 131096770).desc = some 1 := by decide +kernel
theorem im_X22_judged : Cond.instanceMethod (mNm 131096770) ∈ lw_all := lw_g (lw_at lw_m13 117 rfl) rfl
theorem mok_X22_kind : MOK 131358913 := ⟨lw_g (lw_at lw_m14 208 rfl) rfl, Or.inl ⟨ini_2, by decide⟩, Nat.le_of_ble_eq_true rfl, Or.inl ⟨_, _, _, rfl⟩, nmh_2⟩
theorem np_X22_kind : npar (mNm 131358913).desc = some 0 := by decide +kernel
theorem im_X22_kind : Cond.instanceMethod (mNm 131358913) ∈ lw_all := lw_g (lw_at lw_m14 207 rfl) rfl
theorem mok_X22_work : MOK 131621059 := ⟨lw_g (lw_at lw_m16 84 rfl) rfl, Or.inl ⟨ini_2, by decide⟩, Nat.le_of_ble_eq_true rfl, Or.inl ⟨_, _, _, rfl⟩, nmh_2⟩
theorem np_X22_work : npar (mNm 131621059).desc = some 2 := by decide +kernel
theorem im_X22_work : Cond.instanceMethod (mNm 131621059) ∈ lw_all := lw_g (lw_at lw_m16 83 rfl) rfl
theorem mok_X23_init : MOK 131926546 := ⟨lw_g (lw_at lw_m8 88 rfl) rfl, Or.inl ⟨ini_41, by decide⟩, Nat.le_of_ble_eq_true rfl, Or.inl ⟨_, _, _, rfl⟩, nmh_41⟩
theorem np_X23_init : npar (mNm 131926546).desc = some 1 := by decide +kernel
theorem im_X23_init : Cond.instanceMethod (mNm 131926546) ∈ lw_all := lw_g (lw_at lw_m8 87 rfl) rfl
theorem mok_X23_behind : MOK 132188691 := ⟨lw_g (lw_at lw_m13 87 rfl) rfl, Or.inl ⟨ini_41, by decide⟩, Nat.le_of_ble_eq_true rfl, Or.inl ⟨_, _, _, rfl⟩, nmh_41⟩
theorem np_X23_behind : npar (mNm 132188691).desc = some 2 := by decide +kernel
theorem im_X23_behind : Cond.instanceMethod (mNm 132188691) ∈ lw_all := lw_g (lw_at lw_m13 86 rfl) rfl
theorem mok_X23_judged : MOK 132450834 := ⟨lw_g (lw_at lw_m14 43 rfl) rfl, Or.inl ⟨ini_41, by decide⟩, Nat.le_of_ble_eq_true rfl, Or.inl ⟨_, _, _, rfl⟩, nmh_41⟩
theorem np_X23_judged : npar (mNm 132450834).desc = some 1 := by decide +kernel
theorem im_X23_judged : Cond.instanceMethod (mNm 132450834) ∈ lw_all := lw_g (lw_at lw_m14 42 rfl) rfl
theorem mok_X23_isTrim : MOK 132712977 := ⟨lw_g (lw_at lw_m14 48 rfl) rfl, Or.inl ⟨ini_41, by decide⟩, Nat.le_of_ble_eq_true rfl, Or.inl ⟨_, _, _, rfl⟩, nmh_41⟩
theorem np_X23_isTrim : npar (mNm 132712977).desc = some 0 := by decide +kernel
theorem im_X23_isTrim : Cond.instanceMethod (mNm 132712977) ∈ lw_all := lw_g (lw_at lw_m14 47 rfl) rfl
theorem mok_X23_kind : MOK 132975121 := ⟨lw_g (lw_at lw_m15 25 rfl) rfl, Or.inl ⟨ini_41, by decide⟩, Nat.le_of_ble_eq_true rfl, Or.inl ⟨_, _, _, rfl⟩, nmh_41⟩
theorem np_X23_kind : npar (mNm 132975121).desc = some 0 := by decide +kernel
theorem im_X23_kind : Cond.instanceMethod (mNm 132975121) ∈ lw_all := lw_g (lw_at lw_m15 24 rfl) rfl
theorem mok_X23_work : MOK 133237267 := ⟨lw_g (lw_at lw_m17 176 rfl) rfl, Or.inl ⟨ini_41, by decide⟩, Nat.le_of_ble_eq_true rfl, Or.inl ⟨_, _, _, rfl⟩, nmh_41⟩
theorem np_X23_work : npar (mNm 133237267).desc = some 2 := by decide +kernel
theorem im_X23_work : Cond.instanceMethod (mNm 133237267) ∈ lw_all := lw_g (lw_at lw_m17 175 rfl) rfl
theorem mok_X23_trim : MOK 133431300 := ⟨lw_g (lw_at lw_m17 200 rfl) rfl, Or.inl ⟨ini_41, by decide⟩, Nat.le_of_ble_eq_true rfl, Or.inl ⟨_, _, _, rfl⟩, nmh_41⟩
theorem np_X23_trim : npar (mNm 133431300).desc = some 4 := by decide +kernel
theorem sm_X23_trim : Cond.static (mNm 133431300) ∈ lw_all := lw_g (lw_at lw_m17 199 rfl) rfl
theorem mok_X24_init : MOK 133740915 := ⟨lw_g (lw_at lw_m8 164 rfl) rfl, Or.inl ⟨ini_11, by decide⟩, Nat.le_of_ble_eq_true rfl, Or.inl ⟨_, _, _, rfl⟩, nmh_11⟩
theorem np_X24_init : npar (mNm 133740915).desc = some 2 := by decide +kernel
theorem im_X24_init : Cond.instanceMethod (mNm 133740915) ∈ lw_all := lw_g (lw_at lw_m8 163 rfl) rfl
theorem mok_X24_behind : MOK 134003059 := ⟨lw_g (lw_at lw_m13 18 rfl) rfl, Or.inl ⟨ini_11, by decide⟩, Nat.le_of_ble_eq_true rfl, Or.inl ⟨_, _, _, rfl⟩, nmh_11⟩
theorem np_X24_behind : npar (mNm 134003059).desc = some 2 := by decide +kernel
theorem im_X24_behind : Cond.instanceMethod (mNm 134003059) ∈ lw_all := lw_g (lw_at lw_m13 17 rfl) rfl
theorem mok_X24_judged : MOK 134265202 := ⟨lw_g (lw_at lw_m13 156 rfl) rfl, Or.inl ⟨ini_11, by decide⟩, Nat.le_of_ble_eq_true rfl, Or.inl ⟨_, _, _, rfl⟩, nmh_11⟩
theorem np_X24_judged : npar (mNm 134265202).desc = some 1 := by decide +kernel
theorem im_X24_judged : Cond.instanceMethod (mNm 134265202) ∈ lw_all := lw_g (lw_at lw_m13 155 rfl) rfl
theorem mok_X24_fits : MOK 134527347 := ⟨lw_g (lw_at lw_m13 163 rfl) rfl, Or.inl ⟨ini_11, by decide⟩, Nat.le_of_ble_eq_true rfl, Or.inl ⟨_, _, _, rfl⟩, nmh_11⟩
theorem np_X24_fits : npar (mNm 134527347).desc = some 2 := by decide +kernel
theorem im_X24_fits : Cond.instanceMethod (mNm 134527347) ∈ lw_all := lw_g (lw_at lw_m13 162 rfl) rfl
theorem mok_X24_isStandard : MOK 134789490 := ⟨lw_g (lw_at lw_m13 189 rfl) rfl, Or.inl ⟨ini_11, by decide⟩, Nat.le_of_ble_eq_true rfl, Or.inl ⟨_, _, _, rfl⟩, nmh_11⟩
theorem np_X24_isStandard : npar (mNm 134789490).desc = some 1 := by decide +kernel
theorem im_X24_isStandard : Cond.instanceMethod (mNm 134789490) ∈ lw_all := lw_g (lw_at lw_m13 188 rfl) rfl
theorem mok_X24_isAlike : MOK 135051633 := ⟨lw_g (lw_at lw_m13 200 rfl) rfl, Or.inl ⟨ini_11, by decide⟩, Nat.le_of_ble_eq_true rfl, Or.inl ⟨_, _, _, rfl⟩, nmh_11⟩
theorem np_X24_isAlike : npar (mNm 135051633).desc = some 0 := by decide +kernel
theorem im_X24_isAlike : Cond.instanceMethod (mNm 135051633) ∈ lw_all := lw_g (lw_at lw_m13 199 rfl) rfl
theorem mok_X24_isOrder : MOK 135313777 := ⟨lw_g (lw_at lw_m13 208 rfl) rfl, Or.inl ⟨ini_11, by decide⟩, Nat.le_of_ble_eq_true rfl, Or.inl ⟨_, _, _, rfl⟩, nmh_11⟩
theorem np_X24_isOrder : npar (mNm 135313777).desc = some 0 := by decide +kernel
theorem im_X24_isOrder : Cond.instanceMethod (mNm 135313777) ∈ lw_all := lw_g (lw_at lw_m13 207 rfl) rfl
theorem mok_X24_plainOf : MOK 135528450 := ⟨lw_g (lw_at lw_m13 218 rfl) rfl, Or.inl ⟨ini_11, by decide⟩, Nat.le_of_ble_eq_true rfl, Or.inl ⟨_, _, _, rfl⟩, nmh_11⟩
theorem np_X24_plainOf : npar (mNm 135528450).desc = some 2 := by decide +kernel
theorem sm_X24_plainOf : Cond.static (mNm 135528450) ∈ lw_all := lw_g (lw_at lw_m13 217 rfl) rfl
theorem mok_X24_reach : MOK 135838067 := ⟨lw_g (lw_at lw_m13 222 rfl) rfl, Or.inl ⟨ini_11, by decide⟩, Nat.le_of_ble_eq_true rfl, Or.inl ⟨_, _, _, rfl⟩, nmh_11⟩
theorem np_X24_reach : npar (mNm 135838067).desc = some 2 := by decide +kernel
theorem im_X24_reach : Cond.instanceMethod (mNm 135838067) ∈ lw_all := lw_g (lw_at lw_m13 221 rfl) rfl
theorem mok_X24_yields : MOK 136100209 := ⟨lw_g (lw_at lw_m13 227 rfl) rfl, Or.inl ⟨ini_11, by decide⟩, Nat.le_of_ble_eq_true rfl, Or.inl ⟨_, _, _, rfl⟩, nmh_11⟩
theorem np_X24_yields : npar (mNm 136100209).desc = some 0 := by decide +kernel
theorem im_X24_yields : Cond.instanceMethod (mNm 136100209) ∈ lw_all := lw_g (lw_at lw_m13 226 rfl) rfl
theorem mok_X24_kind : MOK 136362353 := ⟨lw_g (lw_at lw_m14 223 rfl) rfl, Or.inl ⟨ini_11, by decide⟩, Nat.le_of_ble_eq_true rfl, Or.inl ⟨_, _, _, rfl⟩, nmh_11⟩
theorem np_X24_kind : npar (mNm 136362353).desc = some 0 := by decide +kernel
theorem im_X24_kind : Cond.instanceMethod (mNm 136362353) ∈ lw_all := lw_g (lw_at lw_m14 222 rfl) rfl
theorem mok_X24_work : MOK 136624499 := ⟨lw_g (lw_at lw_m17 13 rfl) rfl, Or.inl ⟨ini_11, by decide⟩, Nat.le_of_ble_eq_true rfl, Or.inl ⟨_, _, _, rfl⟩, nmh_11⟩
theorem np_X24_work : npar (mNm 136624499).desc = some 2 := by decide +kernel
theorem im_X24_work : Cond.instanceMethod (mNm 136624499) ∈ lw_all := lw_g (lw_at lw_m17 12 rfl) rfl
theorem mok_X24_single : MOK 136886643 := ⟨lw_g (lw_at lw_m17 26 rfl) rfl, Or.inl ⟨ini_11, by decide⟩, Nat.le_of_ble_eq_true rfl, Or.inl ⟨_, _, _, rfl⟩, nmh_11⟩
theorem np_X24_single : npar (mNm 136886643).desc = some 2 := by decide +kernel
theorem im_X24_single : Cond.instanceMethod (mNm 136886643) ∈ lw_all := lw_g (lw_at lw_m17 25 rfl) rfl
theorem mok_X24_fit : MOK 137148788 := ⟨lw_g (lw_at lw_m17 30 rfl) rfl, Or.inl ⟨ini_11, by decide⟩, Nat.le_of_ble_eq_true rfl, Or.inl ⟨_, _, _, rfl⟩, nmh_11⟩
theorem np_X24_fit : npar (mNm 137148788).desc = some 3 := by decide +kernel
theorem im_X24_fit : Cond.instanceMethod (mNm 137148788) ∈ lw_all := lw_g (lw_at lw_m17 29 rfl) rfl
theorem mok_X24_both : MOK 137410932 := ⟨lw_g (lw_at lw_m17 35 rfl) rfl, Or.inl ⟨ini_11, by decide⟩, Nat.le_of_ble_eq_true rfl, Or.inl ⟨_, _, _, rfl⟩, nmh_11⟩
theorem np_X24_both : npar (mNm 137410932).desc = some 3 := by decide +kernel
theorem im_X24_both : Cond.instanceMethod (mNm 137410932) ∈ lw_all := lw_g (lw_at lw_m17 34 rfl) rfl
theorem mok_X24_sum : MOK 137673076 := ⟨lw_g (lw_at lw_m17 39 rfl) rfl, Or.inl ⟨ini_11, by decide⟩, Nat.le_of_ble_eq_true rfl, Or.inl ⟨_, _, _, rfl⟩, nmh_11⟩
theorem np_X24_sum : npar (mNm 137673076).desc = some 3 := by decide +kernel
theorem im_X24_sum : Cond.instanceMethod (mNm 137673076) ∈ lw_all := lw_g (lw_at lw_m17 38 rfl) rfl
theorem mok_X24_difference : MOK 137935220 := ⟨lw_g (lw_at lw_m17 43 rfl) rfl, Or.inl ⟨ini_11, by decide⟩, Nat.le_of_ble_eq_true rfl, Or.inl ⟨_, _, _, rfl⟩, nmh_11⟩
theorem np_X24_difference : npar (mNm 137935220).desc = some 3 := by decide +kernel
theorem im_X24_difference : Cond.instanceMethod (mNm 137935220) ∈ lw_all := lw_g (lw_at lw_m17 42 rfl) rfl
theorem mok_X24_product : MOK 138197364 := ⟨lw_g (lw_at lw_m17 47 rfl) rfl, Or.inl ⟨ini_11, by decide⟩, Nat.le_of_ble_eq_true rfl, Or.inl ⟨_, _, _, rfl⟩, nmh_11⟩
theorem np_X24_product : npar (mNm 138197364).desc = some 3 := by decide +kernel
theorem im_X24_product : Cond.instanceMethod (mNm 138197364) ∈ lw_all := lw_g (lw_at lw_m17 46 rfl) rfl
theorem mok_X24_quotient : MOK 138459508 := ⟨lw_g (lw_at lw_m17 52 rfl) rfl, Or.inl ⟨ini_11, by decide⟩, Nat.le_of_ble_eq_true rfl, Or.inl ⟨_, _, _, rfl⟩, nmh_11⟩
theorem np_X24_quotient : npar (mNm 138459508).desc = some 3 := by decide +kernel
theorem im_X24_quotient : Cond.instanceMethod (mNm 138459508) ∈ lw_all := lw_g (lw_at lw_m17 51 rfl) rfl
theorem mok_X25_init : MOK 138711331 := ⟨lw_g (lw_at lw_m8 198 rfl) rfl, Or.inl ⟨ini_8, by decide⟩, Nat.le_of_ble_eq_true rfl, Or.inl ⟨_, _, _, rfl⟩, nmh_8⟩
theorem np_X25_init : npar (mNm 138711331).desc = some 2 := by decide +kernel
theorem im_X25_init : Cond.instanceMethod (mNm 138711331) ∈ lw_all := lw_g (lw_at lw_m8 197 rfl) rfl
theorem mok_X25_judged : MOK 138973474 := ⟨lw_g (lw_at lw_m13 149 rfl) rfl, Or.inl ⟨ini_8, by decide⟩, Nat.le_of_ble_eq_true rfl, Or.inl ⟨_, _, _, rfl⟩, nmh_8⟩
theorem np_X25_judged : npar (mNm 138973474).desc = some 1 := by decide +kernel
theorem im_X25_judged : Cond.instanceMethod (mNm 138973474) ∈ lw_all := lw_g (lw_at lw_m13 148 rfl) rfl
theorem mok_X25_kind : MOK 139235617 := ⟨lw_g (lw_at lw_m14 220 rfl) rfl, Or.inl ⟨ini_8, by decide⟩, Nat.le_of_ble_eq_true rfl, Or.inl ⟨_, _, _, rfl⟩, nmh_8⟩
theorem np_X25_kind : npar (mNm 139235617).desc = some 0 := by decide +kernel
theorem im_X25_kind : Cond.instanceMethod (mNm 139235617) ∈ lw_all := lw_g (lw_at lw_m14 219 rfl) rfl
theorem mok_X25_work : MOK 139497763 := ⟨lw_g (lw_at lw_m17 2 rfl) rfl, Or.inl ⟨ini_8, by decide⟩, Nat.le_of_ble_eq_true rfl, Or.inl ⟨_, _, _, rfl⟩, nmh_8⟩
theorem np_X25_work : npar (mNm 139497763).desc = some 2 := by decide +kernel
theorem im_X25_work : Cond.instanceMethod (mNm 139497763) ∈ lw_all := lw_g (lw_at lw_m17 1 rfl) rfl
theorem mok_X26_init : MOK 139786739 := ⟨lw_g (lw_at lw_m8 231 rfl) rfl, Or.inl ⟨ini_38, by decide⟩, Nat.le_of_ble_eq_true rfl, Or.inl ⟨_, _, _, rfl⟩, nmh_38⟩
theorem np_X26_init : npar (mNm 139786739).desc = some 2 := by decide +kernel
theorem im_X26_init : Cond.instanceMethod (mNm 139786739) ∈ lw_all := lw_g (lw_at lw_m8 230 rfl) rfl
theorem mok_X26_judged : MOK 140048882 := ⟨lw_g (lw_at lw_m14 29 rfl) rfl, Or.inl ⟨ini_38, by decide⟩, Nat.le_of_ble_eq_true rfl, Or.inl ⟨_, _, _, rfl⟩, nmh_38⟩
theorem np_X26_judged : npar (mNm 140048882).desc = some 1 := by decide +kernel
theorem im_X26_judged : Cond.instanceMethod (mNm 140048882) ∈ lw_all := lw_g (lw_at lw_m14 28 rfl) rfl
theorem mok_X26_kind : MOK 140311025 := ⟨lw_g (lw_at lw_m15 16 rfl) rfl, Or.inl ⟨ini_38, by decide⟩, Nat.le_of_ble_eq_true rfl, Or.inl ⟨_, _, _, rfl⟩, nmh_38⟩
theorem np_X26_kind : npar (mNm 140311025).desc = some 0 := by decide +kernel
theorem im_X26_kind : Cond.instanceMethod (mNm 140311025) ∈ lw_all := lw_g (lw_at lw_m15 15 rfl) rfl
theorem mok_X26_work : MOK 140573171 := ⟨lw_g (lw_at lw_m17 148 rfl) rfl, Or.inl ⟨ini_38, by decide⟩, Nat.le_of_ble_eq_true rfl, Or.inl ⟨_, _, _, rfl⟩, nmh_38⟩
theorem np_X26_work : npar (mNm 140573171).desc = some 2 := by decide +kernel
theorem im_X26_work : Cond.instanceMethod (mNm 140573171) ∈ lw_all := lw_g (lw_at lw_m17 147 rfl) rfl
theorem mok_X27_init : MOK 140820868 := ⟨lw_g (lw_at lw_m9 24 rfl) rfl, Or.inl ⟨ini_13, by decide⟩, Nat.le_of_ble_eq_true rfl, Or.inl ⟨_, _, _, rfl⟩, nmh_13⟩
theorem np_X27_init : npar (mNm 140820868).desc = some 3 := by decide +kernel
theorem im_X27_init : Cond.instanceMethod (mNm 140820868) ∈ lw_all := lw_g (lw_at lw_m9 23 rfl) rfl
theorem mok_X27_behind : MOK 141083011 := ⟨lw_g (lw_at lw_m13 25 rfl) rfl, Or.inl ⟨ini_13, by decide⟩, Nat.le_of_ble_eq_true rfl, Or.inl ⟨_, _, _, rfl⟩, nmh_13⟩
theorem np_X27_behind : npar (mNm 141083011).desc = some 2 := by decide +kernel
theorem im_X27_behind : Cond.instanceMethod (mNm 141083011) ∈ lw_all := lw_g (lw_at lw_m13 24 rfl) rfl
theorem mok_X27_judged : MOK 141345154 := ⟨lw_g (lw_at lw_m13 230 rfl) rfl, Or.inl ⟨ini_13, by decide⟩, Nat.le_of_ble_eq_true rfl, Or.inl ⟨_, _, _, rfl⟩, nmh_13⟩
theorem np_X27_judged : npar (mNm 141345154).desc = some 1 := by decide +kernel
theorem im_X27_judged : Cond.instanceMethod (mNm 141345154) ∈ lw_all := lw_g (lw_at lw_m13 229 rfl) rfl
theorem mok_X27_kind : MOK 141607297 := ⟨lw_g (lw_at lw_m14 226 rfl) rfl, Or.inl ⟨ini_13, by decide⟩, Nat.le_of_ble_eq_true rfl, Or.inl ⟨_, _, _, rfl⟩, nmh_13⟩
theorem np_X27_kind : npar (mNm 141607297).desc = some 0 := by decide +kernel
theorem im_X27_kind : Cond.instanceMethod (mNm 141607297) ∈ lw_all := lw_g (lw_at lw_m14 225 rfl) rfl
theorem mok_X27_work : MOK 141869443 := ⟨lw_g (lw_at lw_m17 56 rfl) rfl, Or.inl ⟨ini_13, by decide⟩, Nat.le_of_ble_eq_true rfl, Or.inl ⟨_, _, _, rfl⟩, nmh_13⟩
theorem np_X27_work : npar (mNm 141869443).desc = some 2 := by decide +kernel
theorem im_X27_work : Cond.instanceMethod (mNm 141869443) ∈ lw_all := lw_g (lw_at lw_m17 55 rfl) rfl
theorem mok_X28_init : MOK 142139844 := ⟨lw_g (lw_at lw_m9 49 rfl) rfl, Or.inl ⟨ini_32, by decide⟩, Nat.le_of_ble_eq_true rfl, Or.inl ⟨_, _, _, rfl⟩, nmh_32⟩
theorem np_X28_init : npar (mNm 142139844).desc = some 3 := by decide +kernel
theorem im_X28_init : Cond.instanceMethod (mNm 142139844) ∈ lw_all := lw_g (lw_at lw_m9 48 rfl) rfl
theorem mok_X28_enter : MOK 142401986 := ⟨lw_g (lw_at lw_m11 80 rfl) rfl, Or.inl ⟨ini_32, by decide⟩, Nat.le_of_ble_eq_true rfl, Or.inl ⟨_, _, _, rfl⟩, nmh_32⟩
theorem np_X28_enter : npar (mNm 142401986).desc = some 1 := by decide +kernel
theorem im_X28_enter : Cond.instanceMethod (mNm 142401986) ∈ lw_all := lw_g (lw_at lw_m11 79 rfl) rfl
theorem mok_X28_kind : MOK 142664129 := ⟨lw_g (lw_at lw_m15 7 rfl) rfl, Or.inl ⟨ini_32, by decide⟩, Nat.le_of_ble_eq_true rfl, Or.inl ⟨_, _, _, rfl⟩, nmh_32⟩
theorem np_X28_kind : npar (mNm 142664129).desc = some 0 := by decide +kernel
theorem im_X28_kind : Cond.instanceMethod (mNm 142664129) ∈ lw_all := lw_g (lw_at lw_m15 6 rfl) rfl
theorem mok_X28_work : MOK 142926275 := ⟨lw_g (lw_at lw_m17 123 rfl) rfl, Or.inl ⟨ini_32, by decide⟩, Nat.le_of_ble_eq_true rfl, Or.inl ⟨_, _, _, rfl⟩, nmh_32⟩
theorem np_X28_work : npar (mNm 142926275).desc = some 2 := by decide +kernel
theorem im_X28_work : Cond.instanceMethod (mNm 142926275) ∈ lw_all := lw_g (lw_at lw_m17 122 rfl) rfl
theorem mok_X29_init : MOK 143200803 := ⟨lw_g (lw_at lw_m9 76 rfl) rfl, Or.inl ⟨ini_42, by decide⟩, Nat.le_of_ble_eq_true rfl, Or.inl ⟨_, _, _, rfl⟩, nmh_42⟩
theorem np_X29_init : npar (mNm 143200803).desc = some 2 := by decide +kernel
theorem im_X29_init : Cond.instanceMethod (mNm 143200803) ∈ lw_all := lw_g (lw_at lw_m9 75 rfl) rfl
theorem mok_X29_enter : MOK 143462946 := ⟨lw_g (lw_at lw_m11 225 rfl) rfl, Or.inl ⟨ini_42, by decide⟩, Nat.le_of_ble_eq_true rfl, Or.inl ⟨_, _, _, rfl⟩, nmh_42⟩
theorem np_X29_enter : npar (mNm 143462946).desc = some 1 := by decide +kernel
theorem im_X29_enter : Cond.instanceMethod (mNm 143462946) ∈ lw_all := lw_g (lw_at lw_m11 224 rfl) rfl
theorem mok_X29_kind : MOK 143725089 := ⟨lw_g (lw_at lw_m15 28 rfl) rfl, Or.inl ⟨ini_42, by decide⟩, Nat.le_of_ble_eq_true rfl, Or.inl ⟨_, _, _, rfl⟩, nmh_42⟩
theorem np_X29_kind : npar (mNm 143725089).desc = some 0 := by decide +kernel
theorem im_X29_kind : Cond.instanceMethod (mNm 143725089) ∈ lw_all := lw_g (lw_at lw_m15 27 rfl) rfl
theorem mok_X29_work : MOK 143987235 := ⟨lw_g (lw_at lw_m17 210 rfl) rfl, Or.inl ⟨ini_42, by decide⟩, Nat.le_of_ble_eq_true rfl, Or.inl ⟨_, _, _, rfl⟩, nmh_42⟩
theorem np_X29_work : npar (mNm 143987235).desc = some 2 := by decide +kernel
theorem im_X29_work : Cond.instanceMethod (mNm 143987235) ∈ lw_all := lw_g (lw_at lw_m17 209 rfl) rfl
theorem mok_X30_init : MOK 144220482 := ⟨lw_g (lw_at lw_m9 109 rfl) rfl, Or.inl ⟨ini_15, by decide⟩, Nat.le_of_ble_eq_true rfl, Or.inl ⟨_, _, _, rfl⟩, nmh_15⟩
theorem np_X30_init : npar (mNm 144220482).desc = some 1 := by decide +kernel
theorem im_X30_init : Cond.instanceMethod (mNm 144220482) ∈ lw_all := lw_g (lw_at lw_m9 108 rfl) rfl
theorem mok_X30_ends : MOK 144482625 := ⟨lw_g (lw_at lw_m12 42 rfl) rfl, Or.inl ⟨ini_15, by decide⟩, Nat.le_of_ble_eq_true rfl, Or.inl ⟨_, _, _, rfl⟩, nmh_15⟩
theorem np_X30_ends : npar (mNm 144482625).desc = some 0 := by decide +kernel
theorem im_X30_ends : Cond.instanceMethod (mNm 144482625) ∈ lw_all := lw_g (lw_at lw_m12 41 rfl) rfl
theorem mok_X30_end : MOK 144744770 := ⟨lw_g (lw_at lw_m12 83 rfl) rfl, Or.inl ⟨ini_15, by decide⟩, Nat.le_of_ble_eq_true rfl, Or.inl ⟨_, _, _, rfl⟩, nmh_15⟩
theorem np_X30_end : npar (mNm 144744770).desc = some 1 := by decide +kernel
theorem im_X30_end : Cond.instanceMethod (mNm 144744770) ∈ lw_all := lw_g (lw_at lw_m12 82 rfl) rfl
theorem mok_X30_behind : MOK 145006915 := ⟨lw_g (lw_at lw_m13 42 rfl) rfl, Or.inl ⟨ini_15, by decide⟩, Nat.le_of_ble_eq_true rfl, Or.inl ⟨_, _, _, rfl⟩, nmh_15⟩
theorem np_X30_behind : npar (mNm 145006915).desc = some 2 := by decide +kernel
theorem im_X30_behind : Cond.instanceMethod (mNm 145006915) ∈ lw_all := lw_g (lw_at lw_m13 41 rfl) rfl
theorem mok_X30_kind : MOK 145269057 := ⟨lw_g (lw_at lw_m14 232 rfl) rfl, Or.inl ⟨ini_15, by decide⟩, Nat.le_of_ble_eq_true rfl, Or.inl ⟨_, _, _, rfl⟩, nmh_15⟩
theorem np_X30_kind : npar (mNm 145269057).desc = some 0 := by decide +kernel
theorem im_X30_kind : Cond.instanceMethod (mNm 145269057) ∈ lw_all := lw_g (lw_at lw_m14 231 rfl) rfl
theorem mok_X30_work : MOK 145531203 := ⟨lw_g (lw_at lw_m17 80 rfl) rfl, Or.inl ⟨ini_15, by decide⟩, Nat.le_of_ble_eq_true rfl, Or.inl ⟨_, _, _, rfl⟩, nmh_15⟩
theorem np_X30_work : npar (mNm 145531203).desc = some 2 := by decide +kernel
theorem im_X30_work : Cond.instanceMethod (mNm 145531203) ∈ lw_all := lw_g (lw_at lw_m17 79 rfl) rfl
theorem mok_X31_init : MOK 145797474 := ⟨lw_g (lw_at lw_m9 136 rfl) rfl, Or.inl ⟨ini_45, by decide⟩, Nat.le_of_ble_eq_true rfl, Or.inl ⟨_, _, _, rfl⟩, nmh_45⟩
theorem np_X31_init : npar (mNm 145797474).desc = some 1 := by decide +kernel
theorem im_X31_init : Cond.instanceMethod (mNm 145797474) ∈ lw_all := lw_g (lw_at lw_m9 135 rfl) rfl
theorem mok_X31_ends : MOK 146059617 := ⟨lw_g (lw_at lw_m12 61 rfl) rfl, Or.inl ⟨ini_45, by decide⟩, Nat.le_of_ble_eq_true rfl, Or.inl ⟨_, _, _, rfl⟩, nmh_45⟩
theorem np_X31_ends : npar (mNm 146059617).desc = some 0 := by decide +kernel
theorem im_X31_ends : Cond.instanceMethod (mNm 146059617) ∈ lw_all := lw_g (lw_at lw_m12 60 rfl) rfl
theorem mok_X31_end : MOK 146321762 := ⟨lw_g (lw_at lw_m12 104 rfl) rfl, Or.inl ⟨ini_45, by decide⟩, Nat.le_of_ble_eq_true rfl, Or.inl ⟨_, _, _, rfl⟩, nmh_45⟩
theorem np_X31_end : npar (mNm 146321762).desc = some 1 := by decide +kernel
theorem im_X31_end : Cond.instanceMethod (mNm 146321762) ∈ lw_all := lw_g (lw_at lw_m12 103 rfl) rfl
theorem mok_X31_behind : MOK 146583907 := ⟨lw_g (lw_at lw_m13 104 rfl) rfl, Or.inl ⟨ini_45, by decide⟩, Nat.le_of_ble_eq_true rfl, Or.inl ⟨_, _, _, rfl⟩, nmh_45⟩
theorem np_X31_behind : npar (mNm 146583907).desc = some 2 := by decide +kernel
theorem im_X31_behind : Cond.instanceMethod (mNm 146583907) ∈ lw_all := lw_g (lw_at lw_m13 103 rfl) rfl
theorem mok_X31_isChoice : MOK 146846050 := ⟨lw_g (lw_at lw_m13 109 rfl) rfl, Or.inl ⟨ini_45, by decide⟩, Nat.le_of_ble_eq_true rfl, Or.inl ⟨_, _, _, rfl⟩, nmh_45⟩
theorem np_X31_isChoice : npar (mNm 146846050).desc = some 1 := by decide +kernel
theorem im_X31_isChoice : Cond.instanceMethod (mNm 146846050) ∈ lw_all := lw_g (lw_at lw_m13 108 rfl) rfl
theorem mok_X31_before : MOK 147108195 := ⟨lw_g (lw_at lw_m14 89 rfl) rfl, Or.inl ⟨ini_45, by decide⟩, Nat.le_of_ble_eq_true rfl, Or.inl ⟨_, _, _, rfl⟩, nmh_45⟩
theorem np_X31_before : npar (mNm 147108195).desc = some 2 := by decide +kernel
theorem im_X31_before : Cond.instanceMethod (mNm 147108195) ∈ lw_all := lw_g (lw_at lw_m14 88 rfl) rfl
theorem mok_X31_kind : MOK 147370337 := ⟨lw_g (lw_at lw_m15 34 rfl) rfl, Or.inl ⟨ini_45, by decide⟩, Nat.le_of_ble_eq_true rfl, Or.inl ⟨_, _, _, rfl⟩, nmh_45⟩
theorem np_X31_kind : npar (mNm 147370337).desc = some 0 := by decide +kernel
theorem im_X31_kind : Cond.instanceMethod (mNm 147370337) ∈ lw_all := lw_g (lw_at lw_m15 33 rfl) rfl
theorem mok_X31_work : MOK 147632483 := ⟨lw_g (lw_at lw_m17 234 rfl) rfl, Or.inl ⟨ini_45, by decide⟩, Nat.le_of_ble_eq_true rfl, Or.inl ⟨_, _, _, rfl⟩, nmh_45⟩
theorem np_X31_work : npar (mNm 147632483).desc = some 2 := by decide +kernel
theorem im_X31_work : Cond.instanceMethod (mNm 147632483) ∈ lw_all := lw_g (lw_at lw_m17 233 rfl) rfl
theorem mok_X31_choose : MOK 147894627 := ⟨lw_g (lw_at lw_m17 239 rfl) rfl, Or.inl ⟨ini_45, by decide⟩, Nat.le_of_ble_eq_true rfl, Or.inl ⟨_, _, _, rfl⟩, nmh_45⟩
theorem np_X31_choose : npar (mNm 147894627).desc = some 2 := by decide +kernel
theorem im_X31_choose : Cond.instanceMethod (mNm 147894627) ∈ lw_all := lw_g (lw_at lw_m17 238 rfl) rfl
theorem mok_X31_choice : MOK 148156771 := ⟨lw_g (lw_at lw_m18 4 rfl) rfl, Or.inl ⟨ini_45, by decide⟩, Nat.le_of_ble_eq_true rfl, Or.inl ⟨_, _, _, rfl⟩, nmh_45⟩
theorem np_X31_choice : npar (mNm 148156771).desc = some 2 := by decide +kernel
theorem im_X31_choice : Cond.instanceMethod (mNm 148156771) ∈ lw_all := lw_g (lw_at lw_m18 3 rfl) rfl
theorem mok_X31_takes : MOK 148373507 := ⟨lw_g (lw_at lw_m18 10 rfl) rfl, Or.inl ⟨ini_45, by decide⟩, Nat.le_of_ble_eq_true rfl, Or.inl ⟨_, _, _, rfl⟩, nmh_45⟩
theorem np_X31_takes : npar (mNm 148373507).desc = some 3 := by decide +kernel
theorem sm_X31_takes : Cond.static (mNm 148373507) ∈ lw_all := lw_g (lw_at lw_m18 9 rfl) rfl
theorem mok_X32_init : MOK 148674867 := ⟨lw_g (lw_at lw_m9 181 rfl) rfl, Or.inl ⟨ini_4, by decide⟩, Nat.le_of_ble_eq_true rfl, Or.inl ⟨_, _, _, rfl⟩, nmh_4⟩
theorem np_X32_init : npar (mNm 148674867).desc = some 2 := by decide +kernel
theorem im_X32_init : Cond.instanceMethod (mNm 148674867) ∈ lw_all := lw_g (lw_at lw_m9 180 rfl) rfl
theorem mok_X32_ends : MOK 148937009 := ⟨lw_g (lw_at lw_m12 32 rfl) rfl, Or.inl ⟨ini_4, by decide⟩, Nat.le_of_ble_eq_true rfl, Or.inl ⟨_, _, _, rfl⟩, nmh_4⟩
theorem np_X32_ends : npar (mNm 148937009).desc = some 0 := by decide +kernel
theorem im_X32_ends : Cond.instanceMethod (mNm 148937009) ∈ lw_all := lw_g (lw_at lw_m12 31 rfl) rfl
theorem mok_X32_end : MOK 149199154 := ⟨lw_g (lw_at lw_m12 71 rfl) rfl, Or.inl ⟨ini_4, by decide⟩, Nat.le_of_ble_eq_true rfl, Or.inl ⟨_, _, _, rfl⟩, nmh_4⟩
theorem np_X32_end : npar (mNm 149199154).desc = some 1 := by decide +kernel
theorem im_X32_end : Cond.instanceMethod (mNm 149199154) ∈ lw_all := lw_g (lw_at lw_m12 70 rfl) rfl
theorem mok_X32_behind : MOK 149461299 := ⟨lw_g (lw_at lw_m13 11 rfl) rfl, Or.inl ⟨ini_4, by decide⟩, Nat.le_of_ble_eq_true rfl, Or.inl ⟨_, _, _, rfl⟩, nmh_4⟩
theorem np_X32_behind : npar (mNm 149461299).desc = some 2 := by decide +kernel
theorem im_X32_behind : Cond.instanceMethod (mNm 149461299) ∈ lw_all := lw_g (lw_at lw_m13 10 rfl) rfl
theorem mok_X32_kind : MOK 149723441 := ⟨lw_g (lw_at lw_m14 211 rfl) rfl, Or.inl ⟨ini_4, by decide⟩, Nat.le_of_ble_eq_true rfl, Or.inl ⟨_, _, _, rfl⟩, nmh_4⟩
theorem np_X32_kind : npar (mNm 149723441).desc = some 0 := by decide +kernel
theorem im_X32_kind : Cond.instanceMethod (mNm 149723441) ∈ lw_all := lw_g (lw_at lw_m14 210 rfl) rfl
theorem mok_X32_work : MOK 149985587 := ⟨lw_g (lw_at lw_m16 108 rfl) rfl, Or.inl ⟨ini_4, by decide⟩, Nat.le_of_ble_eq_true rfl, Or.inl ⟨_, _, _, rfl⟩, nmh_4⟩
theorem np_X32_work : npar (mNm 149985587).desc = some 2 := by decide +kernel
theorem im_X32_work : Cond.instanceMethod (mNm 149985587) ∈ lw_all := lw_g (lw_at lw_m16 107 rfl) rfl
theorem mok_X33_init : MOK 150268370 := ⟨lw_g (lw_at lw_m9 219 rfl) rfl, Or.inl ⟨ini_33, by decide⟩, Nat.le_of_ble_eq_true rfl, Or.inl ⟨_, _, _, rfl⟩, nmh_33⟩
theorem np_X33_init : npar (mNm 150268370).desc = some 1 := by decide +kernel
theorem im_X33_init : Cond.instanceMethod (mNm 150268370) ∈ lw_all := lw_g (lw_at lw_m9 218 rfl) rfl
theorem mok_X33_judged : MOK 150530514 := ⟨lw_g (lw_at lw_m14 17 rfl) rfl, Or.inl ⟨ini_33, by decide⟩, Nat.le_of_ble_eq_true rfl, Or.inl ⟨_, _, _, rfl⟩, nmh_33⟩
theorem np_X33_judged : npar (mNm 150530514).desc = some 1 := by decide +kernel
theorem im_X33_judged : Cond.instanceMethod (mNm 150530514) ∈ lw_all := lw_g (lw_at lw_m14 16 rfl) rfl
theorem mok_X33_kind : MOK 150792657 := ⟨lw_g (lw_at lw_m15 10 rfl) rfl, Or.inl ⟨ini_33, by decide⟩, Nat.le_of_ble_eq_true rfl, Or.inl ⟨_, _, _, rfl⟩, nmh_33⟩
theorem np_X33_kind : npar (mNm 150792657).desc = some 0 := by decide +kernel
theorem im_X33_kind : Cond.instanceMethod (mNm 150792657) ∈ lw_all := lw_g (lw_at lw_m15 9 rfl) rfl
theorem mok_X33_work : MOK 151054803 := ⟨lw_g (lw_at lw_m17 128 rfl) rfl, Or.inl ⟨ini_33, by decide⟩, Nat.le_of_ble_eq_true rfl, Or.inl ⟨_, _, _, rfl⟩, nmh_33⟩
theorem np_X33_work : npar (mNm 151054803).desc = some 2 := by decide +kernel
theorem im_X33_work : Cond.instanceMethod (mNm 151054803) ∈ lw_all := lw_g (lw_at lw_m17 127 rfl) rfl
theorem mok_X34_init : MOK 151310758 := ⟨lw_g (lw_at lw_m10 16 rfl) rfl, Or.inl ⟨ini_19, by decide⟩, Nat.le_of_ble_eq_true rfl, Or.inl ⟨_, _, _, rfl⟩, nmh_19⟩
theorem np_X34_init : npar (mNm 151310758).desc = some 5 := by decide +kernel
theorem im_X34_init : Cond.instanceMethod (mNm 151310758) ∈ lw_all := lw_g (lw_at lw_m10 15 rfl) rfl
theorem mok_X34_enter : MOK 151572898 := ⟨lw_g (lw_at lw_m11 75 rfl) rfl, Or.inl ⟨ini_19, by decide⟩, Nat.le_of_ble_eq_true rfl, Or.inl ⟨_, _, _, rfl⟩, nmh_19⟩
theorem np_X34_enter : npar (mNm 151572898).desc = some 1 := by decide +kernel
theorem im_X34_enter : Cond.instanceMethod (mNm 151572898) ∈ lw_all := lw_g (lw_at lw_m11 74 rfl) rfl
theorem mok_X34_behind : MOK 151835043 := ⟨lw_g (lw_at lw_m13 47 rfl) rfl, Or.inl ⟨ini_19, by decide⟩, Nat.le_of_ble_eq_true rfl, Or.inl ⟨_, _, _, rfl⟩, nmh_19⟩
theorem np_X34_behind : npar (mNm 151835043).desc = some 2 := by decide +kernel
theorem im_X34_behind : Cond.instanceMethod (mNm 151835043) ∈ lw_all := lw_g (lw_at lw_m13 46 rfl) rfl
theorem mok_X34_numbers : MOK 152097185 := ⟨lw_g (lw_at lw_m13 51 rfl) rfl, Or.inl ⟨ini_19, by decide⟩, Nat.le_of_ble_eq_true rfl, Or.inl ⟨_, _, _, rfl⟩, nmh_19⟩
theorem np_X34_numbers : npar (mNm 152097185).desc = some 0 := by decide +kernel
theorem im_X34_numbers : Cond.instanceMethod (mNm 152097185) ∈ lw_all := lw_g (lw_at lw_m13 50 rfl) rfl
theorem mok_X34_judged : MOK 152359330 := ⟨lw_g (lw_at lw_m14 10 rfl) rfl, Or.inl ⟨ini_19, by decide⟩, Nat.le_of_ble_eq_true rfl, Or.inl ⟨_, _, _, rfl⟩, nmh_19⟩
theorem np_X34_judged : npar (mNm 152359330).desc = some 1 := by decide +kernel
theorem im_X34_judged : Cond.instanceMethod (mNm 152359330) ∈ lw_all := lw_g (lw_at lw_m14 9 rfl) rfl
theorem mok_X34_before : MOK 152621475 := ⟨lw_g (lw_at lw_m14 73 rfl) rfl, Or.inl ⟨ini_19, by decide⟩, Nat.le_of_ble_eq_true rfl, Or.inl ⟨_, _, _, rfl⟩, nmh_19⟩
theorem np_X34_before : npar (mNm 152621475).desc = some 2 := by decide +kernel
theorem im_X34_before : Cond.instanceMethod (mNm 152621475) ∈ lw_all := lw_g (lw_at lw_m14 72 rfl) rfl
theorem mok_X34_kind : MOK 152883617 := ⟨lw_g (lw_at lw_m14 238 rfl) rfl, Or.inl ⟨ini_19, by decide⟩, Nat.le_of_ble_eq_true rfl, Or.inl ⟨_, _, _, rfl⟩, nmh_19⟩
theorem np_X34_kind : npar (mNm 152883617).desc = some 0 := by decide +kernel
theorem im_X34_kind : Cond.instanceMethod (mNm 152883617) ∈ lw_all := lw_g (lw_at lw_m14 237 rfl) rfl
theorem mok_X34_work : MOK 153145763 := ⟨lw_g (lw_at lw_m17 94 rfl) rfl, Or.inl ⟨ini_19, by decide⟩, Nat.le_of_ble_eq_true rfl, Or.inl ⟨_, _, _, rfl⟩, nmh_19⟩
theorem np_X34_work : npar (mNm 153145763).desc = some 2 := by decide +kernel
theorem im_X34_work : Cond.instanceMethod (mNm 153145763) ∈ lw_all := lw_g (lw_at lw_m17 93 rfl) rfl
theorem mok_X34_begin : MOK 153407907 := ⟨lw_g (lw_at lw_m17 99 rfl) rfl, Or.inl ⟨ini_19, by decide⟩, Nat.le_of_ble_eq_true rfl, Or.inl ⟨_, _, _, rfl⟩, nmh_19⟩
theorem np_X34_begin : npar (mNm 153407907).desc = some 2 := by decide +kernel
theorem im_X34_begin : Cond.instanceMethod (mNm 153407907) ∈ lw_all := lw_g (lw_at lw_m17 98 rfl) rfl
theorem mok_X34_hasWhile : MOK 153670049 := ⟨lw_g (lw_at lw_m17 110 rfl) rfl, Or.inl ⟨ini_19, by decide⟩, Nat.le_of_ble_eq_true rfl, Or.inl ⟨_, _, _, rfl⟩, nmh_19⟩
theorem np_X34_hasWhile : npar (mNm 153670049).desc = some 0 := by decide +kernel
theorem im_X34_hasWhile : Cond.instanceMethod (mNm 153670049) ∈ lw_all := lw_g (lw_at lw_m17 109 rfl) rfl
theorem mok_X35_init : MOK 153901234 := ⟨lw_g (lw_at lw_m10 52 rfl) rfl, Or.inl ⟨ini_1, by decide⟩, Nat.le_of_ble_eq_true rfl, Or.inl ⟨_, _, _, rfl⟩, nmh_1⟩
theorem np_X35_init : npar (mNm 153901234).desc = some 1 := by decide +kernel
theorem im_X35_init : Cond.instanceMethod (mNm 153901234) ∈ lw_all := lw_g (lw_at lw_m10 51 rfl) rfl
theorem mok_X35_behind : MOK 154163379 := ⟨lw_g (lw_at lw_m12 9 rfl) rfl, Or.inl ⟨ini_1, by decide⟩, Nat.le_of_ble_eq_true rfl, Or.inl ⟨_, _, _, rfl⟩, nmh_1⟩
theorem np_X35_behind : npar (mNm 154163379).desc = some 2 := by decide +kernel
theorem im_X35_behind : Cond.instanceMethod (mNm 154163379) ∈ lw_all := lw_g (lw_at lw_m12 8 rfl) rfl
theorem mok_X35_kind : MOK 154425521 := ⟨lw_g (lw_at lw_m14 205 rfl) rfl, Or.inl ⟨ini_1, by decide⟩, Nat.le_of_ble_eq_true rfl, Or.inl ⟨_, _, _, rfl⟩, nmh_1⟩
theorem np_X35_kind : npar (mNm 154425521).desc = some 0 := by decide +kernel
theorem im_X35_kind : Cond.instanceMethod (mNm 154425521) ∈ lw_all := lw_g (lw_at lw_m14 204 rfl) rfl
theorem mok_X35_work : MOK 154687667 := ⟨lw_g (lw_at lw_m15 230 rfl) rfl, Or.inl ⟨ini_1, by decide⟩, Nat.le_of_ble_eq_true rfl, Or.inl ⟨_, _, _, rfl⟩, nmh_1⟩
theorem np_X35_work : npar (mNm 154687667).desc = some 2 := by decide +kernel
theorem im_X35_work : Cond.instanceMethod (mNm 154687667) ∈ lw_all := lw_g (lw_at lw_m15 229 rfl) rfl
theorem mok_X36_init : MOK 154978707 := ⟨lw_g (lw_at lw_m10 71 rfl) rfl, Or.inl ⟨ini_16, by decide⟩, Nat.le_of_ble_eq_true rfl, Or.inl ⟨_, _, _, rfl⟩, nmh_16⟩
theorem np_X36_init : npar (mNm 154978707).desc = some 2 := by decide +kernel
theorem im_X36_init : Cond.instanceMethod (mNm 154978707) ∈ lw_all := lw_g (lw_at lw_m10 70 rfl) rfl
theorem mok_X36_judged : MOK 155240850 := ⟨lw_g (lw_at lw_m13 237 rfl) rfl, Or.inl ⟨ini_16, by decide⟩, Nat.le_of_ble_eq_true rfl, Or.inl ⟨_, _, _, rfl⟩, nmh_16⟩
theorem np_X36_judged : npar (mNm 155240850).desc = some 1 := by decide +kernel
theorem im_X36_judged : Cond.instanceMethod (mNm 155240850) ∈ lw_all := lw_g (lw_at lw_m13 236 rfl) rfl
theorem mok_X36_isAny : MOK 155451393 := ⟨lw_g (lw_at lw_m14 3 rfl) rfl, Or.inl ⟨ini_16, by decide⟩, Nat.le_of_ble_eq_true rfl, Or.inl ⟨_, _, _, rfl⟩, nmh_16⟩
theorem np_X36_isAny : npar (mNm 155451393).desc = some 1 := by decide +kernel
theorem sm_X36_isAny : Cond.static (mNm 155451393) ∈ lw_all := lw_g (lw_at lw_m14 2 rfl) rfl
theorem mok_X36_kind : MOK 155765137 := ⟨lw_g (lw_at lw_m14 235 rfl) rfl, Or.inl ⟨ini_16, by decide⟩, Nat.le_of_ble_eq_true rfl, Or.inl ⟨_, _, _, rfl⟩, nmh_16⟩
theorem np_X36_kind : npar (mNm 155765137).desc = some 0 := by decide +kernel
theorem im_X36_kind : Cond.instanceMethod (mNm 155765137) ∈ lw_all := lw_g (lw_at lw_m14 234 rfl) rfl
theorem mok_X36_work : MOK 156027283 := ⟨lw_g (lw_at lw_m17 87 rfl) rfl, Or.inl ⟨ini_16, by decide⟩, Nat.le_of_ble_eq_true rfl, Or.inl ⟨_, _, _, rfl⟩, nmh_16⟩
theorem np_X36_work : npar (mNm 156027283).desc = some 2 := by decide +kernel
theorem im_X36_work : Cond.instanceMethod (mNm 156027283) ∈ lw_all := lw_g (lw_at lw_m17 86 rfl) rfl
theorem mok_X37_init : MOK 156293554 := ⟨lw_g (lw_at lw_m10 97 rfl) rfl, Or.inl ⟨ini_24, by decide⟩, Nat.le_of_ble_eq_true rfl, Or.inl ⟨_, _, _, rfl⟩, nmh_24⟩
theorem np_X37_init : npar (mNm 156293554).desc = some 1 := by decide +kernel
theorem im_X37_init : Cond.instanceMethod (mNm 156293554) ∈ lw_all := lw_g (lw_at lw_m10 96 rfl) rfl
theorem mok_X37_comes : MOK 156555699 := ⟨lw_g (lw_at lw_m12 137 rfl) rfl, Or.inl ⟨ini_24, by decide⟩, Nat.le_of_ble_eq_true rfl, Or.inl ⟨_, _, _, rfl⟩, nmh_24⟩
theorem np_X37_comes : npar (mNm 156555699).desc = some 2 := by decide +kernel
theorem im_X37_comes : Cond.instanceMethod (mNm 156555699) ∈ lw_all := lw_g (lw_at lw_m12 136 rfl) rfl
theorem mok_X37_kind : MOK 156817841 := ⟨lw_g (lw_at lw_m15 1 rfl) rfl, Or.inl ⟨ini_24, by decide⟩, Nat.le_of_ble_eq_true rfl, Or.inl ⟨_, _, _, rfl⟩, nmh_24⟩
theorem np_X37_kind : npar (mNm 156817841).desc = some 0 := by decide +kernel
theorem im_X37_kind : Cond.instanceMethod (mNm 156817841) ∈ lw_all := lw_g (lw_at lw_m15 0 rfl) rfl
theorem mok_X37_work : MOK 157079987 := ⟨lw_g (lw_at lw_m17 113 rfl) rfl, Or.inl ⟨ini_24, by decide⟩, Nat.le_of_ble_eq_true rfl, Or.inl ⟨_, _, _, rfl⟩, nmh_24⟩
theorem np_X37_work : npar (mNm 157079987).desc = some 2 := by decide +kernel
theorem im_X37_work : Cond.instanceMethod (mNm 157079987) ∈ lw_all := lw_g (lw_at lw_m17 112 rfl) rfl
theorem mok_X38_init : MOK 157317363 := ⟨lw_g (lw_at lw_m10 151 rfl) rfl, Or.inl ⟨ini_26, by decide⟩, Nat.le_of_ble_eq_true rfl, Or.inl ⟨_, _, _, rfl⟩, nmh_26⟩
theorem np_X38_init : npar (mNm 157317363).desc = some 2 := by decide +kernel
theorem im_X38_init : Cond.instanceMethod (mNm 157317363) ∈ lw_all := lw_g (lw_at lw_m10 150 rfl) rfl
theorem mok_X38_declare : MOK 157579506 := ⟨lw_g (lw_at lw_m11 201 rfl) rfl, Or.inl ⟨ini_26, by decide⟩, Nat.le_of_ble_eq_true rfl, Or.inl ⟨_, _, _, rfl⟩, nmh_26⟩
theorem np_X38_declare : npar (mNm 157579506).desc = some 1 := by decide +kernel
theorem im_X38_declare : Cond.instanceMethod (mNm 157579506) ∈ lw_all := lw_g (lw_at lw_m11 200 rfl) rfl
theorem mok_X38_routine : MOK 157841649 := ⟨lw_g (lw_at lw_m13 168 rfl) rfl, Or.inl ⟨ini_26, by decide⟩, Nat.le_of_ble_eq_true rfl, Or.inl ⟨_, _, _, rfl⟩, nmh_26⟩
theorem np_X38_routine : npar (mNm 157841649).desc = some 0 := by decide +kernel
theorem im_X38_routine : Cond.instanceMethod (mNm 157841649) ∈ lw_all := lw_g (lw_at lw_m13 166 rfl) rfl
theorem mok_X38_kind : MOK 158103793 := ⟨lw_g (lw_at lw_m15 4 rfl) rfl, Or.inl ⟨ini_26, by decide⟩, Nat.le_of_ble_eq_true rfl, Or.inl ⟨_, _, _, rfl⟩, nmh_26⟩
theorem np_X38_kind : npar (mNm 158103793).desc = some 0 := by decide +kernel
theorem im_X38_kind : Cond.instanceMethod (mNm 158103793) ∈ lw_all := lw_g (lw_at lw_m15 3 rfl) rfl
theorem mok_X38_work : MOK 158365939 := ⟨lw_g (lw_at lw_m17 118 rfl) rfl, Or.inl ⟨ini_26, by decide⟩, Nat.le_of_ble_eq_true rfl, Or.inl ⟨_, _, _, rfl⟩, nmh_26⟩
theorem np_X38_work : npar (mNm 158365939).desc = some 2 := by decide +kernel
theorem im_X38_work : Cond.instanceMethod (mNm 158365939) ∈ lw_all := lw_g (lw_at lw_m17 117 rfl) rfl
theorem mok_X39_init : MOK 158630151 := ⟨lw_g (lw_at lw_m10 180 rfl) rfl, Or.inl ⟨ini_44, by decide⟩, Nat.le_of_ble_eq_true rfl, Or.inl ⟨_, _, _, rfl⟩, nmh_44⟩
theorem np_X39_init : npar (mNm 158630151).desc = some 6 := by decide +kernel
theorem im_X39_init : Cond.instanceMethod (mNm 158630151) ∈ lw_all := lw_g (lw_at lw_m10 179 rfl) rfl
theorem mok_X39_declare : MOK 158892290 := ⟨lw_g (lw_at lw_m11 217 rfl) rfl, Or.inl ⟨ini_44, by decide⟩, Nat.le_of_ble_eq_true rfl, Or.inl ⟨_, _, _, rfl⟩, nmh_44⟩
theorem np_X39_declare : npar (mNm 158892290).desc = some 1 := by decide +kernel
theorem im_X39_declare : Cond.instanceMethod (mNm 158892290) ∈ lw_all := lw_g (lw_at lw_m11 216 rfl) rfl
theorem mok_X39_behind : MOK 159154435 := ⟨lw_g (lw_at lw_m13 96 rfl) rfl, Or.inl ⟨ini_44, by decide⟩, Nat.le_of_ble_eq_true rfl, Or.inl ⟨_, _, _, rfl⟩, nmh_44⟩
theorem np_X39_behind : npar (mNm 159154435).desc = some 2 := by decide +kernel
theorem im_X39_behind : Cond.instanceMethod (mNm 159154435) ∈ lw_all := lw_g (lw_at lw_m13 95 rfl) rfl
theorem mok_X39_kind : MOK 159416577 := ⟨lw_g (lw_at lw_m15 31 rfl) rfl, Or.inl ⟨ini_44, by decide⟩, Nat.le_of_ble_eq_true rfl, Or.inl ⟨_, _, _, rfl⟩, nmh_44⟩
theorem np_X39_kind : npar (mNm 159416577).desc = some 0 := by decide +kernel
theorem im_X39_kind : Cond.instanceMethod (mNm 159416577) ∈ lw_all := lw_g (lw_at lw_m15 30 rfl) rfl
theorem mok_X39_work : MOK 159678723 := ⟨lw_g (lw_at lw_m17 220 rfl) rfl, Or.inl ⟨ini_44, by decide⟩, Nat.le_of_ble_eq_true rfl, Or.inl ⟨_, _, _, rfl⟩, nmh_44⟩
theorem np_X39_work : npar (mNm 159678723).desc = some 2 := by decide +kernel
theorem im_X39_work : Cond.instanceMethod (mNm 159678723) ∈ lw_all := lw_g (lw_at lw_m17 219 rfl) rfl
theorem mok_X39_hasUnit : MOK 159940865 := ⟨lw_g (lw_at lw_m17 226 rfl) rfl, Or.inl ⟨ini_44, by decide⟩, Nat.le_of_ble_eq_true rfl, Or.inl ⟨_, _, _, rfl⟩, nmh_44⟩
theorem np_X39_hasUnit : npar (mNm 159940865).desc = some 0 := by decide +kernel
theorem im_X39_hasUnit : Cond.instanceMethod (mNm 159940865) ∈ lw_all := lw_g (lw_at lw_m17 225 rfl) rfl
theorem mok_X40_init : MOK 160254611 := ⟨lw_g (lw_at lw_m11 98 rfl) rfl, Or.inl ⟨ini_37, by decide⟩, Nat.le_of_ble_eq_true rfl, Or.inl ⟨_, _, _, rfl⟩, nmh_37⟩
theorem np_X40_init : npar (mNm 160254611).desc = some 2 := by decide +kernel
theorem im_X40_init : Cond.instanceMethod (mNm 160254611) ∈ lw_all := lw_g (lw_at lw_m11 97 rfl) rfl
theorem mok_X40_find : MOK 160516754 := ⟨lw_g (lw_at lw_m11 133 rfl) rfl, Or.inl ⟨ini_37, by decide⟩, Nat.le_of_ble_eq_true rfl, Or.inl ⟨_, _, _, rfl⟩, nmh_37⟩
theorem np_X40_find : npar (mNm 160516754).desc = some 1 := by decide +kernel
theorem im_X40_find : Cond.instanceMethod (mNm 160516754) ∈ lw_all := lw_g (lw_at lw_m11 131 rfl) rfl
theorem mok_X40_room : MOK 160778897 := ⟨lw_g (lw_at lw_m11 152 rfl) rfl, Or.inl ⟨ini_37, by decide⟩, Nat.le_of_ble_eq_true rfl, Or.inl ⟨_, _, _, rfl⟩, nmh_37⟩
theorem np_X40_room : npar (mNm 160778897).desc = some 0 := by decide +kernel
theorem im_X40_room : Cond.instanceMethod (mNm 160778897) ∈ lw_all := lw_g (lw_at lw_m11 150 rfl) rfl
theorem mok_X41_init : MOK 160972916 := ⟨lw_g (lw_at lw_m11 147 rfl) rfl, Or.inl ⟨ini_21, by decide⟩, Nat.le_of_ble_eq_true rfl, Or.inl ⟨_, _, _, rfl⟩, nmh_21⟩
theorem np_X41_init : npar (mNm 160972916).desc = some 3 := by decide +kernel
theorem im_X41_init : Cond.instanceMethod (mNm 160972916) ∈ lw_all := lw_g (lw_at lw_m11 146 rfl) rfl
theorem mok_X42_init : MOK 161235076 := ⟨lw_g (lw_at lw_m11 206 rfl) rfl, Or.inl ⟨ini_27, by decide⟩, Nat.le_of_ble_eq_true rfl, Or.inl ⟨_, _, _, rfl⟩, nmh_27⟩
theorem np_X42_init : npar (mNm 161235076).desc = some 3 := by decide +kernel
theorem im_X42_init : Cond.instanceMethod (mNm 161235076) ∈ lw_all := lw_g (lw_at lw_m11 205 rfl) rfl
theorem mok_X43_init : MOK 161561202 := ⟨lw_g (lw_at lw_m14 103 rfl) rfl, Or.inl ⟨ini_34, by decide⟩, Nat.le_of_ble_eq_true rfl, Or.inl ⟨_, _, _, rfl⟩, nmh_34⟩
theorem np_X43_init : npar (mNm 161561202).desc = some 1 := by decide +kernel
theorem im_X43_init : Cond.instanceMethod (mNm 161561202) ∈ lw_all := lw_g (lw_at lw_m14 102 rfl) rfl
theorem mok_X44_init : MOK 161749041 := ⟨lw_g (lw_at lw_m15 143 rfl) rfl, Or.inl ⟨ini_12, by decide⟩, Nat.le_of_ble_eq_true rfl, Or.inl ⟨_, _, _, rfl⟩, nmh_12⟩
theorem np_X44_init : npar (mNm 161749041).desc = some 0 := by decide +kernel
theorem im_X44_init : Cond.instanceMethod (mNm 161749041) ∈ lw_all := lw_g (lw_at lw_m15 142 rfl) rfl
theorem mok_X44_begin : MOK 162011186 := ⟨lw_g (lw_at lw_m15 224 rfl) rfl, Or.inl ⟨ini_12, by decide⟩, Nat.le_of_ble_eq_true rfl, Or.inl ⟨_, _, _, rfl⟩, nmh_12⟩
theorem np_X44_begin : npar (mNm 162011186).desc = some 1 := by decide +kernel
theorem im_X44_begin : Cond.instanceMethod (mNm 162011186) ∈ lw_all := lw_g (lw_at lw_m15 222 rfl) rfl
theorem mok_X45_init : MOK 162345569 := ⟨lw_g (lw_at lw_m16 34 rfl) rfl, Or.inl ⟨ini_31, by decide⟩, Nat.le_of_ble_eq_true rfl, Or.inl ⟨_, _, _, rfl⟩, nmh_31⟩
theorem np_X45_init : npar (mNm 162345569).desc = some 0 := by decide +kernel
theorem im_X45_init : Cond.instanceMethod (mNm 162345569) ∈ lw_all := lw_g (lw_at lw_m16 33 rfl) rfl
theorem mok_X45_add : MOK 162607714 := ⟨lw_g (lw_at lw_m16 77 rfl) rfl, Or.inl ⟨ini_31, by decide⟩, Nat.le_of_ble_eq_true rfl, Or.inl ⟨_, _, _, rfl⟩, nmh_31⟩
theorem np_X45_add : npar (mNm 162607714).desc = some 1 := by decide +kernel
theorem im_X45_add : Cond.instanceMethod (mNm 162607714) ∈ lw_all := lw_g (lw_at lw_m16 75 rfl) rfl
theorem mok_X45_part : MOK 162869858 := ⟨lw_g (lw_at lw_m17 154 rfl) rfl, Or.inl ⟨ini_31, by decide⟩, Nat.le_of_ble_eq_true rfl, Or.inl ⟨_, _, _, rfl⟩, nmh_31⟩
theorem np_X45_part : npar (mNm 162869858).desc = some 1 := by decide +kernel
theorem im_X45_part : Cond.instanceMethod (mNm 162869858) ∈ lw_all := lw_g (lw_at lw_m17 152 rfl) rfl
theorem mok_X46_init : MOK 163140257 := ⟨lw_g (lw_at lw_m16 124 rfl) rfl, Or.inl ⟨ini_43, by decide⟩, Nat.le_of_ble_eq_true rfl, Or.inl ⟨_, _, _, rfl⟩, nmh_43⟩
theorem np_X46_init : npar (mNm 163140257).desc = some 0 := by decide +kernel
theorem im_X46_init : Cond.instanceMethod (mNm 163140257) ∈ lw_all := lw_g (lw_at lw_m16 123 rfl) rfl
theorem mok_X46_clear : MOK 163402402 := ⟨lw_g (lw_at lw_m16 213 rfl) rfl, Or.inl ⟨ini_43, by decide⟩, Nat.le_of_ble_eq_true rfl, Or.inl ⟨_, _, _, rfl⟩, nmh_43⟩
theorem np_X46_clear : npar (mNm 163402402).desc = some 1 := by decide +kernel
theorem im_X46_clear : Cond.instanceMethod (mNm 163402402) ∈ lw_all := lw_g (lw_at lw_m16 211 rfl) rfl
theorem mok_X46_add : MOK 163664546 := ⟨lw_g (lw_at lw_m16 234 rfl) rfl, Or.inl ⟨ini_43, by decide⟩, Nat.le_of_ble_eq_true rfl, Or.inl ⟨_, _, _, rfl⟩, nmh_43⟩
theorem np_X46_add : npar (mNm 163664546).desc = some 1 := by decide +kernel
theorem im_X46_add : Cond.instanceMethod (mNm 163664546) ∈ lw_all := lw_g (lw_at lw_m16 232 rfl) rfl
theorem mok_X46_part : MOK 163926690 := ⟨lw_g (lw_at lw_m17 161 rfl) rfl, Or.inl ⟨ini_43, by decide⟩, Nat.le_of_ble_eq_true rfl, Or.inl ⟨_, _, _, rfl⟩, nmh_43⟩
theorem np_X46_part : npar (mNm 163926690).desc = some 1 := by decide +kernel
theorem im_X46_part : Cond.instanceMethod (mNm 163926690) ∈ lw_all := lw_g (lw_at lw_m17 159 rfl) rfl
theorem mok_X47_is : MOK 164174386 := ⟨lw_g (lw_at lw_m18 69 rfl) rfl, Or.inl ⟨ini_28, by decide⟩, Nat.le_of_ble_eq_true rfl, Or.inl ⟨_, _, _, rfl⟩, nmh_28⟩
theorem np_X47_is : npar (mNm 164174386).desc = some 1 := by decide +kernel
theorem im_X47_is : Cond.instanceMethod (mNm 164174386) ∈ lw_all := lw_g (lw_at lw_m18 67 rfl) rfl
theorem mok_X47_init : MOK 164436530 := ⟨lw_g (lw_at lw_m18 73 rfl) rfl, Or.inl ⟨ini_28, by decide⟩, Nat.le_of_ble_eq_true rfl, Or.inl ⟨_, _, _, rfl⟩, nmh_28⟩
theorem np_X47_init : npar (mNm 164436530).desc = some 1 := by decide +kernel
theorem im_X47_init : Cond.instanceMethod (mNm 164436530) ∈ lw_all := lw_g (lw_at lw_m18 72 rfl) rfl
theorem mok_J6_init : MOK 164725505 := ⟨lw_g (lw_at lw_m1 190 rfl) rfl, Or.inl ⟨ini_65, by decide⟩, Nat.le_of_ble_eq_true rfl, Or.inl ⟨_, _, _, rfl⟩, nmh_65⟩
theorem np_J6_init : npar (mNm 164725505).desc = some 0 := by decide +kernel
theorem im_J6_init : Cond.instanceMethod (mNm 164725505) ∈ lw_all := lw_g (lw_at lw_m1 189 rfl) rfl
theorem mok_J6_init_2 : MOK 164987650 := ⟨lw_g (lw_at lw_m2 14 rfl) rfl, Or.inl ⟨ini_65, by decide⟩, Nat.le_of_ble_eq_true rfl, Or.inl ⟨_, _, _, rfl⟩, nmh_65⟩
theorem np_J6_init_2 : npar (mNm 164987650).desc = some 1 := by decide +kernel
theorem im_J6_init_2 : Cond.instanceMethod (mNm 164987650) ∈ lw_all := lw_g (lw_at lw_m2 13 rfl) rfl
theorem mok_J6_size : MOK 165249793 := ⟨lw_g (lw_at lw_m4 168 rfl) rfl, Or.inl ⟨ini_65, by decide⟩, Nat.le_of_ble_eq_true rfl, Or.inl ⟨_, _, _, rfl⟩, nmh_65⟩
theorem np_J6_size : npar (mNm 165249793).desc = some 0 := by decide +kernel
theorem im_J6_size : Cond.instanceMethod (mNm 165249793) ∈ lw_all := lw_g (lw_at lw_m4 166 rfl) rfl
theorem mok_J6_clear : MOK 165511937 := ⟨lw_g (lw_at lw_m4 176 rfl) rfl, Or.inl ⟨ini_65, by decide⟩, Nat.le_of_ble_eq_true rfl, Or.inl ⟨_, _, _, rfl⟩, nmh_65⟩
theorem np_J6_clear : npar (mNm 165511937).desc = some 0 := by decide +kernel
theorem im_J6_clear : Cond.instanceMethod (mNm 165511937) ∈ lw_all := lw_g (lw_at lw_m4 174 rfl) rfl
theorem mok_J6_add : MOK 165774082 := ⟨lw_g (lw_at lw_m6 45 rfl) rfl, Or.inl ⟨ini_65, by decide⟩, Nat.le_of_ble_eq_true rfl, Or.inl ⟨_, _, _, rfl⟩, nmh_65⟩
theorem np_J6_add : npar (mNm 165774082).desc = some 1 := by decide +kernel
theorem im_J6_add : Cond.instanceMethod (mNm 165774082) ∈ lw_all := lw_g (lw_at lw_m6 43 rfl) rfl
theorem mok_J6_add_2 : MOK 166036228 := ⟨lw_g (lw_at lw_m6 49 rfl) rfl, Or.inl ⟨ini_65, by decide⟩, Nat.le_of_ble_eq_true rfl, Or.inl ⟨_, _, _, rfl⟩, nmh_65⟩
theorem np_J6_add_2 : npar (mNm 166036228).desc = some 3 := by decide +kernel
theorem im_J6_add_2 : Cond.instanceMethod (mNm 166036228) ∈ lw_all := lw_g (lw_at lw_m6 48 rfl) rfl
theorem mok_J6_grow : MOK 166298369 := ⟨lw_g (lw_at lw_m6 53 rfl) rfl, Or.inl ⟨ini_65, by decide⟩, Nat.le_of_ble_eq_true rfl, Or.inl ⟨_, _, _, rfl⟩, nmh_65⟩
theorem np_J6_grow : npar (mNm 166298369).desc = some 0 := by decide +kernel
theorem im_J6_grow : Cond.instanceMethod (mNm 166298369) ∈ lw_all := lw_g (lw_at lw_m6 52 rfl) rfl
theorem mok_J6_grow_2 : MOK 166560514 := ⟨lw_g (lw_at lw_m6 57 rfl) rfl, Or.inl ⟨ini_65, by decide⟩, Nat.le_of_ble_eq_true rfl, Or.inl ⟨_, _, _, rfl⟩, nmh_65⟩
theorem np_J6_grow_2 : npar (mNm 166560514).desc = some 1 := by decide +kernel
theorem im_J6_grow_2 : Cond.instanceMethod (mNm 166560514) ∈ lw_all := lw_g (lw_at lw_m6 56 rfl) rfl
theorem mok_J6_get : MOK 166822658 := ⟨lw_g (lw_at lw_m7 80 rfl) rfl, Or.inl ⟨ini_65, by decide⟩, Nat.le_of_ble_eq_true rfl, Or.inl ⟨_, _, _, rfl⟩, nmh_65⟩
theorem np_J6_get : npar (mNm 166822658).desc = some 1 := by decide +kernel
theorem im_J6_get : Cond.instanceMethod (mNm 166822658) ∈ lw_all := lw_g (lw_at lw_m7 78 rfl) rfl
theorem mok_J6_elementData : MOK 167084802 := ⟨lw_g (lw_at lw_m7 88 rfl) rfl, Or.inl ⟨ini_65, by decide⟩, Nat.le_of_ble_eq_true rfl, Or.inl ⟨_, _, _, rfl⟩, nmh_65⟩
theorem np_J6_elementData : npar (mNm 167084802).desc = some 1 := by decide +kernel
theorem im_J6_elementData : Cond.instanceMethod (mNm 167084802) ∈ lw_all := lw_g (lw_at lw_m7 86 rfl) rfl
theorem mok_J6_contains : MOK 167346946 := ⟨lw_g (lw_at lw_m7 115 rfl) rfl, Or.inl ⟨ini_65, by decide⟩, Nat.le_of_ble_eq_true rfl, Or.inl ⟨_, _, _, rfl⟩, nmh_65⟩
theorem np_J6_contains : npar (mNm 167346946).desc = some 1 := by decide +kernel
theorem im_J6_contains : Cond.instanceMethod (mNm 167346946) ∈ lw_all := lw_g (lw_at lw_m7 113 rfl) rfl
theorem mok_J6_indexOf : MOK 167609090 := ⟨lw_g (lw_at lw_m7 119 rfl) rfl, Or.inl ⟨ini_65, by decide⟩, Nat.le_of_ble_eq_true rfl, Or.inl ⟨_, _, _, rfl⟩, nmh_65⟩
theorem np_J6_indexOf : npar (mNm 167609090).desc = some 1 := by decide +kernel
theorem im_J6_indexOf : Cond.instanceMethod (mNm 167609090) ∈ lw_all := lw_g (lw_at lw_m7 117 rfl) rfl
theorem mok_J6_indexOfRange : MOK 167871236 := ⟨lw_g (lw_at lw_m7 123 rfl) rfl, Or.inl ⟨ini_65, by decide⟩, Nat.le_of_ble_eq_true rfl, Or.inl ⟨_, _, _, rfl⟩, nmh_65⟩
theorem np_J6_indexOfRange : npar (mNm 167871236).desc = some 3 := by decide +kernel
theorem im_J6_indexOfRange : Cond.instanceMethod (mNm 167871236) ∈ lw_all := lw_g (lw_at lw_m7 121 rfl) rfl
theorem mok_J6_remove : MOK 168133378 := ⟨lw_g (lw_at lw_m8 145 rfl) rfl, Or.inl ⟨ini_65, by decide⟩, Nat.le_of_ble_eq_true rfl, Or.inl ⟨_, _, _, rfl⟩, nmh_65⟩
theorem np_J6_remove : npar (mNm 168133378).desc = some 1 := by decide +kernel
theorem im_J6_remove : Cond.instanceMethod (mNm 168133378) ∈ lw_all := lw_g (lw_at lw_m8 143 rfl) rfl
theorem mok_J6_fastRemove : MOK 168395523 := ⟨lw_g (lw_at lw_m8 149 rfl) rfl, Or.inl ⟨ini_65, by decide⟩, Nat.le_of_ble_eq_true rfl, Or.inl ⟨_, _, _, rfl⟩, nmh_65⟩
theorem np_J6_fastRemove : npar (mNm 168395523).desc = some 2 := by decide +kernel
theorem im_J6_fastRemove : Cond.instanceMethod (mNm 168395523) ∈ lw_all := lw_g (lw_at lw_m8 148 rfl) rfl
theorem mok_J6_addAll : MOK 168657666 := ⟨lw_g (lw_at lw_m9 201 rfl) rfl, Or.inl ⟨ini_65, by decide⟩, Nat.le_of_ble_eq_true rfl, Or.inl ⟨_, _, _, rfl⟩, nmh_65⟩
theorem np_J6_addAll : npar (mNm 168657666).desc = some 1 := by decide +kernel
theorem im_J6_addAll : Cond.instanceMethod (mNm 168657666) ∈ lw_all := lw_g (lw_at lw_m9 199 rfl) rfl
theorem mok_J6_toArray : MOK 168919809 := ⟨lw_g (lw_at lw_m9 211 rfl) rfl, Or.inl ⟨ini_65, by decide⟩, Nat.le_of_ble_eq_true rfl, Or.inl ⟨_, _, _, rfl⟩, nmh_65⟩
theorem np_J6_toArray : npar (mNm 168919809).desc = some 0 := by decide +kernel
theorem im_J6_toArray : Cond.instanceMethod (mNm 168919809) ∈ lw_all := lw_g (lw_at lw_m9 209 rfl) rfl
theorem mok_J5_init : MOK 169181953 := ⟨lw_g (lw_at lw_m1 193 rfl) rfl, Or.inl ⟨ini_64, by decide⟩, Nat.le_of_ble_eq_true rfl, Or.inl ⟨_, _, _, rfl⟩, nmh_64⟩
theorem np_J5_init : npar (mNm 169181953).desc = some 0 := by decide +kernel
theorem im_J5_init : Cond.instanceMethod (mNm 169181953) ∈ lw_all := lw_g (lw_at lw_m1 192 rfl) rfl
theorem mok_J4_init : MOK 169444097 := ⟨lw_g (lw_at lw_m1 196 rfl) rfl, Or.inl ⟨ini_63, by decide⟩, Nat.le_of_ble_eq_true rfl, Or.inl ⟨_, _, _, rfl⟩, nmh_63⟩
theorem np_J4_init : npar (mNm 169444097).desc = some 0 := by decide +kernel
theorem im_J4_init : Cond.instanceMethod (mNm 169444097) ∈ lw_all := lw_g (lw_at lw_m1 195 rfl) rfl
theorem mok_J16_init : MOK 169714449 := ⟨lw_g (lw_at lw_m6 36 rfl) rfl, Or.inl ⟨ini_56, by decide⟩, Nat.le_of_ble_eq_true rfl, Or.inl ⟨_, _, _, rfl⟩, nmh_56⟩
theorem np_J16_init : npar (mNm 169714449).desc = some 0 := by decide +kernel
theorem im_J16_init : Cond.instanceMethod (mNm 169714449) ∈ lw_all := lw_g (lw_at lw_m6 35 rfl) rfl
theorem mok_J17_valueOf : MOK 169869313 := ⟨lw_g (lw_at lw_m6 129 rfl) rfl, Or.inl ⟨ini_53, by decide⟩, Nat.le_of_ble_eq_true rfl, Or.inl ⟨_, _, _, rfl⟩, nmh_53⟩
theorem np_J17_valueOf : npar (mNm 169869313).desc = some 1 := by decide +kernel
theorem sm_J17_valueOf : Cond.static (mNm 169869313) ∈ lw_all := lw_g (lw_at lw_m6 128 rfl) rfl
theorem mok_J17_init : MOK 170234642 := ⟨lw_g (lw_at lw_m6 138 rfl) rfl, Or.inl ⟨ini_53, by decide⟩, Nat.le_of_ble_eq_true rfl, Or.inl ⟨_, _, _, rfl⟩, nmh_53⟩
theorem np_J17_init : npar (mNm 170234642).desc = some 1 := by decide +kernel
theorem im_J17_init : Cond.instanceMethod (mNm 170234642) ∈ lw_all := lw_g (lw_at lw_m6 137 rfl) rfl
theorem mok_J17_intValue : MOK 170496785 := ⟨lw_g (lw_at lw_m7 193 rfl) rfl, Or.inl ⟨ini_53, by decide⟩, Nat.le_of_ble_eq_true rfl, Or.inl ⟨_, _, _, rfl⟩, nmh_53⟩
theorem np_J17_intValue : npar (mNm 170496785).desc = some 0 := by decide +kernel
theorem im_J17_intValue : Cond.instanceMethod (mNm 170496785) ∈ lw_all := lw_g (lw_at lw_m7 191 rfl) rfl
theorem mok_J17_bitCount : MOK 170655745 := ⟨lw_g (lw_at lw_m13 54 rfl) rfl, Or.inl ⟨ini_53, by decide⟩, Nat.le_of_ble_eq_true rfl, Or.inl ⟨_, _, _, rfl⟩, nmh_53⟩
theorem np_J17_bitCount : npar (mNm 170655745).desc = some 1 := by decide +kernel
theorem sm_J17_bitCount : Cond.static (mNm 170655745) ∈ lw_all := lw_g (lw_at lw_m13 53 rfl) rfl
theorem mok_J20_valueOf : MOK 170917889 := ⟨lw_g (lw_at lw_m6 24 rfl) rfl, Or.inl ⟨ini_54, by decide⟩, Nat.le_of_ble_eq_true rfl, Or.inl ⟨_, _, _, rfl⟩, nmh_54⟩
theorem np_J20_valueOf : npar (mNm 170917889).desc = some 1 := by decide +kernel
theorem sm_J20_valueOf : Cond.static (mNm 170917889) ∈ lw_all := lw_g (lw_at lw_m6 23 rfl) rfl
theorem mok_J20_init : MOK 171287346 := ⟨lw_g (lw_at lw_m6 33 rfl) rfl, Or.inl ⟨ini_54, by decide⟩, Nat.le_of_ble_eq_true rfl, Or.inl ⟨_, _, _, rfl⟩, nmh_54⟩
theorem np_J20_init : npar (mNm 171287346).desc = some 1 := by decide +kernel
theorem im_J20_init : Cond.instanceMethod (mNm 171287346) ∈ lw_all := lw_g (lw_at lw_m6 32 rfl) rfl
theorem mok_J20_equals : MOK 171549490 := ⟨lw_g (lw_at lw_m7 196 rfl) rfl, Or.inl ⟨ini_54, by decide⟩, Nat.le_of_ble_eq_true rfl, Or.inl ⟨_, _, _, rfl⟩, nmh_54⟩
theorem np_J20_equals : npar (mNm 171549490).desc = some 1 := by decide +kernel
theorem im_J20_equals : Cond.instanceMethod (mNm 171549490) ∈ lw_all := lw_g (lw_at lw_m7 195 rfl) rfl
theorem mok_J20_longValue : MOK 171811633 := ⟨lw_g (lw_at lw_m7 200 rfl) rfl, Or.inl ⟨ini_54, by decide⟩, Nat.le_of_ble_eq_true rfl, Or.inl ⟨_, _, _, rfl⟩, nmh_54⟩
theorem np_J20_longValue : npar (mNm 171811633).desc = some 0 := by decide +kernel
theorem im_J20_longValue : Cond.instanceMethod (mNm 171811633) ∈ lw_all := lw_g (lw_at lw_m7 198 rfl) rfl
theorem mok_J21_valueOf : MOK 171966465 := ⟨lw_g (lw_at lw_m6 146 rfl) rfl, Or.inl ⟨ini_48, by decide⟩, Nat.le_of_ble_eq_true rfl, Or.inl ⟨_, _, _, rfl⟩, nmh_48⟩
theorem np_J21_valueOf : npar (mNm 171966465).desc = some 1 := by decide +kernel
theorem sm_J21_valueOf : Cond.static (mNm 171966465) ∈ lw_all := lw_g (lw_at lw_m6 145 rfl) rfl
theorem mok_J21_booleanValue : MOK 172340065 := ⟨lw_g (lw_at lw_m7 183 rfl) rfl, Or.inl ⟨ini_48, by decide⟩, Nat.le_of_ble_eq_true rfl, Or.inl ⟨_, _, _, rfl⟩, nmh_48⟩
theorem np_J21_booleanValue : npar (mNm 172340065).desc = some 0 := by decide +kernel
theorem im_J21_booleanValue : Cond.instanceMethod (mNm 172340065) ∈ lw_all := lw_g (lw_at lw_m7 181 rfl) rfl
theorem mok_J22_checkIndex : MOK 172490754 := ⟨lw_g (lw_at lw_m7 83 rfl) rfl, Or.inl ⟨ini_67, by decide⟩, Nat.le_of_ble_eq_true rfl, Or.inl ⟨_, _, _, rfl⟩, nmh_67⟩
theorem np_J22_checkIndex : npar (mNm 172490754).desc = some 2 := by decide +kernel
theorem sm_J22_checkIndex : Cond.static (mNm 172490754) ∈ lw_all := lw_g (lw_at lw_m7 82 rfl) rfl
theorem mok_J2_checkIndex : MOK 172752899 := ⟨lw_g (lw_at lw_m1 122 rfl) rfl, Or.inl ⟨ini_69, by decide⟩, Nat.le_of_ble_eq_true rfl, Or.inl ⟨_, _, _, rfl⟩, nmh_69⟩
theorem np_J2_checkIndex : npar (mNm 172752899).desc = some 3 := by decide +kernel
theorem sm_J2_checkIndex : Cond.static (mNm 172752899) ∈ lw_all := lw_g (lw_at lw_m1 121 rfl) rfl
theorem mok_J0_length : MOK 173124433 := ⟨lw_g (lw_at lw_m1 97 rfl) rfl, Or.inl ⟨ini_59, by decide⟩, Nat.le_of_ble_eq_true rfl, Or.inl ⟨_, _, _, rfl⟩, nmh_59⟩
theorem np_J0_length : npar (mNm 173124433).desc = some 0 := by decide +kernel
theorem im_J0_length : Cond.instanceMethod (mNm 173124433) ∈ lw_all := lw_g (lw_at lw_m1 95 rfl) rfl
theorem mok_J0_coder : MOK 173386577 := ⟨lw_g (lw_at lw_m1 101 rfl) rfl, Or.inl ⟨ini_59, by decide⟩, Nat.le_of_ble_eq_true rfl, Or.inl ⟨_, _, _, rfl⟩, nmh_59⟩
theorem np_J0_coder : npar (mNm 173386577).desc = some 0 := by decide +kernel
theorem im_J0_coder : Cond.instanceMethod (mNm 173386577) ∈ lw_all := lw_g (lw_at lw_m1 99 rfl) rfl
theorem mok_J0_charAt : MOK 173648722 := ⟨lw_g (lw_at lw_m1 107 rfl) rfl, Or.inl ⟨ini_59, by decide⟩, Nat.le_of_ble_eq_true rfl, Or.inl ⟨_, _, _, rfl⟩, nmh_59⟩
theorem np_J0_charAt : npar (mNm 173648722).desc = some 1 := by decide +kernel
theorem im_J0_charAt : Cond.instanceMethod (mNm 173648722) ∈ lw_all := lw_g (lw_at lw_m1 105 rfl) rfl
theorem mok_J0_isLatin1 : MOK 173910865 := ⟨lw_g (lw_at lw_m1 111 rfl) rfl, Or.inl ⟨ini_59, by decide⟩, Nat.le_of_ble_eq_true rfl, Or.inl ⟨_, _, _, rfl⟩, nmh_59⟩
theorem np_J0_isLatin1 : npar (mNm 173910865).desc = some 0 := by decide +kernel
theorem im_J0_isLatin1 : Cond.instanceMethod (mNm 173910865) ∈ lw_all := lw_g (lw_at lw_m1 109 rfl) rfl
theorem mok_J0_checkIndex : MOK 174063618 := ⟨lw_g (lw_at lw_m1 117 rfl) rfl, Or.inl ⟨ini_59, by decide⟩, Nat.le_of_ble_eq_true rfl, Or.inl ⟨_, _, _, rfl⟩, nmh_59⟩
theorem np_J0_checkIndex : npar (mNm 174063618).desc = some 2 := by decide +kernel
theorem sm_J0_checkIndex : Cond.static (mNm 174063618) ∈ lw_all := lw_g (lw_at lw_m1 116 rfl) rfl
theorem mok_J1_charAt : MOK 174325762 := ⟨lw_g (lw_at lw_m1 114 rfl) rfl, Or.inl ⟨ini_60, by decide⟩, Nat.le_of_ble_eq_true rfl, Or.inl ⟨_, _, _, rfl⟩, nmh_60⟩
theorem np_J1_charAt : npar (mNm 174325762).desc = some 2 := by decide +kernel
theorem sm_J1_charAt : Cond.static (mNm 174325762) ∈ lw_all := lw_g (lw_at lw_m1 113 rfl) rfl
theorem mok_J14_max : MOK 174587906 := ⟨lw_g (lw_at lw_m2 117 rfl) rfl, Or.inl ⟨ini_55, by decide⟩, Nat.le_of_ble_eq_true rfl, Or.inl ⟨_, _, _, rfl⟩, nmh_55⟩
theorem np_J14_max : npar (mNm 174587906).desc = some 2 := by decide +kernel
theorem sm_J14_max : Cond.static (mNm 174587906) ∈ lw_all := lw_g (lw_at lw_m2 116 rfl) rfl
theorem mok_J14_min : MOK 174850050 := ⟨lw_g (lw_at lw_m2 135 rfl) rfl, Or.inl ⟨ini_55, by decide⟩, Nat.le_of_ble_eq_true rfl, Or.inl ⟨_, _, _, rfl⟩, nmh_55⟩
theorem np_J14_min : npar (mNm 174850050).desc = some 2 := by decide +kernel
theorem sm_J14_min : Cond.static (mNm 174850050) ∈ lw_all := lw_g (lw_at lw_m2 134 rfl) rfl
theorem mok_J14_max_2 : MOK 175112194 := ⟨lw_g (lw_at lw_m17 65 rfl) rfl, Or.inl ⟨ini_55, by decide⟩, Nat.le_of_ble_eq_true rfl, Or.inl ⟨_, _, _, rfl⟩, nmh_55⟩
theorem np_J14_max_2 : npar (mNm 175112194).desc = some 2 := by decide +kernel
theorem sm_J14_max_2 : Cond.static (mNm 175112194) ∈ lw_all := lw_g (lw_at lw_m17 64 rfl) rfl
theorem mok_J13_newLength : MOK 175374339 := ⟨lw_g (lw_at lw_m2 114 rfl) rfl, Or.inl ⟨ini_68, by decide⟩, Nat.le_of_ble_eq_true rfl, Or.inl ⟨_, _, _, rfl⟩, nmh_68⟩
theorem np_J13_newLength : npar (mNm 175374339).desc = some 3 := by decide +kernel
theorem sm_J13_newLength : Cond.static (mNm 175374339) ∈ lw_all := lw_g (lw_at lw_m2 113 rfl) rfl
theorem mok_J25_equals : MOK 175749138 := ⟨lw_g (lw_at lw_m7 209 rfl) rfl, Or.inr ⟨rfl, rfl⟩, Nat.le_of_ble_eq_true rfl, Or.inl ⟨_, _, _, rfl⟩, nmh_57⟩
theorem np_J25_equals : npar (mNm 175749138).desc = some 1 := by decide +kernel
theorem im_J25_equals : Cond.instanceMethod (mNm 175749138) ∈ lw_all := lw_g (lw_at lw_m7 126 rfl) rfl
theorem mok_J7_init_3 : MOK 175995589 := ⟨lw_g (lw_at lw_m3 206 rfl) rfl, Or.inl ⟨ini_62, by decide⟩, Nat.le_of_ble_eq_true rfl, Or.inl ⟨_, _, _, rfl⟩, nmh_62⟩
theorem np_J7_init_3 : npar (mNm 175995589).desc = some 4 := by decide +kernel
theorem im_J7_init_3 : Cond.instanceMethod (mNm 175995589) ∈ lw_all := lw_g (lw_at lw_m3 205 rfl) rfl
theorem mok_J8_init_2 : MOK 176257733 := ⟨lw_g (lw_at lw_m3 203 rfl) rfl, Or.inl ⟨ini_49, by decide⟩, Nat.le_of_ble_eq_true rfl, Or.inl ⟨_, _, _, rfl⟩, nmh_49⟩
theorem np_J8_init_2 : npar (mNm 176257733).desc = some 4 := by decide +kernel
theorem im_J8_init_2 : Cond.instanceMethod (mNm 176257733) ∈ lw_all := lw_g (lw_at lw_m3 202 rfl) rfl
theorem mok_J9_init_2 : MOK 176519877 := ⟨lw_g (lw_at lw_m3 200 rfl) rfl, Or.inl ⟨ini_58, by decide⟩, Nat.le_of_ble_eq_true rfl, Or.inl ⟨_, _, _, rfl⟩, nmh_58⟩
theorem np_J9_init_2 : npar (mNm 176519877).desc = some 4 := by decide +kernel
theorem im_J9_init_2 : Cond.instanceMethod (mNm 176519877) ∈ lw_all := lw_g (lw_at lw_m3 199 rfl) rfl
theorem mok_P_Arrays_copyOf : MOK 236191746 := ⟨lw_g (lw_at lw_m6 61 rfl) rfl, Or.inl ⟨ini_66, by decide⟩, Nat.le_of_ble_eq_true rfl, Or.inl ⟨_, _, _, rfl⟩, nmh_66⟩
theorem np_P_Arrays_copyOf : npar (mNm 236191746).desc = some 2 := by decide +kernel
theorem sm_P_Arrays_copyOf : Cond.static (mNm 236191746) ∈ lw_all := lw_g (lw_at lw_m6 60 rfl) rfl
theorem mok_P_IllegalArgumentException_init : MOK 236546769 := ⟨lw_g (lw_at lw_m14 137 rfl) rfl, Or.inl ⟨ini_50, by decide⟩, Nat.le_of_ble_eq_true rfl, Or.inl ⟨_, _, _, rfl⟩, nmh_50⟩
theorem np_P_IllegalArgumentException_init : npar (mNm 236546769).desc = some 0 := by decide +kernel
theorem im_P_IllegalArgumentException_init : Cond.instanceMethod (mNm 236546769) ∈ lw_all := lw_g (lw_at lw_m14 136 rfl) rfl
theorem mok_P_IllegalStateException_init : MOK 236810977 := ⟨lw_g (lw_at lw_m4 201 rfl) rfl, Or.inl ⟨ini_51, by decide⟩, Nat.le_of_ble_eq_true rfl, Or.inl ⟨_, _, _, rfl⟩, nmh_51⟩
theorem np_P_IllegalStateException_init : npar (mNm 236810977).desc = some 0 := by decide +kernel
theorem im_P_IllegalStateException_init : Cond.instanceMethod (mNm 236810977) ∈ lw_all := lw_g (lw_at lw_m4 200 rfl) rfl
theorem mok_P_IndexOutOfBoundsException_init : MOK 237075185 := ⟨lw_g (lw_at lw_m14 183 rfl) rfl, Or.inl ⟨ini_52, by decide⟩, Nat.le_of_ble_eq_true rfl, Or.inl ⟨_, _, _, rfl⟩, nmh_52⟩
theorem np_P_IndexOutOfBoundsException_init : npar (mNm 237075185).desc = some 0 := by decide +kernel
theorem im_P_IndexOutOfBoundsException_init : Cond.instanceMethod (mNm 237075185) ∈ lw_all := lw_g (lw_at lw_m14 182 rfl) rfl
