/-! LINKS OF THE CLASSES (printed by gen/links.py) -/
set_option maxRecDepth 100000
theorem ow0_k : ∀ q ∈ ([] : List (Nat × Int)), Cond.constant "AlgolHouse" q.1 (Int32.ofInt q.2) ∈ lw_all := fun q h => by cases h
theorem ow0_l : ∀ q ∈ ([(9, 4611686018427387904), (60, 255)] : List (Nat × Int)), Cond.constantLong "AlgolHouse" q.1 (Int64.ofInt q.2) ∈ lw_all := List.forall_mem_cons.mpr ⟨lw_g (lw_at lw_m8 161 rfl) rfl, List.forall_mem_cons.mpr ⟨lw_g (lw_at lw_m4 160 rfl) rfl, fun q h => by cases h⟩⟩
theorem ow0_0 : ∀ q ∈ ([(17, 66054), (24, 16843270), (29, 25231878), (38, 33620486), (42, 50397700), (49, 58786310), (53, 67174918), (57, 83952134), (62, 8454660), (77, 235145234), (104, 3509344432), (107, 42009092), (110, 3517733040), (137, 1487359646), (148, 740443180), (149, 799163436), (153, 773997614), (155, 757220398), (165, 638128676), (166, 671683110), (169, 646517286), (188, 1226982538), (192, 604508190), (198, 790774828), (203, 1008152158), (207, 604508190), (214, 1478971038), (221, 75563527), (225, 512101400), (228, 503712792), (231, 486935578), (235, 495324186), (238, 520490008), (241, 470158360), (243, 419826712), (246, 461769752), (266, 1268991628), (272, 1235437196), (273, 1243825804), (274, 1252214414)] : List (Nat × Nat)), q.2 ∈ iFs ∧ FLk "AlgolHouse" q.1 q.2 := List.forall_mem_cons.mpr ⟨⟨List.mem_of_getElem? (i := 0) rfl, ⟨"AlgolHouse", Or.inl (lw_g (lw_at lw_m4 122 rfl) rfl), Or.inl rfl⟩⟩, List.forall_mem_cons.mpr ⟨⟨List.mem_of_getElem? (i := 2) rfl, ⟨"AlgolHouse", Or.inl (lw_g (lw_at lw_m4 124 rfl) rfl), Or.inl rfl⟩⟩, List.forall_mem_cons.mpr ⟨⟨List.mem_of_getElem? (i := 3) rfl, ⟨"AlgolHouse", Or.inl (lw_g (lw_at lw_m4 125 rfl) rfl), Or.inl rfl⟩⟩, List.forall_mem_cons.mpr ⟨⟨List.mem_of_getElem? (i := 4) rfl, ⟨"AlgolHouse", Or.inl (lw_g (lw_at lw_m4 126 rfl) rfl), Or.inl rfl⟩⟩, List.forall_mem_cons.mpr ⟨⟨List.mem_of_getElem? (i := 6) rfl, ⟨"AlgolHouse", Or.inl (lw_g (lw_at lw_m4 128 rfl) rfl), Or.inl rfl⟩⟩, List.forall_mem_cons.mpr ⟨⟨List.mem_of_getElem? (i := 7) rfl, ⟨"AlgolHouse", Or.inl (lw_g (lw_at lw_m4 129 rfl) rfl), Or.inl rfl⟩⟩, List.forall_mem_cons.mpr ⟨⟨List.mem_of_getElem? (i := 8) rfl, ⟨"AlgolHouse", Or.inl (lw_g (lw_at lw_m4 130 rfl) rfl), Or.inl rfl⟩⟩, List.forall_mem_cons.mpr ⟨⟨List.mem_of_getElem? (i := 10) rfl, ⟨"AlgolHouse", Or.inl (lw_g (lw_at lw_m4 132 rfl) rfl), Or.inl rfl⟩⟩, List.forall_mem_cons.mpr ⟨⟨List.mem_of_getElem? (i := 1) rfl, ⟨"AlgolHouse", Or.inl (lw_g (lw_at lw_m4 123 rfl) rfl), Or.inl rfl⟩⟩, List.forall_mem_cons.mpr ⟨⟨List.mem_of_getElem? (i := 28) rfl, ⟨"AlgolHouse$Judge", Or.inr ⟨_, lw_at lw_m3 128 rfl⟩, Or.inl rfl⟩⟩, List.forall_mem_cons.mpr ⟨⟨List.mem_of_getElem? (i := 418) rfl, ⟨"AlgolHouse$Fault", Or.inr ⟨_, lw_at lw_m3 209 rfl⟩, Or.inl rfl⟩⟩, List.forall_mem_cons.mpr ⟨⟨List.mem_of_getElem? (i := 5) rfl, ⟨"AlgolHouse", Or.inl (lw_g (lw_at lw_m4 127 rfl) rfl), Or.inl rfl⟩⟩, List.forall_mem_cons.mpr ⟨⟨List.mem_of_getElem? (i := 419) rfl, ⟨"AlgolHouse$Fault", Or.inr ⟨_, lw_at lw_m3 212 rfl⟩, Or.inl rfl⟩⟩, List.forall_mem_cons.mpr ⟨⟨List.mem_of_getElem? (i := 177) rfl, ⟨"AlgolHouse$Program", Or.inr ⟨_, lw_at lw_m14 116 rfl⟩, Or.inl rfl⟩⟩, List.forall_mem_cons.mpr ⟨⟨List.mem_of_getElem? (i := 88) rfl, ⟨"AlgolHouse$Node", Or.inl (lw_g (lw_at lw_m5 133 rfl) rfl), Or.inl rfl⟩⟩, List.forall_mem_cons.mpr ⟨⟨List.mem_of_getElem? (i := 95) rfl, ⟨"AlgolHouse$Node", Or.inr ⟨_, lw_at lw_m5 204 rfl⟩, Or.inl rfl⟩⟩, List.forall_mem_cons.mpr ⟨⟨List.mem_of_getElem? (i := 92) rfl, ⟨"AlgolHouse$Node", Or.inr ⟨_, lw_at lw_m5 197 rfl⟩, Or.inl rfl⟩⟩, List.forall_mem_cons.mpr ⟨⟨List.mem_of_getElem? (i := 90) rfl, ⟨"AlgolHouse$Node", Or.inl (lw_g (lw_at lw_m5 194 rfl) rfl), Or.inl rfl⟩⟩, List.forall_mem_cons.mpr ⟨⟨List.mem_of_getElem? (i := 76) rfl, ⟨"AlgolHouse$Mode", Or.inr ⟨_, lw_at lw_m3 78 rfl⟩, Or.inl rfl⟩⟩, List.forall_mem_cons.mpr ⟨⟨List.mem_of_getElem? (i := 80) rfl, ⟨"AlgolHouse$Mode", Or.inr ⟨_, lw_at lw_m3 104 rfl⟩, Or.inl rfl⟩⟩, List.forall_mem_cons.mpr ⟨⟨List.mem_of_getElem? (i := 77) rfl, ⟨"AlgolHouse$Mode", Or.inr ⟨_, lw_at lw_m3 87 rfl⟩, Or.inl rfl⟩⟩, List.forall_mem_cons.mpr ⟨⟨List.mem_of_getElem? (i := 146) rfl, ⟨"AlgolHouse$Tag", Or.inr ⟨_, lw_at lw_m9 80 rfl⟩, Or.inl rfl⟩⟩, List.forall_mem_cons.mpr ⟨⟨List.mem_of_getElem? (i := 72) rfl, ⟨"AlgolHouse$Meaning", Or.inl (lw_g (lw_at lw_m11 160 rfl) rfl), Or.inl rfl⟩⟩, List.forall_mem_cons.mpr ⟨⟨List.mem_of_getElem? (i := 94) rfl, ⟨"AlgolHouse$Node", Or.inr ⟨_, lw_at lw_m5 202 rfl⟩, Or.inl rfl⟩⟩, List.forall_mem_cons.mpr ⟨⟨List.mem_of_getElem? (i := 120) rfl, ⟨"AlgolHouse$Formula", Or.inr ⟨_, lw_at lw_m8 168 rfl⟩, Or.inl rfl⟩⟩, List.forall_mem_cons.mpr ⟨⟨List.mem_of_getElem? (i := 72) rfl, ⟨"AlgolHouse$Operation", Or.inl (lw_g (lw_at lw_m11 161 rfl) rfl), Or.inr (lw_g (lw_at lw_m11 159 rfl) rfl)⟩⟩, List.forall_mem_cons.mpr ⟨⟨List.mem_of_getElem? (i := 176) rfl, ⟨"AlgolHouse$Program", Or.inr ⟨_, lw_at lw_m14 114 rfl⟩, Or.inl rfl⟩⟩, List.forall_mem_cons.mpr ⟨⟨List.mem_of_getElem? (i := 9) rfl, ⟨"AlgolHouse", Or.inl (lw_g (lw_at lw_m4 131 rfl) rfl), Or.inl rfl⟩⟩, List.forall_mem_cons.mpr ⟨⟨List.mem_of_getElem? (i := 61) rfl, ⟨"AlgolHouse$Machine", Or.inr ⟨_, lw_at lw_m4 54 rfl⟩, Or.inl rfl⟩⟩, List.forall_mem_cons.mpr ⟨⟨List.mem_of_getElem? (i := 60) rfl, ⟨"AlgolHouse$Machine", Or.inr ⟨_, lw_at lw_m4 51 rfl⟩, Or.inl rfl⟩⟩, List.forall_mem_cons.mpr ⟨⟨List.mem_of_getElem? (i := 58) rfl, ⟨"AlgolHouse$Machine", Or.inr ⟨_, lw_at lw_m4 45 rfl⟩, Or.inl rfl⟩⟩, List.forall_mem_cons.mpr ⟨⟨List.mem_of_getElem? (i := 59) rfl, ⟨"AlgolHouse$Machine", Or.inr ⟨_, lw_at lw_m4 48 rfl⟩, Or.inl rfl⟩⟩, List.forall_mem_cons.mpr ⟨⟨List.mem_of_getElem? (i := 62) rfl, ⟨"AlgolHouse$Machine", Or.inr ⟨_, lw_at lw_m4 57 rfl⟩, Or.inl rfl⟩⟩, List.forall_mem_cons.mpr ⟨⟨List.mem_of_getElem? (i := 56) rfl, ⟨"AlgolHouse$Machine", Or.inr ⟨_, lw_at lw_m4 41 rfl⟩, Or.inl rfl⟩⟩, List.forall_mem_cons.mpr ⟨⟨List.mem_of_getElem? (i := 50) rfl, ⟨"AlgolHouse$Machine", Or.inr ⟨_, lw_at lw_m4 13 rfl⟩, Or.inl rfl⟩⟩, List.forall_mem_cons.mpr ⟨⟨List.mem_of_getElem? (i := 55) rfl, ⟨"AlgolHouse$Machine", Or.inr ⟨_, lw_at lw_m4 39 rfl⟩, Or.inl rfl⟩⟩, List.forall_mem_cons.mpr ⟨⟨List.mem_of_getElem? (i := 151) rfl, ⟨"AlgolHouse$Outcome", Or.inr ⟨_, lw_at lw_m18 84 rfl⟩, Or.inl rfl⟩⟩, List.forall_mem_cons.mpr ⟨⟨List.mem_of_getElem? (i := 147) rfl, ⟨"AlgolHouse$Outcome", Or.inr ⟨_, lw_at lw_m18 77 rfl⟩, Or.inl rfl⟩⟩, List.forall_mem_cons.mpr ⟨⟨List.mem_of_getElem? (i := 148) rfl, ⟨"AlgolHouse$Outcome", Or.inr ⟨_, lw_at lw_m18 79 rfl⟩, Or.inl rfl⟩⟩, List.forall_mem_cons.mpr ⟨⟨List.mem_of_getElem? (i := 149) rfl, ⟨"AlgolHouse$Outcome", Or.inr ⟨_, lw_at lw_m18 81 rfl⟩, Or.inl rfl⟩⟩, fun q h => by cases h⟩⟩⟩⟩⟩⟩⟩⟩⟩⟩⟩⟩⟩⟩⟩⟩⟩⟩⟩⟩⟩⟩⟩⟩⟩⟩⟩⟩⟩⟩⟩⟩⟩⟩⟩⟩⟩⟩⟩⟩
theorem ow0_1 : ∀ q ∈ ([(42, 50397700), (57, 83952134), (62, 8454660), (107, 42009092), (221, 75563527), (266, 1268991628)] : List (Nat × Nat)), q.2 ∈ iFs ∧ PLk "AlgolHouse" q.1 q.2 := List.forall_mem_cons.mpr ⟨⟨List.mem_of_getElem? (i := 6) rfl, ⟨"AlgolHouse", Or.inl (lw_g (lw_at lw_m4 128 rfl) rfl), Or.inl rfl⟩, rfl⟩, List.forall_mem_cons.mpr ⟨⟨List.mem_of_getElem? (i := 10) rfl, ⟨"AlgolHouse", Or.inl (lw_g (lw_at lw_m4 132 rfl) rfl), Or.inl rfl⟩, rfl⟩, List.forall_mem_cons.mpr ⟨⟨List.mem_of_getElem? (i := 1) rfl, ⟨"AlgolHouse", Or.inl (lw_g (lw_at lw_m4 123 rfl) rfl), Or.inl rfl⟩, rfl⟩, List.forall_mem_cons.mpr ⟨⟨List.mem_of_getElem? (i := 5) rfl, ⟨"AlgolHouse", Or.inl (lw_g (lw_at lw_m4 127 rfl) rfl), Or.inl rfl⟩, rfl⟩, List.forall_mem_cons.mpr ⟨⟨List.mem_of_getElem? (i := 9) rfl, ⟨"AlgolHouse", Or.inl (lw_g (lw_at lw_m4 131 rfl) rfl), Or.inl rfl⟩, rfl⟩, List.forall_mem_cons.mpr ⟨⟨List.mem_of_getElem? (i := 151) rfl, ⟨"AlgolHouse$Outcome", Or.inr ⟨_, lw_at lw_m18 84 rfl⟩, Or.inl rfl⟩, rfl⟩, fun q h => by cases h⟩⟩⟩⟩⟩⟩
theorem ow0_2 : ∀ q ∈ ([(17, 66054), (24, 16843270), (29, 25231878), (38, 33620486), (49, 58786310), (53, 67174918)] : List (Nat × Nat)), q.2 ∈ iFs ∧ PFk "AlgolHouse" q.1 q.2 := List.forall_mem_cons.mpr ⟨⟨List.mem_of_getElem? (i := 0) rfl, rfl, rfl, "AlgolHouse", lw_g (lw_at lw_m4 122 rfl) rfl, Or.inl rfl⟩, List.forall_mem_cons.mpr ⟨⟨List.mem_of_getElem? (i := 2) rfl, rfl, rfl, "AlgolHouse", lw_g (lw_at lw_m4 124 rfl) rfl, Or.inl rfl⟩, List.forall_mem_cons.mpr ⟨⟨List.mem_of_getElem? (i := 3) rfl, rfl, rfl, "AlgolHouse", lw_g (lw_at lw_m4 125 rfl) rfl, Or.inl rfl⟩, List.forall_mem_cons.mpr ⟨⟨List.mem_of_getElem? (i := 4) rfl, rfl, rfl, "AlgolHouse", lw_g (lw_at lw_m4 126 rfl) rfl, Or.inl rfl⟩, List.forall_mem_cons.mpr ⟨⟨List.mem_of_getElem? (i := 7) rfl, rfl, rfl, "AlgolHouse", lw_g (lw_at lw_m4 129 rfl) rfl, Or.inl rfl⟩, List.forall_mem_cons.mpr ⟨⟨List.mem_of_getElem? (i := 8) rfl, rfl, rfl, "AlgolHouse", lw_g (lw_at lw_m4 130 rfl) rfl, Or.inl rfl⟩, fun q h => by cases h⟩⟩⟩⟩⟩⟩
theorem ow0_3 : ∀ q ∈ ([] : List (Nat × Nat)), q.2 ∈ sFs ∧ FLk "AlgolHouse" q.1 q.2 := fun q h => by cases h
theorem ow0_4 : ∀ q ∈ ([] : List (Nat × Nat)), TLk "AlgolHouse" q.1 q.2 ∧ q.2 % 4 = 2 := fun q h => by cases h
theorem ow0_5 : ∀ q ∈ ([(4, 4), (21, 5), (33, 48), (46, 6), (75, 36), (94, 39), (260, 35)] : List (Nat × Nat)), mdT q.2 = true ∧ NLk "AlgolHouse" q.1 q.2 := List.forall_mem_cons.mpr ⟨⟨rfl, lw_g (lw_at lw_m1 174 rfl) rfl, lw_g (lw_at lw_m1 175 rfl) rfl, lw_g (lw_at lw_m1 7 rfl) rfl⟩, List.forall_mem_cons.mpr ⟨⟨rfl, lw_g (lw_at lw_m1 85 rfl) rfl, lw_g (lw_at lw_m1 86 rfl) rfl, lw_g (lw_at lw_m1 2 rfl) rfl⟩, List.forall_mem_cons.mpr ⟨⟨rfl, lw_g (lw_at lw_m3 172 rfl) rfl, lw_g (lw_at lw_m1 187 rfl) rfl, lw_g (lw_at lw_m1 11 rfl) rfl⟩, List.forall_mem_cons.mpr ⟨⟨rfl, lw_g (lw_at lw_m3 174 rfl) rfl, lw_g (lw_at lw_m3 175 rfl) rfl, lw_g (lw_at lw_m1 26 rfl) rfl⟩, List.forall_mem_cons.mpr ⟨⟨rfl, lw_g (lw_at lw_m5 21 rfl) rfl, lw_g (lw_at lw_m5 22 rfl) rfl, lw_g (lw_at lw_m1 33 rfl) rfl⟩, List.forall_mem_cons.mpr ⟨⟨rfl, lw_g (lw_at lw_m14 99 rfl) rfl, lw_g (lw_at lw_m14 100 rfl) rfl, lw_g (lw_at lw_m1 70 rfl) rfl⟩, List.forall_mem_cons.mpr ⟨⟨rfl, lw_g (lw_at lw_m18 65 rfl) rfl, lw_g (lw_at lw_m18 70 rfl) rfl, lw_g (lw_at lw_m1 76 rfl) rfl⟩, fun q h => by cases h⟩⟩⟩⟩⟩⟩⟩
theorem ow0_6 : ∀ q ∈ ([] : List (Nat × Nat)), mdA q.2 = true ∧ ak q.2 = 2 ∧ ALk "AlgolHouse" q.1 q.2 := fun q h => by cases h
theorem ow0_7_0 : XLk "AlgolHouse" 94 5031 := (Or.inl ⟨"AlgolHouse$Program", lw_g (lw_at lw_m14 99 rfl) rfl, fun t h1 h2 => by
  obtain rfl : t = 39 := by omega
  exact ⟨⟨by omega, by omega⟩, Or.inl rfl⟩⟩)
theorem ow0_7_1 : XLk "AlgolHouse" 140 4363 := (Or.inl ⟨"AlgolHouse$Node", lw_g (lw_at lw_m14 199 rfl) rfl, fun t h1 h2 => by
  rcases (by omega : t = 11 ∨ t = 12 ∨ t = 13 ∨ t = 14 ∨ t = 15 ∨ t = 16 ∨ t = 17 ∨ t = 18 ∨ t = 19 ∨ t = 20 ∨ t = 21 ∨ t = 22 ∨ t = 23 ∨ t = 24 ∨ t = 25 ∨ t = 26 ∨ t = 27 ∨ t = 28 ∨ t = 29 ∨ t = 30 ∨ t = 31 ∨ t = 32 ∨ t = 33 ∨ t = 34) with rfl | rfl | rfl | rfl | rfl | rfl | rfl | rfl | rfl | rfl | rfl | rfl | rfl | rfl | rfl | rfl | rfl | rfl | rfl | rfl | rfl | rfl | rfl | rfl
  · exact ⟨⟨by omega, by omega⟩, Or.inr (lw_at lw_m25 144 rfl)⟩
  · exact ⟨⟨by omega, by omega⟩, Or.inr (lw_at lw_m25 145 rfl)⟩
  · exact ⟨⟨by omega, by omega⟩, Or.inr (lw_at lw_m25 147 rfl)⟩
  · exact ⟨⟨by omega, by omega⟩, Or.inr (lw_at lw_m25 152 rfl)⟩
  · exact ⟨⟨by omega, by omega⟩, Or.inr (lw_at lw_m25 157 rfl)⟩
  · exact ⟨⟨by omega, by omega⟩, Or.inr (lw_at lw_m25 166 rfl)⟩
  · exact ⟨⟨by omega, by omega⟩, Or.inr (lw_at lw_m25 148 rfl)⟩
  · exact ⟨⟨by omega, by omega⟩, Or.inr (lw_at lw_m25 149 rfl)⟩
  · exact ⟨⟨by omega, by omega⟩, Or.inr (lw_at lw_m25 146 rfl)⟩
  · exact ⟨⟨by omega, by omega⟩, Or.inr (lw_at lw_m25 153 rfl)⟩
  · exact ⟨⟨by omega, by omega⟩, Or.inr (lw_at lw_m25 162 rfl)⟩
  · exact ⟨⟨by omega, by omega⟩, Or.inr (lw_at lw_m25 167 rfl)⟩
  · exact ⟨⟨by omega, by omega⟩, Or.inr (lw_at lw_m25 150 rfl)⟩
  · exact ⟨⟨by omega, by omega⟩, Or.inr (lw_at lw_m25 151 rfl)⟩
  · exact ⟨⟨by omega, by omega⟩, Or.inr (lw_at lw_m25 154 rfl)⟩
  · exact ⟨⟨by omega, by omega⟩, Or.inr (lw_at lw_m25 155 rfl)⟩
  · exact ⟨⟨by omega, by omega⟩, Or.inr (lw_at lw_m25 156 rfl)⟩
  · exact ⟨⟨by omega, by omega⟩, Or.inr (lw_at lw_m25 158 rfl)⟩
  · exact ⟨⟨by omega, by omega⟩, Or.inr (lw_at lw_m25 159 rfl)⟩
  · exact ⟨⟨by omega, by omega⟩, Or.inr (lw_at lw_m25 160 rfl)⟩
  · exact ⟨⟨by omega, by omega⟩, Or.inr (lw_at lw_m25 161 rfl)⟩
  · exact ⟨⟨by omega, by omega⟩, Or.inr (lw_at lw_m25 163 rfl)⟩
  · exact ⟨⟨by omega, by omega⟩, Or.inr (lw_at lw_m25 164 rfl)⟩
  · exact ⟨⟨by omega, by omega⟩, Or.inr (lw_at lw_m25 165 rfl)⟩⟩)
theorem ow0_7_2 : XLk "AlgolHouse" 160 1161 := (Or.inl ⟨"AlgolHouse$Mode", lw_g (lw_at lw_m15 81 rfl) rfl, fun t h1 h2 => by
  obtain rfl : t = 9 := by omega
  exact ⟨⟨by omega, by omega⟩, Or.inl rfl⟩⟩)
theorem ow0_7_3 : XLk "AlgolHouse" 186 4386 := (Or.inl ⟨"AlgolHouse$Tag", lw_g (lw_at lw_m15 105 rfl) rfl, fun t h1 h2 => by
  obtain rfl : t = 34 := by omega
  exact ⟨⟨by omega, by omega⟩, Or.inl rfl⟩⟩)
theorem ow0_7_4 : XLk "AlgolHouse" 201 2967 := (Or.inl ⟨"AlgolHouse$Formula", lw_g (lw_at lw_m15 106 rfl) rfl, fun t h1 h2 => by
  obtain rfl : t = 23 := by omega
  exact ⟨⟨by omega, by omega⟩, Or.inl rfl⟩⟩)
theorem ow0_7_5 : XLk "AlgolHouse" 260 4515 := (Or.inl ⟨"AlgolHouse$Outcome", lw_g (lw_at lw_m18 65 rfl) rfl, fun t h1 h2 => by
  obtain rfl : t = 35 := by omega
  exact ⟨⟨by omega, by omega⟩, Or.inl rfl⟩⟩)
theorem ow0_7 : ∀ q ∈ ([(94, 5031), (140, 4363), (160, 1161), (186, 4386), (201, 2967), (260, 4515)] : List (Nat × Nat)), XLk "AlgolHouse" q.1 q.2 := List.forall_mem_cons.mpr ⟨ow0_7_0, List.forall_mem_cons.mpr ⟨ow0_7_1, List.forall_mem_cons.mpr ⟨ow0_7_2, List.forall_mem_cons.mpr ⟨ow0_7_3, List.forall_mem_cons.mpr ⟨ow0_7_4, List.forall_mem_cons.mpr ⟨ow0_7_5, fun q h => by cases h⟩⟩⟩⟩⟩⟩
theorem ow0_8_0 {s0 : State} (hN : NCs s0) : YLk s0 "AlgolHouse" 186 71487778 := ⟨"AlgolHouse$Tag", lw_g (lw_at lw_m15 105 rfl) rfl, fun t h1 h2 => by
  rcases (by omega : t = 11 ∨ t = 12 ∨ t = 13 ∨ t = 14 ∨ t = 15 ∨ t = 16 ∨ t = 17 ∨ t = 18 ∨ t = 19 ∨ t = 20 ∨ t = 21 ∨ t = 22 ∨ t = 23 ∨ t = 24 ∨ t = 25 ∨ t = 26 ∨ t = 27 ∨ t = 28 ∨ t = 29 ∨ t = 30 ∨ t = 31 ∨ t = 32 ∨ t = 33 ∨ t = 34) with rfl | rfl | rfl | rfl | rfl | rfl | rfl | rfl | rfl | rfl | rfl | rfl | rfl | rfl | rfl | rfl | rfl | rfl | rfl | rfl | rfl | rfl | rfl | rfl
  · exact ⟨⟨by omega, by omega⟩, fun z => absurd z (by omega), fun _ => hN _ (List.mem_of_getElem? (i := 23) rfl)⟩
  · exact ⟨⟨by omega, by omega⟩, fun z => absurd z (by omega), fun _ => hN _ (List.mem_of_getElem? (i := 24) rfl)⟩
  · exact ⟨⟨by omega, by omega⟩, fun z => absurd z (by omega), fun _ => hN _ (List.mem_of_getElem? (i := 25) rfl)⟩
  · exact ⟨⟨by omega, by omega⟩, fun z => absurd z (by omega), fun _ => hN _ (List.mem_of_getElem? (i := 26) rfl)⟩
  · exact ⟨⟨by omega, by omega⟩, fun z => absurd z (by omega), fun _ => hN _ (List.mem_of_getElem? (i := 27) rfl)⟩
  · exact ⟨⟨by omega, by omega⟩, fun z => absurd z (by omega), fun _ => hN _ (List.mem_of_getElem? (i := 28) rfl)⟩
  · exact ⟨⟨by omega, by omega⟩, fun z => absurd z (by omega), fun _ => hN _ (List.mem_of_getElem? (i := 29) rfl)⟩
  · exact ⟨⟨by omega, by omega⟩, fun z => absurd z (by omega), fun _ => hN _ (List.mem_of_getElem? (i := 30) rfl)⟩
  · exact ⟨⟨by omega, by omega⟩, fun z => absurd z (by omega), fun _ => hN _ (List.mem_of_getElem? (i := 31) rfl)⟩
  · exact ⟨⟨by omega, by omega⟩, fun z => absurd z (by omega), fun _ => hN _ (List.mem_of_getElem? (i := 32) rfl)⟩
  · exact ⟨⟨by omega, by omega⟩, fun z => absurd z (by omega), fun _ => hN _ (List.mem_of_getElem? (i := 33) rfl)⟩
  · exact ⟨⟨by omega, by omega⟩, fun z => absurd z (by omega), fun _ => hN _ (List.mem_of_getElem? (i := 34) rfl)⟩
  · exact ⟨⟨by omega, by omega⟩, fun z => absurd z (by omega), fun _ => hN _ (List.mem_of_getElem? (i := 35) rfl)⟩
  · exact ⟨⟨by omega, by omega⟩, fun z => absurd z (by omega), fun _ => hN _ (List.mem_of_getElem? (i := 36) rfl)⟩
  · exact ⟨⟨by omega, by omega⟩, fun z => absurd z (by omega), fun _ => hN _ (List.mem_of_getElem? (i := 37) rfl)⟩
  · exact ⟨⟨by omega, by omega⟩, fun z => absurd z (by omega), fun _ => hN _ (List.mem_of_getElem? (i := 38) rfl)⟩
  · exact ⟨⟨by omega, by omega⟩, fun z => absurd z (by omega), fun _ => hN _ (List.mem_of_getElem? (i := 39) rfl)⟩
  · exact ⟨⟨by omega, by omega⟩, fun z => absurd z (by omega), fun _ => hN _ (List.mem_of_getElem? (i := 40) rfl)⟩
  · exact ⟨⟨by omega, by omega⟩, fun z => absurd z (by omega), fun _ => hN _ (List.mem_of_getElem? (i := 41) rfl)⟩
  · exact ⟨⟨by omega, by omega⟩, fun z => absurd z (by omega), fun _ => hN _ (List.mem_of_getElem? (i := 42) rfl)⟩
  · exact ⟨⟨by omega, by omega⟩, fun z => absurd z (by omega), fun _ => hN _ (List.mem_of_getElem? (i := 43) rfl)⟩
  · exact ⟨⟨by omega, by omega⟩, fun z => absurd z (by omega), fun _ => hN _ (List.mem_of_getElem? (i := 44) rfl)⟩
  · exact ⟨⟨by omega, by omega⟩, fun z => absurd z (by omega), fun _ => hN _ (List.mem_of_getElem? (i := 45) rfl)⟩
  · exact ⟨⟨by omega, by omega⟩, fun _ => Or.inl rfl, fun z => absurd (by omega) z⟩⟩
theorem ow0_8_1 {s0 : State} (hN : NCs s0) : YLk s0 "AlgolHouse" 201 71486359 := ⟨"AlgolHouse$Formula", lw_g (lw_at lw_m15 106 rfl) rfl, fun t h1 h2 => by
  rcases (by omega : t = 11 ∨ t = 12 ∨ t = 13 ∨ t = 14 ∨ t = 15 ∨ t = 16 ∨ t = 17 ∨ t = 18 ∨ t = 19 ∨ t = 20 ∨ t = 21 ∨ t = 22 ∨ t = 23 ∨ t = 24 ∨ t = 25 ∨ t = 26 ∨ t = 27 ∨ t = 28 ∨ t = 29 ∨ t = 30 ∨ t = 31 ∨ t = 32 ∨ t = 33 ∨ t = 34) with rfl | rfl | rfl | rfl | rfl | rfl | rfl | rfl | rfl | rfl | rfl | rfl | rfl | rfl | rfl | rfl | rfl | rfl | rfl | rfl | rfl | rfl | rfl | rfl
  · exact ⟨⟨by omega, by omega⟩, fun z => absurd z (by omega), fun _ => hN _ (List.mem_of_getElem? (i := 46) rfl)⟩
  · exact ⟨⟨by omega, by omega⟩, fun z => absurd z (by omega), fun _ => hN _ (List.mem_of_getElem? (i := 47) rfl)⟩
  · exact ⟨⟨by omega, by omega⟩, fun z => absurd z (by omega), fun _ => hN _ (List.mem_of_getElem? (i := 48) rfl)⟩
  · exact ⟨⟨by omega, by omega⟩, fun z => absurd z (by omega), fun _ => hN _ (List.mem_of_getElem? (i := 49) rfl)⟩
  · exact ⟨⟨by omega, by omega⟩, fun z => absurd z (by omega), fun _ => hN _ (List.mem_of_getElem? (i := 50) rfl)⟩
  · exact ⟨⟨by omega, by omega⟩, fun z => absurd z (by omega), fun _ => hN _ (List.mem_of_getElem? (i := 51) rfl)⟩
  · exact ⟨⟨by omega, by omega⟩, fun z => absurd z (by omega), fun _ => hN _ (List.mem_of_getElem? (i := 52) rfl)⟩
  · exact ⟨⟨by omega, by omega⟩, fun z => absurd z (by omega), fun _ => hN _ (List.mem_of_getElem? (i := 53) rfl)⟩
  · exact ⟨⟨by omega, by omega⟩, fun z => absurd z (by omega), fun _ => hN _ (List.mem_of_getElem? (i := 54) rfl)⟩
  · exact ⟨⟨by omega, by omega⟩, fun z => absurd z (by omega), fun _ => hN _ (List.mem_of_getElem? (i := 55) rfl)⟩
  · exact ⟨⟨by omega, by omega⟩, fun z => absurd z (by omega), fun _ => hN _ (List.mem_of_getElem? (i := 56) rfl)⟩
  · exact ⟨⟨by omega, by omega⟩, fun z => absurd z (by omega), fun _ => hN _ (List.mem_of_getElem? (i := 57) rfl)⟩
  · exact ⟨⟨by omega, by omega⟩, fun _ => Or.inl rfl, fun z => absurd (by omega) z⟩
  · exact ⟨⟨by omega, by omega⟩, fun z => absurd z (by omega), fun _ => hN _ (List.mem_of_getElem? (i := 58) rfl)⟩
  · exact ⟨⟨by omega, by omega⟩, fun z => absurd z (by omega), fun _ => hN _ (List.mem_of_getElem? (i := 59) rfl)⟩
  · exact ⟨⟨by omega, by omega⟩, fun z => absurd z (by omega), fun _ => hN _ (List.mem_of_getElem? (i := 60) rfl)⟩
  · exact ⟨⟨by omega, by omega⟩, fun z => absurd z (by omega), fun _ => hN _ (List.mem_of_getElem? (i := 61) rfl)⟩
  · exact ⟨⟨by omega, by omega⟩, fun z => absurd z (by omega), fun _ => hN _ (List.mem_of_getElem? (i := 62) rfl)⟩
  · exact ⟨⟨by omega, by omega⟩, fun z => absurd z (by omega), fun _ => hN _ (List.mem_of_getElem? (i := 63) rfl)⟩
  · exact ⟨⟨by omega, by omega⟩, fun z => absurd z (by omega), fun _ => hN _ (List.mem_of_getElem? (i := 64) rfl)⟩
  · exact ⟨⟨by omega, by omega⟩, fun z => absurd z (by omega), fun _ => hN _ (List.mem_of_getElem? (i := 65) rfl)⟩
  · exact ⟨⟨by omega, by omega⟩, fun z => absurd z (by omega), fun _ => hN _ (List.mem_of_getElem? (i := 66) rfl)⟩
  · exact ⟨⟨by omega, by omega⟩, fun z => absurd z (by omega), fun _ => hN _ (List.mem_of_getElem? (i := 67) rfl)⟩
  · exact ⟨⟨by omega, by omega⟩, fun z => absurd z (by omega), fun _ => hN _ (List.mem_of_getElem? (i := 68) rfl)⟩⟩
theorem ow0_8 {s0 : State} (hN : NCs s0) : ∀ q ∈ ([(186, 71487778), (201, 71486359)] : List (Nat × Nat)), YLk s0 "AlgolHouse" q.1 q.2 := List.forall_mem_cons.mpr ⟨ow0_8_0 hN, List.forall_mem_cons.mpr ⟨ow0_8_1 hN, fun q h => by cases h⟩⟩
theorem ow0_9 : ∀ q ∈ ([(119, 6553601), (126, 7340034), (172, 8650754)] : List (Nat × Nat)), q.2 = ACN ∧ ACk "AlgolHouse" q.1 ∨ q.2 ≠ ACN ∧ SMk "AlgolHouse" q.1 q.2 := List.forall_mem_cons.mpr ⟨Or.inr ⟨by decide, mok_X1_need, np_X1_need, ⟨sm_X1_need, lw_g (lw_at lw_m1 1 rfl) rfl⟩, Or.inl (lw_g (lw_at lw_m14 131 rfl) rfl)⟩, List.forall_mem_cons.mpr ⟨Or.inr ⟨by decide, mok_X1_within, np_X1_within, ⟨sm_X1_within, lw_g (lw_at lw_m1 1 rfl) rfl⟩, Or.inl (lw_g (lw_at lw_m14 169 rfl) rfl)⟩, List.forall_mem_cons.mpr ⟨Or.inr ⟨by decide, mok_X1_walked, np_X1_walked, ⟨sm_X1_walked, lw_g (lw_at lw_m1 1 rfl) rfl⟩, Or.inl (lw_g (lw_at lw_m15 77 rfl) rfl)⟩, fun q h => by cases h⟩⟩⟩
theorem ow0_10 : ∀ q ∈ ([(23, 11806801), (28, 14426177), (35, 164987650), (48, 25702497), (56, 164725505), (81, 100737603), (96, 161561202), (269, 164436530)] : List (Nat × Nat)), IMk "AlgolHouse" q.1 q.2 ∧ ∀ t, inT (q.2 / 16 % 128) (q.2 / 2048 % 128) t → inT 1 55 t := List.forall_mem_cons.mpr ⟨⟨⟨mok_X2_init, np_X2_init, by decide, rfl, im_X2_init, ⟨_, _, rfl⟩, Or.inl (lw_g (lw_at lw_m1 87 rfl) rfl)⟩, fun t ht => ⟨Nat.le_trans (by decide) ht.1, Nat.le_trans ht.2 (by decide)⟩⟩, List.forall_mem_cons.mpr ⟨⟨⟨mok_X3_init, np_X3_init, by decide, rfl, im_X3_init, ⟨_, _, rfl⟩, Or.inr ⟨_, lw_at lw_m1 176 rfl⟩⟩, fun t ht => ⟨Nat.le_trans (by decide) ht.1, Nat.le_trans ht.2 (by decide)⟩⟩, List.forall_mem_cons.mpr ⟨⟨⟨mok_J6_init_2, np_J6_init_2, by decide, rfl, im_J6_init_2, ⟨_, _, rfl⟩, Or.inl (lw_g (lw_at lw_m3 173 rfl) rfl)⟩, fun t ht => ⟨Nat.le_trans (by decide) ht.1, Nat.le_trans ht.2 (by decide)⟩⟩, List.forall_mem_cons.mpr ⟨⟨⟨mok_X7_init, np_X7_init, by decide, rfl, im_X7_init, ⟨_, _, rfl⟩, Or.inl (lw_g (lw_at lw_m3 176 rfl) rfl)⟩, fun t ht => ⟨Nat.le_trans (by decide) ht.1, Nat.le_trans ht.2 (by decide)⟩⟩, List.forall_mem_cons.mpr ⟨⟨⟨mok_J6_init, np_J6_init, by decide, rfl, im_J6_init, ⟨_, _, rfl⟩, Or.inl (lw_g (lw_at lw_m4 121 rfl) rfl)⟩, fun t ht => ⟨Nat.le_trans (by decide) ht.1, Nat.le_trans ht.2 (by decide)⟩⟩, List.forall_mem_cons.mpr ⟨⟨⟨mok_X11_init, np_X11_init, by decide, rfl, im_X11_init, ⟨_, _, rfl⟩, Or.inl (lw_g (lw_at lw_m5 23 rfl) rfl)⟩, fun t ht => ⟨Nat.le_trans (by decide) ht.1, Nat.le_trans ht.2 (by decide)⟩⟩, List.forall_mem_cons.mpr ⟨⟨⟨mok_X43_init, np_X43_init, by decide, rfl, im_X43_init, ⟨_, _, rfl⟩, Or.inl (lw_g (lw_at lw_m14 101 rfl) rfl)⟩, fun t ht => ⟨Nat.le_trans (by decide) ht.1, Nat.le_trans ht.2 (by decide)⟩⟩, List.forall_mem_cons.mpr ⟨⟨⟨mok_X47_init, np_X47_init, by decide, rfl, im_X47_init, ⟨_, _, rfl⟩, Or.inl (lw_g (lw_at lw_m18 71 rfl) rfl)⟩, fun t ht => ⟨Nat.le_trans (by decide) ht.1, Nat.le_trans ht.2 (by decide)⟩⟩, fun q h => by cases h⟩⟩⟩⟩⟩⟩⟩⟩
theorem ow0_11_0 : VMk "AlgolHouse" 3 17309764 := ⟨mok_X3_come, by decide, fun t ht => by
  obtain rfl : t = 4 := Nat.le_antisymm (Nat.le_trans ht.2 (by decide)) (Nat.le_trans (by decide) ht.1)
  exact ⟨⟨by decide, by decide⟩, im_X3_come, Or.inl ⟨np_X3_come, lw_g (lw_at lw_m13 1 rfl) rfl, Or.inl (lw_g (lw_at lw_m13 32 rfl) rfl)⟩⟩⟩
theorem ow0_11_1 : VMk "AlgolHouse" 65 165249793 := ⟨mok_J6_size, by decide, fun t ht => by
  obtain rfl : t = 48 := Nat.le_antisymm (Nat.le_trans ht.2 (by decide)) (Nat.le_trans (by decide) ht.1)
  exact ⟨⟨by decide, by decide⟩, im_J6_size, Or.inl ⟨np_J6_size, lw_g (lw_at lw_m4 167 rfl) rfl, Or.inl (lw_g (lw_at lw_m4 165 rfl) rfl)⟩⟩⟩
theorem ow0_11_2 : VMk "AlgolHouse" 71 12068947 := ⟨mok_X2_read, by decide, fun t ht => by
  obtain rfl : t = 5 := Nat.le_antisymm (Nat.le_trans ht.2 (by decide)) (Nat.le_trans (by decide) ht.1)
  exact ⟨⟨by decide, by decide⟩, im_X2_read, Or.inl ⟨np_X2_read, lw_g (lw_at lw_m4 213 rfl) rfl, Or.inl (lw_g (lw_at lw_m4 211 rfl) rfl)⟩⟩⟩
theorem ow0_11_3 : VMk "AlgolHouse" 84 100999745 := ⟨mok_X11_program, by decide, fun t ht => by
  obtain rfl : t = 36 := Nat.le_antisymm (Nat.le_trans ht.2 (by decide)) (Nat.le_trans (by decide) ht.1)
  exact ⟨⟨by decide, by decide⟩, im_X11_program, Or.inl ⟨np_X11_program, lw_g (lw_at lw_m5 68 rfl) rfl, Or.inl (lw_g (lw_at lw_m5 66 rfl) rfl)⟩⟩⟩
theorem ow0_11_4 : VMk "AlgolHouse" 88 117252673 := ⟨mok_X11_settle, by decide, fun t ht => by
  obtain rfl : t = 36 := Nat.le_antisymm (Nat.le_trans ht.2 (by decide)) (Nat.le_trans (by decide) ht.1)
  exact ⟨⟨by decide, by decide⟩, im_X11_settle, Or.inl ⟨np_X11_settle, lw_g (lw_at lw_m10 213 rfl) rfl, Or.inl (lw_g (lw_at lw_m10 211 rfl) rfl)⟩⟩⟩
theorem ow0_11_5 : VMk "AlgolHouse" 91 14688322 := ⟨mok_X3_judge, by decide, fun t ht => by
  obtain rfl : t = 4 := Nat.le_antisymm (Nat.le_trans ht.2 (by decide)) (Nat.le_trans (by decide) ht.1)
  exact ⟨⟨by decide, by decide⟩, im_X3_judge, Or.inl ⟨np_X3_judge, lw_g (lw_at lw_m11 54 rfl) rfl, Or.inl (lw_g (lw_at lw_m11 52 rfl) rfl)⟩⟩⟩
theorem ow0_11_6 : VMk "AlgolHouse" 98 165774082 := ⟨mok_J6_add, by decide, fun t ht => by
  obtain rfl : t = 48 := Nat.le_antisymm (Nat.le_trans ht.2 (by decide)) (Nat.le_trans (by decide) ht.1)
  exact ⟨⟨by decide, by decide⟩, im_J6_add, Or.inl ⟨np_J6_add, lw_g (lw_at lw_m6 44 rfl) rfl, Or.inl (lw_g (lw_at lw_m14 122 rfl) rfl)⟩⟩⟩
theorem ow0_11_7 : VMk "AlgolHouse" 123 165511937 := ⟨mok_J6_clear, by decide, fun t ht => by
  obtain rfl : t = 48 := Nat.le_antisymm (Nat.le_trans ht.2 (by decide)) (Nat.le_trans (by decide) ht.1)
  exact ⟨⟨by decide, by decide⟩, im_J6_clear, Or.inl ⟨np_J6_clear, lw_g (lw_at lw_m4 175 rfl) rfl, Or.inl (lw_g (lw_at lw_m4 173 rfl) rfl)⟩⟩⟩
theorem ow0_11_8 : VMk "AlgolHouse" 130 166822658 := ⟨mok_J6_get, by decide, fun t ht => by
  obtain rfl : t = 48 := Nat.le_antisymm (Nat.le_trans ht.2 (by decide)) (Nat.le_trans (by decide) ht.1)
  exact ⟨⟨by decide, by decide⟩, im_J6_get, Or.inl ⟨np_J6_get, lw_g (lw_at lw_m7 79 rfl) rfl, Or.inl (lw_g (lw_at lw_m14 187 rfl) rfl)⟩⟩⟩
theorem ow0_11_9 : VMk "AlgolHouse" 134 7079954 := ⟨mok_X1_program, by decide, fun t ht => by
  obtain rfl : t = 1 := Nat.le_antisymm (Nat.le_trans ht.2 (by decide)) (Nat.le_trans (by decide) ht.1)
  exact ⟨⟨by decide, by decide⟩, im_X1_program, Or.inl ⟨np_X1_program, lw_g (lw_ms _ (List.mem_map.mpr ⟨_, List.mem_of_getElem? (i := 95) rfl, rfl⟩)) rfl, Or.inl (lw_g (lw_at lw_m14 165 rfl) rfl)⟩⟩⟩
theorem ow0_11_10 : VMk "AlgolHouse" 142 7866387 := ⟨mok_X1_nodeOf, by decide, fun t ht => by
  obtain rfl : t = 1 := Nat.le_antisymm (Nat.le_trans ht.2 (by decide)) (Nat.le_trans (by decide) ht.1)
  exact ⟨⟨by decide, by decide⟩, im_X1_nodeOf, Or.inl ⟨np_X1_nodeOf, lw_g (lw_ms _ (List.mem_map.mpr ⟨_, List.mem_of_getElem? (i := 96) rfl, rfl⟩)) rfl, Or.inl (lw_g (lw_at lw_m14 195 rfl) rfl)⟩⟩⟩
theorem ow0_11_11 : VMk "AlgolHouse" 150 120918193 := ⟨mok_X12_steps, by decide, fun t ht => by
  rcases tg_11_34 (Nat.le_trans (by decide) ht.1) (Nat.le_trans ht.2 (by decide)) with rfl | rfl | rfl | rfl | rfl | rfl | rfl | rfl | rfl | rfl | rfl | rfl | rfl | rfl | rfl | rfl | rfl | rfl | rfl | rfl | rfl | rfl | rfl | rfl
  · exact ⟨⟨by decide, by decide⟩, im_X12_steps, Or.inl ⟨np_X12_steps, lw_g (lw_at lw_m15 38 rfl) rfl, Or.inl (lw_g (lw_at lw_m15 35 rfl) rfl)⟩⟩
  · exact ⟨⟨by decide, by decide⟩, im_X12_steps, Or.inl ⟨np_X12_steps, lw_g (lw_at lw_m15 39 rfl) rfl, Or.inl (lw_g (lw_at lw_m15 35 rfl) rfl)⟩⟩
  · exact ⟨⟨by decide, by decide⟩, im_X12_steps, Or.inl ⟨np_X12_steps, lw_g (lw_at lw_m15 41 rfl) rfl, Or.inl (lw_g (lw_at lw_m15 35 rfl) rfl)⟩⟩
  · exact ⟨⟨by decide, by decide⟩, im_X12_steps, Or.inl ⟨np_X12_steps, lw_g (lw_at lw_m15 46 rfl) rfl, Or.inl (lw_g (lw_at lw_m15 35 rfl) rfl)⟩⟩
  · exact ⟨⟨by decide, by decide⟩, im_X12_steps, Or.inl ⟨np_X12_steps, lw_g (lw_at lw_m15 51 rfl) rfl, Or.inl (lw_g (lw_at lw_m15 35 rfl) rfl)⟩⟩
  · exact ⟨⟨by decide, by decide⟩, im_X12_steps, Or.inl ⟨np_X12_steps, lw_g (lw_at lw_m15 60 rfl) rfl, Or.inl (lw_g (lw_at lw_m15 35 rfl) rfl)⟩⟩
  · exact ⟨⟨by decide, by decide⟩, im_X12_steps, Or.inl ⟨np_X12_steps, lw_g (lw_at lw_m15 42 rfl) rfl, Or.inl (lw_g (lw_at lw_m15 35 rfl) rfl)⟩⟩
  · exact ⟨⟨by decide, by decide⟩, im_X12_steps, Or.inl ⟨np_X12_steps, lw_g (lw_at lw_m15 43 rfl) rfl, Or.inl (lw_g (lw_at lw_m15 35 rfl) rfl)⟩⟩
  · exact ⟨⟨by decide, by decide⟩, im_X12_steps, Or.inl ⟨np_X12_steps, lw_g (lw_at lw_m15 40 rfl) rfl, Or.inl (lw_g (lw_at lw_m15 35 rfl) rfl)⟩⟩
  · exact ⟨⟨by decide, by decide⟩, im_X12_steps, Or.inl ⟨np_X12_steps, lw_g (lw_at lw_m15 47 rfl) rfl, Or.inl (lw_g (lw_at lw_m15 35 rfl) rfl)⟩⟩
  · exact ⟨⟨by decide, by decide⟩, im_X12_steps, Or.inl ⟨np_X12_steps, lw_g (lw_at lw_m15 56 rfl) rfl, Or.inl (lw_g (lw_at lw_m15 35 rfl) rfl)⟩⟩
  · exact ⟨⟨by decide, by decide⟩, im_X12_steps, Or.inl ⟨np_X12_steps, lw_g (lw_at lw_m15 61 rfl) rfl, Or.inl (lw_g (lw_at lw_m15 35 rfl) rfl)⟩⟩
  · exact ⟨⟨by decide, by decide⟩, im_X12_steps, Or.inl ⟨np_X12_steps, lw_g (lw_at lw_m15 44 rfl) rfl, Or.inl (lw_g (lw_at lw_m15 35 rfl) rfl)⟩⟩
  · exact ⟨⟨by decide, by decide⟩, im_X12_steps, Or.inl ⟨np_X12_steps, lw_g (lw_at lw_m15 45 rfl) rfl, Or.inl (lw_g (lw_at lw_m15 35 rfl) rfl)⟩⟩
  · exact ⟨⟨by decide, by decide⟩, im_X12_steps, Or.inl ⟨np_X12_steps, lw_g (lw_at lw_m15 48 rfl) rfl, Or.inl (lw_g (lw_at lw_m15 35 rfl) rfl)⟩⟩
  · exact ⟨⟨by decide, by decide⟩, im_X12_steps, Or.inl ⟨np_X12_steps, lw_g (lw_at lw_m15 49 rfl) rfl, Or.inl (lw_g (lw_at lw_m15 35 rfl) rfl)⟩⟩
  · exact ⟨⟨by decide, by decide⟩, im_X12_steps, Or.inl ⟨np_X12_steps, lw_g (lw_at lw_m15 50 rfl) rfl, Or.inl (lw_g (lw_at lw_m15 35 rfl) rfl)⟩⟩
  · exact ⟨⟨by decide, by decide⟩, im_X12_steps, Or.inl ⟨np_X12_steps, lw_g (lw_at lw_m15 52 rfl) rfl, Or.inl (lw_g (lw_at lw_m15 35 rfl) rfl)⟩⟩
  · exact ⟨⟨by decide, by decide⟩, im_X12_steps, Or.inl ⟨np_X12_steps, lw_g (lw_at lw_m15 53 rfl) rfl, Or.inl (lw_g (lw_at lw_m15 35 rfl) rfl)⟩⟩
  · exact ⟨⟨by decide, by decide⟩, im_X12_steps, Or.inl ⟨np_X12_steps, lw_g (lw_at lw_m15 54 rfl) rfl, Or.inl (lw_g (lw_at lw_m15 35 rfl) rfl)⟩⟩
  · exact ⟨⟨by decide, by decide⟩, im_X12_steps, Or.inl ⟨np_X12_steps, lw_g (lw_at lw_m15 55 rfl) rfl, Or.inl (lw_g (lw_at lw_m15 35 rfl) rfl)⟩⟩
  · exact ⟨⟨by decide, by decide⟩, im_X12_steps, Or.inl ⟨np_X12_steps, lw_g (lw_at lw_m15 57 rfl) rfl, Or.inl (lw_g (lw_at lw_m15 35 rfl) rfl)⟩⟩
  · exact ⟨⟨by decide, by decide⟩, im_X12_steps, Or.inl ⟨np_X12_steps, lw_g (lw_at lw_m15 58 rfl) rfl, Or.inl (lw_g (lw_at lw_m15 35 rfl) rfl)⟩⟩
  · exact ⟨⟨by decide, by decide⟩, im_X12_steps, Or.inl ⟨np_X12_steps, lw_g (lw_at lw_m15 59 rfl) rfl, Or.inl (lw_g (lw_at lw_m15 35 rfl) rfl)⟩⟩⟩
theorem ow0_11_12 : VMk "AlgolHouse" 159 24922257 := ⟨mok_X6_real, by decide, fun t ht => by
  obtain rfl : t = 9 := Nat.le_antisymm (Nat.le_trans ht.2 (by decide)) (Nat.le_trans (by decide) ht.1)
  exact ⟨⟨by decide, by decide⟩, im_X6_real, Or.inl ⟨np_X6_real, lw_g (lw_at lw_m11 4 rfl) rfl, Or.inl (lw_g (lw_at lw_m15 80 rfl) rfl)⟩⟩⟩
theorem ow0_11_13 : VMk "AlgolHouse" 176 18895010 := ⟨mok_X4_unlike, by decide, fun t ht => by
  obtain rfl : t = 10 := Nat.le_antisymm (Nat.le_trans ht.2 (by decide)) (Nat.le_trans (by decide) ht.1)
  exact ⟨⟨by decide, by decide⟩, im_X4_unlike, Or.inl ⟨np_X4_unlike, lw_g (lw_at lw_m10 229 rfl) rfl, Or.inl (lw_g (lw_at lw_m15 89 rfl) rfl)⟩⟩⟩
theorem ow0_11_14 : VMk "AlgolHouse" 182 19681443 := ⟨mok_X4_one, by decide, fun t ht => by
  obtain rfl : t = 10 := Nat.le_antisymm (Nat.le_trans ht.2 (by decide)) (Nat.le_trans (by decide) ht.1)
  exact ⟨⟨by decide, by decide⟩, im_X4_one, Or.inl ⟨np_X4_one, lw_g (lw_at lw_m11 9 rfl) rfl, Or.inl (lw_g (lw_at lw_m15 97 rfl) rfl)⟩⟩⟩
theorem ow0_11_15 : VMk "AlgolHouse" 210 25964642 := ⟨mok_X7_seed, by decide, fun t ht => by
  obtain rfl : t = 6 := Nat.le_antisymm (Nat.le_trans ht.2 (by decide)) (Nat.le_trans (by decide) ht.1)
  exact ⟨⟨by decide, by decide⟩, im_X7_seed, Or.inl ⟨np_X7_seed, lw_g (lw_at lw_m15 116 rfl) rfl, Or.inl (lw_g (lw_at lw_m15 114 rfl) rfl)⟩⟩⟩
theorem ow0_11_16 : VMk "AlgolHouse" 217 26226787 := ⟨mok_X7_run, by decide, fun t ht => by
  obtain rfl : t = 6 := Nat.le_antisymm (Nat.le_trans ht.2 (by decide)) (Nat.le_trans (by decide) ht.1)
  exact ⟨⟨by decide, by decide⟩, im_X7_run, Or.inl ⟨np_X7_run, lw_g (lw_at lw_m15 120 rfl) rfl, Or.inl (lw_g (lw_at lw_m15 118 rfl) rfl)⟩⟩⟩
theorem ow0_11_17 : VMk "AlgolHouse" 249 35401825 := ⟨mok_X7_beginTries, by decide, fun t ht => by
  obtain rfl : t = 6 := Nat.le_antisymm (Nat.le_trans ht.2 (by decide)) (Nat.le_trans (by decide) ht.1)
  exact ⟨⟨by decide, by decide⟩, im_X7_beginTries, Or.inl ⟨np_X7_beginTries, lw_g (lw_at lw_m18 59 rfl) rfl, Or.inl (lw_g (lw_at lw_m18 57 rfl) rfl)⟩⟩⟩
theorem ow0_11_18 : VMk "AlgolHouse" 252 11012114 := ⟨mok_X1_counts, by decide, fun t ht => by
  obtain rfl : t = 1 := Nat.le_antisymm (Nat.le_trans ht.2 (by decide)) (Nat.le_trans (by decide) ht.1)
  exact ⟨⟨by decide, by decide⟩, im_X1_counts, Or.inl ⟨np_X1_counts, lw_g (lw_ms _ (List.mem_map.mpr ⟨_, List.mem_of_getElem? (i := 113) rfl, rfl⟩)) rfl, Or.inl (lw_g (lw_at lw_m18 61 rfl) rfl)⟩⟩⟩
theorem ow0_11_19 : VMk "AlgolHouse" 256 35663969 := ⟨mok_X7_goesOn, by decide, fun t ht => by
  obtain rfl : t = 6 := Nat.le_antisymm (Nat.le_trans ht.2 (by decide)) (Nat.le_trans (by decide) ht.1)
  exact ⟨⟨by decide, by decide⟩, im_X7_goesOn, Or.inl ⟨np_X7_goesOn, lw_g (lw_at lw_m18 98 rfl) rfl, Or.inl (lw_g (lw_at lw_m18 96 rfl) rfl)⟩⟩⟩
theorem ow0_11_20 : VMk "AlgolHouse" 262 164174386 := ⟨mok_X47_is, by decide, fun t ht => by
  obtain rfl : t = 35 := Nat.le_antisymm (Nat.le_trans ht.2 (by decide)) (Nat.le_trans (by decide) ht.1)
  exact ⟨⟨by decide, by decide⟩, im_X47_is, Or.inl ⟨np_X47_is, lw_g (lw_at lw_m18 68 rfl) rfl, Or.inl (lw_g (lw_at lw_m18 66 rfl) rfl)⟩⟩⟩
theorem ow0_11 : ∀ q ∈ ([(3, 17309764), (65, 165249793), (71, 12068947), (84, 100999745), (88, 117252673), (91, 14688322), (98, 165774082), (123, 165511937), (130, 166822658), (134, 7079954), (142, 7866387), (150, 120918193), (159, 24922257), (176, 18895010), (182, 19681443), (210, 25964642), (217, 26226787), (249, 35401825), (252, 11012114), (256, 35663969), (262, 164174386)] : List (Nat × Nat)), VMk "AlgolHouse" q.1 q.2 := List.forall_mem_cons.mpr ⟨ow0_11_0, List.forall_mem_cons.mpr ⟨ow0_11_1, List.forall_mem_cons.mpr ⟨ow0_11_2, List.forall_mem_cons.mpr ⟨ow0_11_3, List.forall_mem_cons.mpr ⟨ow0_11_4, List.forall_mem_cons.mpr ⟨ow0_11_5, List.forall_mem_cons.mpr ⟨ow0_11_6, List.forall_mem_cons.mpr ⟨ow0_11_7, List.forall_mem_cons.mpr ⟨ow0_11_8, List.forall_mem_cons.mpr ⟨ow0_11_9, List.forall_mem_cons.mpr ⟨ow0_11_10, List.forall_mem_cons.mpr ⟨ow0_11_11, List.forall_mem_cons.mpr ⟨ow0_11_12, List.forall_mem_cons.mpr ⟨ow0_11_13, List.forall_mem_cons.mpr ⟨ow0_11_14, List.forall_mem_cons.mpr ⟨ow0_11_15, List.forall_mem_cons.mpr ⟨ow0_11_16, List.forall_mem_cons.mpr ⟨ow0_11_17, List.forall_mem_cons.mpr ⟨ow0_11_18, List.forall_mem_cons.mpr ⟨ow0_11_19, List.forall_mem_cons.mpr ⟨ow0_11_20, fun q h => by cases h⟩⟩⟩⟩⟩⟩⟩⟩⟩⟩⟩⟩⟩⟩⟩⟩⟩⟩⟩⟩⟩
theorem ow0_12_0 : PMk "AlgolHouse" 146 0 1 := ⟨by decide, fun t m h => by
  rcases dsp_0 h with ⟨rfl, rfl⟩ | ⟨rfl, rfl⟩ | ⟨rfl, rfl⟩ | ⟨rfl, rfl⟩ | ⟨rfl, rfl⟩ | ⟨rfl, rfl⟩ | ⟨rfl, rfl⟩ | ⟨rfl, rfl⟩ | ⟨rfl, rfl⟩ | ⟨rfl, rfl⟩ | ⟨rfl, rfl⟩ | ⟨rfl, rfl⟩ | ⟨rfl, rfl⟩ | ⟨rfl, rfl⟩ | ⟨rfl, rfl⟩ | ⟨rfl, rfl⟩ | ⟨rfl, rfl⟩ | ⟨rfl, rfl⟩ | ⟨rfl, rfl⟩ | ⟨rfl, rfl⟩ | ⟨rfl, rfl⟩ | ⟨rfl, rfl⟩ | ⟨rfl, rfl⟩ | ⟨rfl, rfl⟩
  · exact ⟨mok_X35_kind, ⟨by decide, by decide⟩, im_X35_kind, Or.inr ⟨⟨"AlgolHouse$Node", "kind", "()I"⟩, "AlgolHouse$Node", by decide +kernel, lw_g (lw_at lw_m14 200 rfl) rfl, lw_g (lw_at lw_m14 202 rfl) rfl, Or.inl (lw_at lw_m14 201 rfl), ⟨by decide +kernel, by decide +kernel⟩, lw_g (lw_at lw_m14 203 rfl) rfl⟩⟩
  · exact ⟨mok_X22_kind, ⟨by decide, by decide⟩, im_X22_kind, Or.inr ⟨⟨"AlgolHouse$Node", "kind", "()I"⟩, "AlgolHouse$Node", by decide +kernel, lw_g (lw_at lw_m14 200 rfl) rfl, lw_g (lw_at lw_m14 202 rfl) rfl, Or.inl (lw_at lw_m14 201 rfl), ⟨by decide +kernel, by decide +kernel⟩, lw_g (lw_at lw_m14 206 rfl) rfl⟩⟩
  · exact ⟨mok_X21_kind, ⟨by decide, by decide⟩, im_X21_kind, Or.inr ⟨⟨"AlgolHouse$Node", "kind", "()I"⟩, "AlgolHouse$Node", by decide +kernel, lw_g (lw_at lw_m14 200 rfl) rfl, lw_g (lw_at lw_m14 202 rfl) rfl, Or.inl (lw_at lw_m14 201 rfl), ⟨by decide +kernel, by decide +kernel⟩, lw_g (lw_at lw_m14 212 rfl) rfl⟩⟩
  · exact ⟨mok_X20_kind, ⟨by decide, by decide⟩, im_X20_kind, Or.inr ⟨⟨"AlgolHouse$Node", "kind", "()I"⟩, "AlgolHouse$Node", by decide +kernel, lw_g (lw_at lw_m14 200 rfl) rfl, lw_g (lw_at lw_m14 202 rfl) rfl, Or.inl (lw_at lw_m14 201 rfl), ⟨by decide +kernel, by decide +kernel⟩, lw_g (lw_at lw_m14 227 rfl) rfl⟩⟩
  · exact ⟨mok_X38_kind, ⟨by decide, by decide⟩, im_X38_kind, Or.inr ⟨⟨"AlgolHouse$Node", "kind", "()I"⟩, "AlgolHouse$Node", by decide +kernel, lw_g (lw_at lw_m14 200 rfl) rfl, lw_g (lw_at lw_m14 202 rfl) rfl, Or.inl (lw_at lw_m14 201 rfl), ⟨by decide +kernel, by decide +kernel⟩, lw_g (lw_at lw_m15 2 rfl) rfl⟩⟩
  · exact ⟨mok_X39_kind, ⟨by decide, by decide⟩, im_X39_kind, Or.inr ⟨⟨"AlgolHouse$Node", "kind", "()I"⟩, "AlgolHouse$Node", by decide +kernel, lw_g (lw_at lw_m14 200 rfl) rfl, lw_g (lw_at lw_m14 202 rfl) rfl, Or.inl (lw_at lw_m14 201 rfl), ⟨by decide +kernel, by decide +kernel⟩, lw_g (lw_at lw_m15 29 rfl) rfl⟩⟩
  · exact ⟨mok_X16_kind, ⟨by decide, by decide⟩, im_X16_kind, Or.inr ⟨⟨"AlgolHouse$Node", "kind", "()I"⟩, "AlgolHouse$Node", by decide +kernel, lw_g (lw_at lw_m14 200 rfl) rfl, lw_g (lw_at lw_m14 202 rfl) rfl, Or.inl (lw_at lw_m14 201 rfl), ⟨by decide +kernel, by decide +kernel⟩, lw_g (lw_at lw_m14 215 rfl) rfl⟩⟩
  · exact ⟨mok_X25_kind, ⟨by decide, by decide⟩, im_X25_kind, Or.inr ⟨⟨"AlgolHouse$Node", "kind", "()I"⟩, "AlgolHouse$Node", by decide +kernel, lw_g (lw_at lw_m14 200 rfl) rfl, lw_g (lw_at lw_m14 202 rfl) rfl, Or.inl (lw_at lw_m14 201 rfl), ⟨by decide +kernel, by decide +kernel⟩, lw_g (lw_at lw_m14 218 rfl) rfl⟩⟩
  · exact ⟨mok_X32_kind, ⟨by decide, by decide⟩, im_X32_kind, Or.inr ⟨⟨"AlgolHouse$Node", "kind", "()I"⟩, "AlgolHouse$Node", by decide +kernel, lw_g (lw_at lw_m14 200 rfl) rfl, lw_g (lw_at lw_m14 202 rfl) rfl, Or.inl (lw_at lw_m14 201 rfl), ⟨by decide +kernel, by decide +kernel⟩, lw_g (lw_at lw_m14 209 rfl) rfl⟩⟩
  · exact ⟨mok_X30_kind, ⟨by decide, by decide⟩, im_X30_kind, Or.inr ⟨⟨"AlgolHouse$Node", "kind", "()I"⟩, "AlgolHouse$Node", by decide +kernel, lw_g (lw_at lw_m14 200 rfl) rfl, lw_g (lw_at lw_m14 202 rfl) rfl, Or.inl (lw_at lw_m14 201 rfl), ⟨by decide +kernel, by decide +kernel⟩, lw_g (lw_at lw_m14 230 rfl) rfl⟩⟩
  · exact ⟨mok_X14_kind, ⟨by decide, by decide⟩, im_X14_kind, Or.inr ⟨⟨"AlgolHouse$Node", "kind", "()I"⟩, "AlgolHouse$Node", by decide +kernel, lw_g (lw_at lw_m14 200 rfl) rfl, lw_g (lw_at lw_m14 202 rfl) rfl, Or.inl (lw_at lw_m14 201 rfl), ⟨by decide +kernel, by decide +kernel⟩, lw_g (lw_at lw_m15 17 rfl) rfl⟩⟩
  · exact ⟨mok_X31_kind, ⟨by decide, by decide⟩, im_X31_kind, Or.inr ⟨⟨"AlgolHouse$Node", "kind", "()I"⟩, "AlgolHouse$Node", by decide +kernel, lw_g (lw_at lw_m14 200 rfl) rfl, lw_g (lw_at lw_m14 202 rfl) rfl, Or.inl (lw_at lw_m14 201 rfl), ⟨by decide +kernel, by decide +kernel⟩, lw_g (lw_at lw_m15 32 rfl) rfl⟩⟩
  · exact ⟨mok_X24_kind, ⟨by decide, by decide⟩, im_X24_kind, Or.inr ⟨⟨"AlgolHouse$Node", "kind", "()I"⟩, "AlgolHouse$Node", by decide +kernel, lw_g (lw_at lw_m14 200 rfl) rfl, lw_g (lw_at lw_m14 202 rfl) rfl, Or.inl (lw_at lw_m14 201 rfl), ⟨by decide +kernel, by decide +kernel⟩, lw_g (lw_at lw_m14 221 rfl) rfl⟩⟩
  · exact ⟨mok_X27_kind, ⟨by decide, by decide⟩, im_X27_kind, Or.inr ⟨⟨"AlgolHouse$Node", "kind", "()I"⟩, "AlgolHouse$Node", by decide +kernel, lw_g (lw_at lw_m14 200 rfl) rfl, lw_g (lw_at lw_m14 202 rfl) rfl, Or.inl (lw_at lw_m14 201 rfl), ⟨by decide +kernel, by decide +kernel⟩, lw_g (lw_at lw_m14 224 rfl) rfl⟩⟩
  · exact ⟨mok_X36_kind, ⟨by decide, by decide⟩, im_X36_kind, Or.inr ⟨⟨"AlgolHouse$Node", "kind", "()I"⟩, "AlgolHouse$Node", by decide +kernel, lw_g (lw_at lw_m14 200 rfl) rfl, lw_g (lw_at lw_m14 202 rfl) rfl, Or.inl (lw_at lw_m14 201 rfl), ⟨by decide +kernel, by decide +kernel⟩, lw_g (lw_at lw_m14 233 rfl) rfl⟩⟩
  · exact ⟨mok_X34_kind, ⟨by decide, by decide⟩, im_X34_kind, Or.inr ⟨⟨"AlgolHouse$Node", "kind", "()I"⟩, "AlgolHouse$Node", by decide +kernel, lw_g (lw_at lw_m14 200 rfl) rfl, lw_g (lw_at lw_m14 202 rfl) rfl, Or.inl (lw_at lw_m14 201 rfl), ⟨by decide +kernel, by decide +kernel⟩, lw_g (lw_at lw_m14 236 rfl) rfl⟩⟩
  · exact ⟨mok_X37_kind, ⟨by decide, by decide⟩, im_X37_kind, Or.inr ⟨⟨"AlgolHouse$Node", "kind", "()I"⟩, "AlgolHouse$Node", by decide +kernel, lw_g (lw_at lw_m14 200 rfl) rfl, lw_g (lw_at lw_m14 202 rfl) rfl, Or.inl (lw_at lw_m14 201 rfl), ⟨by decide +kernel, by decide +kernel⟩, lw_g (lw_at lw_m14 239 rfl) rfl⟩⟩
  · exact ⟨mok_X28_kind, ⟨by decide, by decide⟩, im_X28_kind, Or.inr ⟨⟨"AlgolHouse$Node", "kind", "()I"⟩, "AlgolHouse$Node", by decide +kernel, lw_g (lw_at lw_m14 200 rfl) rfl, lw_g (lw_at lw_m14 202 rfl) rfl, Or.inl (lw_at lw_m14 201 rfl), ⟨by decide +kernel, by decide +kernel⟩, lw_g (lw_at lw_m15 5 rfl) rfl⟩⟩
  · exact ⟨mok_X33_kind, ⟨by decide, by decide⟩, im_X33_kind, Or.inr ⟨⟨"AlgolHouse$Node", "kind", "()I"⟩, "AlgolHouse$Node", by decide +kernel, lw_g (lw_at lw_m14 200 rfl) rfl, lw_g (lw_at lw_m14 202 rfl) rfl, Or.inl (lw_at lw_m14 201 rfl), ⟨by decide +kernel, by decide +kernel⟩, lw_g (lw_at lw_m15 8 rfl) rfl⟩⟩
  · exact ⟨mok_X17_kind, ⟨by decide, by decide⟩, im_X17_kind, Or.inr ⟨⟨"AlgolHouse$Node", "kind", "()I"⟩, "AlgolHouse$Node", by decide +kernel, lw_g (lw_at lw_m14 200 rfl) rfl, lw_g (lw_at lw_m14 202 rfl) rfl, Or.inl (lw_at lw_m14 201 rfl), ⟨by decide +kernel, by decide +kernel⟩, lw_g (lw_at lw_m15 11 rfl) rfl⟩⟩
  · exact ⟨mok_X26_kind, ⟨by decide, by decide⟩, im_X26_kind, Or.inr ⟨⟨"AlgolHouse$Node", "kind", "()I"⟩, "AlgolHouse$Node", by decide +kernel, lw_g (lw_at lw_m14 200 rfl) rfl, lw_g (lw_at lw_m14 202 rfl) rfl, Or.inl (lw_at lw_m14 201 rfl), ⟨by decide +kernel, by decide +kernel⟩, lw_g (lw_at lw_m15 14 rfl) rfl⟩⟩
  · exact ⟨mok_X15_kind, ⟨by decide, by decide⟩, im_X15_kind, Or.inr ⟨⟨"AlgolHouse$Node", "kind", "()I"⟩, "AlgolHouse$Node", by decide +kernel, lw_g (lw_at lw_m14 200 rfl) rfl, lw_g (lw_at lw_m14 202 rfl) rfl, Or.inl (lw_at lw_m14 201 rfl), ⟨by decide +kernel, by decide +kernel⟩, lw_g (lw_at lw_m15 20 rfl) rfl⟩⟩
  · exact ⟨mok_X23_kind, ⟨by decide, by decide⟩, im_X23_kind, Or.inr ⟨⟨"AlgolHouse$Node", "kind", "()I"⟩, "AlgolHouse$Node", by decide +kernel, lw_g (lw_at lw_m14 200 rfl) rfl, lw_g (lw_at lw_m14 202 rfl) rfl, Or.inl (lw_at lw_m14 201 rfl), ⟨by decide +kernel, by decide +kernel⟩, lw_g (lw_at lw_m15 23 rfl) rfl⟩⟩
  · exact ⟨mok_X29_kind, ⟨by decide, by decide⟩, im_X29_kind, Or.inr ⟨⟨"AlgolHouse$Node", "kind", "()I"⟩, "AlgolHouse$Node", by decide +kernel, lw_g (lw_at lw_m14 200 rfl) rfl, lw_g (lw_at lw_m14 202 rfl) rfl, Or.inl (lw_at lw_m14 201 rfl), ⟨by decide +kernel, by decide +kernel⟩, lw_g (lw_at lw_m15 26 rfl) rfl⟩⟩⟩
theorem ow0_12 : ∀ q ∈ ([(146, 0)] : List (Nat × Nat)), ∀ n, pN q.2 n → PMk "AlgolHouse" q.1 q.2 n := List.forall_mem_cons.mpr ⟨(fun n hn => by cases hn; exact ow0_12_0), fun q h => by cases h⟩
theorem ow0_13 : ∀ q ∈ ([(11, 0)] : List (Nat × Nat)), Cond.methodLink "AlgolHouse" q.1 Lib.objectInit ∈ lw_all := List.forall_mem_cons.mpr ⟨lw_g (lw_at lw_m1 82 rfl) rfl, fun q h => by cases h⟩
theorem ow0_14 : ∀ q ∈ ([] : List (Nat × Nat)), JMk "AlgolHouse" q.1 q.2 := fun q h => by cases h
theorem ow0_15 : ∀ q ∈ ([(68, 46), (113, 45), (116, 47)] : List (Nat × Nat)), exT q.2 ∧ NLk "AlgolHouse" q.1 q.2 := List.forall_mem_cons.mpr ⟨⟨⟨by decide, by decide⟩, lw_g (lw_at lw_m4 190 rfl) rfl, lw_g (lw_at lw_m4 191 rfl) rfl, lw_g (lw_at lw_m1 30 rfl) rfl⟩, List.forall_mem_cons.mpr ⟨⟨⟨by decide, by decide⟩, lw_g (lw_at lw_m14 134 rfl) rfl, lw_g (lw_at lw_m2 20 rfl) rfl, lw_g (lw_at lw_m1 17 rfl) rfl⟩, List.forall_mem_cons.mpr ⟨⟨⟨by decide, by decide⟩, lw_g (lw_at lw_m14 172 rfl) rfl, lw_g (lw_at lw_m14 173 rfl) rfl, lw_g (lw_at lw_m1 71 rfl) rfl⟩, fun q h => by cases h⟩⟩⟩
theorem ow0_16 : ∀ q ∈ ([(70, 46), (115, 45), (118, 47)] : List (Nat × Nat)), exT q.2 ∧ Cond.methodLink "AlgolHouse" q.1 ⟨cN q.2, "<init>", "()V"⟩ ∈ lw_all := List.forall_mem_cons.mpr ⟨⟨⟨by decide, by decide⟩, lw_g (lw_at lw_m4 199 rfl) rfl⟩, List.forall_mem_cons.mpr ⟨⟨⟨by decide, by decide⟩, lw_g (lw_at lw_m14 135 rfl) rfl⟩, List.forall_mem_cons.mpr ⟨⟨⟨by decide, by decide⟩, lw_g (lw_at lw_m14 181 rfl) rfl⟩, fun q h => by cases h⟩⟩⟩
def Om0 : Om := [[(17, 66054), (24, 16843270), (29, 25231878), (38, 33620486), (42, 50397700), (49, 58786310), (53, 67174918), (57, 83952134), (62, 8454660), (77, 235145234), (104, 3509344432), (107, 42009092), (110, 3517733040), (137, 1487359646), (148, 740443180), (149, 799163436), (153, 773997614), (155, 757220398), (165, 638128676), (166, 671683110), (169, 646517286), (188, 1226982538), (192, 604508190), (198, 790774828), (203, 1008152158), (207, 604508190), (214, 1478971038), (221, 75563527), (225, 512101400), (228, 503712792), (231, 486935578), (235, 495324186), (238, 520490008), (241, 470158360), (243, 419826712), (246, 461769752), (266, 1268991628), (272, 1235437196), (273, 1243825804), (274, 1252214414)], [(42, 50397700), (57, 83952134), (62, 8454660), (107, 42009092), (221, 75563527), (266, 1268991628)], [(17, 66054), (24, 16843270), (29, 25231878), (38, 33620486), (49, 58786310), (53, 67174918)], [], [], [(4, 4), (21, 5), (33, 48), (46, 6), (75, 36), (94, 39), (260, 35)], [], [(94, 5031), (140, 4363), (160, 1161), (186, 4386), (201, 2967), (260, 4515)], [(186, 71487778), (201, 71486359)], [(119, 6553601), (126, 7340034), (172, 8650754)], [(23, 11806801), (28, 14426177), (35, 164987650), (48, 25702497), (56, 164725505), (81, 100737603), (96, 161561202), (269, 164436530)], [(3, 17309764), (65, 165249793), (71, 12068947), (84, 100999745), (88, 117252673), (91, 14688322), (98, 165774082), (123, 165511937), (130, 166822658), (134, 7079954), (142, 7866387), (150, 120918193), (159, 24922257), (176, 18895010), (182, 19681443), (210, 25964642), (217, 26226787), (249, 35401825), (252, 11012114), (256, 35663969), (262, 164174386)], [(146, 0)], [(11, 0)], [], [(68, 46), (113, 45), (116, 47)], [(70, 46), (115, 45), (118, 47)]]
def Ok0 : List (Nat × Int) := []
def Ol0 : List (Nat × Int) := [(9, 4611686018427387904), (60, 255)]
theorem ow0 {s0 : State} (hN : NCs s0) : OwnOK s0 "AlgolHouse" Om0 Ok0 Ol0 := ⟨ow0_k, ow0_l, ow0_0, ow0_1, ow0_2, ow0_3, ow0_4, ow0_5, ow0_6, ow0_7, ow0_8 hN, ow0_9, ow0_10, ow0_11, ow0_12, ow0_13, ow0_14, ow0_15, ow0_16⟩
theorem ow1_k : ∀ q ∈ ([] : List (Nat × Int)), Cond.constant "AlgolHouse$Assignation" q.1 (Int32.ofInt q.2) ∈ lw_all := fun q h => by cases h
theorem ow1_l : ∀ q ∈ ([] : List (Nat × Int)), Cond.constantLong "AlgolHouse$Assignation" q.1 (Int64.ofInt q.2) ∈ lw_all := fun q h => by cases h
theorem ow1_0 : ∀ q ∈ ([(19, 757220398), (23, 671683110), (38, 134415886), (44, 740443180)] : List (Nat × Nat)), q.2 ∈ iFs ∧ FLk "AlgolHouse$Assignation" q.1 q.2 := List.forall_mem_cons.mpr ⟨⟨List.mem_of_getElem? (i := 90) rfl, ⟨"AlgolHouse$Assignation", Or.inl (lw_g (lw_at lw_m5 164 rfl) rfl), Or.inr (lw_g (lw_at lw_m5 165 rfl) rfl)⟩⟩, List.forall_mem_cons.mpr ⟨⟨List.mem_of_getElem? (i := 80) rfl, ⟨"AlgolHouse$Mode", Or.inr ⟨_, lw_at lw_m3 95 rfl⟩, Or.inl rfl⟩⟩, List.forall_mem_cons.mpr ⟨⟨List.mem_of_getElem? (i := 16) rfl, ⟨"AlgolHouse$Frame", Or.inr ⟨_, lw_at lw_m15 164 rfl⟩, Or.inl rfl⟩⟩, List.forall_mem_cons.mpr ⟨⟨List.mem_of_getElem? (i := 88) rfl, ⟨"AlgolHouse$Assignation", Or.inl (lw_g (lw_at lw_m5 103 rfl) rfl), Or.inr (lw_g (lw_at lw_m5 104 rfl) rfl)⟩⟩, fun q h => by cases h⟩⟩⟩⟩
theorem ow1_1 : ∀ q ∈ ([(19, 757220398)] : List (Nat × Nat)), q.2 ∈ iFs ∧ PLk "AlgolHouse$Assignation" q.1 q.2 := List.forall_mem_cons.mpr ⟨⟨List.mem_of_getElem? (i := 90) rfl, ⟨"AlgolHouse$Assignation", Or.inl (lw_g (lw_at lw_m5 164 rfl) rfl), Or.inr (lw_g (lw_at lw_m5 165 rfl) rfl)⟩, rfl⟩, fun q h => by cases h⟩
theorem ow1_2 : ∀ q ∈ ([] : List (Nat × Nat)), q.2 ∈ iFs ∧ PFk "AlgolHouse$Assignation" q.1 q.2 := fun q h => by cases h
theorem ow1_3 : ∀ q ∈ ([] : List (Nat × Nat)), q.2 ∈ sFs ∧ FLk "AlgolHouse$Assignation" q.1 q.2 := fun q h => by cases h
theorem ow1_4 : ∀ q ∈ ([] : List (Nat × Nat)), TLk "AlgolHouse$Assignation" q.1 q.2 ∧ q.2 % 4 = 2 := fun q h => by cases h
theorem ow1_5 : ∀ q ∈ ([] : List (Nat × Nat)), mdT q.2 = true ∧ NLk "AlgolHouse$Assignation" q.1 q.2 := fun q h => by cases h
theorem ow1_6 : ∀ q ∈ ([] : List (Nat × Nat)), mdA q.2 = true ∧ ak q.2 = 2 ∧ ALk "AlgolHouse$Assignation" q.1 q.2 := fun q h => by cases h
theorem ow1_7 : ∀ q ∈ ([] : List (Nat × Nat)), XLk "AlgolHouse$Assignation" q.1 q.2 := fun q h => by cases h
theorem ow1_8 {s0 : State} (hN : NCs s0) : ∀ q ∈ ([] : List (Nat × Nat)), YLk s0 "AlgolHouse$Assignation" q.1 q.2 := fun q h => by cases h
theorem ow1_9 : ∀ q ∈ ([] : List (Nat × Nat)), q.2 = ACN ∧ ACk "AlgolHouse$Assignation" q.1 ∨ q.2 ≠ ACN ∧ SMk "AlgolHouse$Assignation" q.1 q.2 := fun q h => by cases h
theorem ow1_10 : ∀ q ∈ ([(1, 118034610)] : List (Nat × Nat)), IMk "AlgolHouse$Assignation" q.1 q.2 ∧ ∀ t, inT (q.2 / 16 % 128) (q.2 / 2048 % 128) t → inT 1 55 t := List.forall_mem_cons.mpr ⟨⟨⟨mok_X12_init, np_X12_init, by decide, rfl, im_X12_init, ⟨_, _, rfl⟩, Or.inl (lw_g (lw_at lw_m10 53 rfl) rfl)⟩, fun t ht => ⟨Nat.le_trans (by decide) ht.1, Nat.le_trans ht.2 (by decide)⟩⟩, fun q h => by cases h⟩
theorem ow1_11_0 : VMk "AlgolHouse$Assignation" 13 15999042 := ⟨mok_X3_soft, by decide, fun t ht => by
  obtain rfl : t = 4 := Nat.le_antisymm (Nat.le_trans ht.2 (by decide)) (Nat.le_trans (by decide) ht.1)
  exact ⟨⟨by decide, by decide⟩, im_X3_soft, Or.inl ⟨np_X3_soft, lw_g (lw_at lw_m12 15 rfl) rfl, Or.inl (lw_g (lw_at lw_m12 13 rfl) rfl)⟩⟩⟩
theorem ow1_11_1 : VMk "AlgolHouse$Assignation" 28 17047619 := ⟨mok_X3_strong, by decide, fun t ht => by
  obtain rfl : t = 4 := Nat.le_antisymm (Nat.le_trans ht.2 (by decide)) (Nat.le_trans (by decide) ht.1)
  exact ⟨⟨by decide, by decide⟩, im_X3_strong, Or.inl ⟨np_X3_strong, lw_g (lw_at lw_m12 134 rfl) rfl, Or.inl (lw_g (lw_at lw_m12 232 rfl) rfl)⟩⟩⟩
theorem ow1_11_2 : VMk "AlgolHouse$Assignation" 32 27275364 := ⟨mok_X7_all, by decide, fun t ht => by
  obtain rfl : t = 6 := Nat.le_antisymm (Nat.le_trans ht.2 (by decide)) (Nat.le_trans (by decide) ht.1)
  exact ⟨⟨by decide, by decide⟩, im_X7_all, Or.inl ⟨np_X7_all, lw_g (lw_at lw_m15 233 rfl) rfl, Or.inl (lw_g (lw_at lw_m15 231 rfl) rfl)⟩⟩⟩
theorem ow1_11_3 : VMk "AlgolHouse$Assignation" 48 27799651 := ⟨mok_X7_followed, by decide, fun t ht => by
  obtain rfl : t = 6 := Nat.le_antisymm (Nat.le_trans ht.2 (by decide)) (Nat.le_trans (by decide) ht.1)
  exact ⟨⟨by decide, by decide⟩, im_X7_followed, Or.inl ⟨np_X7_followed, lw_g (lw_at lw_m16 4 rfl) rfl, Or.inl (lw_g (lw_at lw_m16 2 rfl) rfl)⟩⟩⟩
theorem ow1_11_4 : VMk "AlgolHouse$Assignation" 52 28061796 := ⟨mok_X7_put, by decide, fun t ht => by
  obtain rfl : t = 6 := Nat.le_antisymm (Nat.le_trans ht.2 (by decide)) (Nat.le_trans (by decide) ht.1)
  exact ⟨⟨by decide, by decide⟩, im_X7_put, Or.inl ⟨np_X7_put, lw_g (lw_at lw_m16 8 rfl) rfl, Or.inl (lw_g (lw_at lw_m16 6 rfl) rfl)⟩⟩⟩
theorem ow1_11_5 : VMk "AlgolHouse$Assignation" 56 29634659 := ⟨mok_X7_done, by decide, fun t ht => by
  obtain rfl : t = 6 := Nat.le_antisymm (Nat.le_trans ht.2 (by decide)) (Nat.le_trans (by decide) ht.1)
  exact ⟨⟨by decide, by decide⟩, im_X7_done, Or.inl ⟨np_X7_done, lw_g (lw_at lw_m16 80 rfl) rfl, Or.inl (lw_g (lw_at lw_m16 78 rfl) rfl)⟩⟩⟩
theorem ow1_11 : ∀ q ∈ ([(13, 15999042), (28, 17047619), (32, 27275364), (48, 27799651), (52, 28061796), (56, 29634659)] : List (Nat × Nat)), VMk "AlgolHouse$Assignation" q.1 q.2 := List.forall_mem_cons.mpr ⟨ow1_11_0, List.forall_mem_cons.mpr ⟨ow1_11_1, List.forall_mem_cons.mpr ⟨ow1_11_2, List.forall_mem_cons.mpr ⟨ow1_11_3, List.forall_mem_cons.mpr ⟨ow1_11_4, List.forall_mem_cons.mpr ⟨ow1_11_5, fun q h => by cases h⟩⟩⟩⟩⟩⟩
theorem ow1_12_0 : PMk "AlgolHouse$Assignation" 7 43 2 := ⟨by decide, fun t m h => by
  rcases dsp_43 h with ⟨rfl, rfl⟩
  · exact ⟨mok_X12_part, ⟨by decide, by decide⟩, im_X12_part, Or.inr ⟨⟨"AlgolHouse$Assignation", "part", "(I)LAlgolHouse$Node;"⟩, "AlgolHouse$Node", by decide +kernel, lw_g (lw_at lw_m12 10 rfl) rfl, lw_g (lw_at lw_m12 11 rfl) rfl, Or.inl (lw_at lw_m10 110 rfl), ⟨by decide +kernel, by decide +kernel⟩, lw_g (lw_at lw_m12 12 rfl) rfl⟩⟩⟩
theorem ow1_12 : ∀ q ∈ ([(7, 43)] : List (Nat × Nat)), ∀ n, pN q.2 n → PMk "AlgolHouse$Assignation" q.1 q.2 n := List.forall_mem_cons.mpr ⟨(fun n hn => by cases hn; exact ow1_12_0), fun q h => by cases h⟩
theorem ow1_13 : ∀ q ∈ ([] : List (Nat × Nat)), Cond.methodLink "AlgolHouse$Assignation" q.1 Lib.objectInit ∈ lw_all := fun q h => by cases h
theorem ow1_14 : ∀ q ∈ ([] : List (Nat × Nat)), JMk "AlgolHouse$Assignation" q.1 q.2 := fun q h => by cases h
theorem ow1_15 : ∀ q ∈ ([] : List (Nat × Nat)), exT q.2 ∧ NLk "AlgolHouse$Assignation" q.1 q.2 := fun q h => by cases h
theorem ow1_16 : ∀ q ∈ ([] : List (Nat × Nat)), exT q.2 ∧ Cond.methodLink "AlgolHouse$Assignation" q.1 ⟨cN q.2, "<init>", "()V"⟩ ∈ lw_all := fun q h => by cases h
def Om1 : Om := [[(19, 757220398), (23, 671683110), (38, 134415886), (44, 740443180)], [(19, 757220398)], [], [], [], [], [], [], [], [], [(1, 118034610)], [(13, 15999042), (28, 17047619), (32, 27275364), (48, 27799651), (52, 28061796), (56, 29634659)], [(7, 43)], [], [], [], []]
def Ok1 : List (Nat × Int) := []
def Ol1 : List (Nat × Int) := []
theorem ow1 {s0 : State} (hN : NCs s0) : OwnOK s0 "AlgolHouse$Assignation" Om1 Ok1 Ol1 := ⟨ow1_k, ow1_l, ow1_0, ow1_1, ow1_2, ow1_3, ow1_4, ow1_5, ow1_6, ow1_7, ow1_8 hN, ow1_9, ow1_10, ow1_11, ow1_12, ow1_13, ow1_14, ow1_15, ow1_16⟩
theorem ow2_k : ∀ q ∈ ([] : List (Nat × Int)), Cond.constant "AlgolHouse$Call" q.1 (Int32.ofInt q.2) ∈ lw_all := fun q h => by cases h
theorem ow2_l : ∀ q ∈ ([] : List (Nat × Int)), Cond.constantLong "AlgolHouse$Call" q.1 (Int64.ofInt q.2) ∈ lw_all := fun q h => by cases h
theorem ow2_0 : ∀ q ∈ ([(21, 806098994), (25, 646517286), (37, 748831790), (38, 740443180), (54, 671683110), (60, 126027276), (71, 134415886), (75, 1563055275), (82, 1588221098), (86, 1596609706), (98, 436603930)] : List (Nat × Nat)), q.2 ∈ iFs ∧ FLk "AlgolHouse$Call" q.1 q.2 := List.forall_mem_cons.mpr ⟨⟨List.mem_of_getElem? (i := 96) rfl, ⟨"AlgolHouse$Call", Or.inl (lw_g (lw_at lw_m8 72 rfl) rfl), Or.inl rfl⟩⟩, List.forall_mem_cons.mpr ⟨⟨List.mem_of_getElem? (i := 77) rfl, ⟨"AlgolHouse$Mode", Or.inr ⟨_, lw_at lw_m3 84 rfl⟩, Or.inl rfl⟩⟩, List.forall_mem_cons.mpr ⟨⟨List.mem_of_getElem? (i := 89) rfl, ⟨"AlgolHouse$Call", Or.inl (lw_g (lw_at lw_m5 153 rfl) rfl), Or.inr (lw_g (lw_at lw_m5 154 rfl) rfl)⟩⟩, List.forall_mem_cons.mpr ⟨⟨List.mem_of_getElem? (i := 88) rfl, ⟨"AlgolHouse$Call", Or.inl (lw_g (lw_at lw_m5 105 rfl) rfl), Or.inr (lw_g (lw_at lw_m5 106 rfl) rfl)⟩⟩, List.forall_mem_cons.mpr ⟨⟨List.mem_of_getElem? (i := 80) rfl, ⟨"AlgolHouse$Mode", Or.inr ⟨_, lw_at lw_m3 100 rfl⟩, Or.inl rfl⟩⟩, List.forall_mem_cons.mpr ⟨⟨List.mem_of_getElem? (i := 15) rfl, ⟨"AlgolHouse$Frame", Or.inr ⟨_, lw_at lw_m15 153 rfl⟩, Or.inl rfl⟩⟩, List.forall_mem_cons.mpr ⟨⟨List.mem_of_getElem? (i := 16) rfl, ⟨"AlgolHouse$Frame", Or.inr ⟨_, lw_at lw_m15 167 rfl⟩, Or.inl rfl⟩⟩, List.forall_mem_cons.mpr ⟨⟨List.mem_of_getElem? (i := 186) rfl, ⟨"AlgolHouse$Value", Or.inr ⟨_, lw_at lw_m16 131 rfl⟩, Or.inl rfl⟩⟩, List.forall_mem_cons.mpr ⟨⟨List.mem_of_getElem? (i := 189) rfl, ⟨"AlgolHouse$Value", Or.inr ⟨_, lw_at lw_m16 151 rfl⟩, Or.inl rfl⟩⟩, List.forall_mem_cons.mpr ⟨⟨List.mem_of_getElem? (i := 190) rfl, ⟨"AlgolHouse$Value", Or.inr ⟨_, lw_at lw_m16 155 rfl⟩, Or.inl rfl⟩⟩, List.forall_mem_cons.mpr ⟨⟨List.mem_of_getElem? (i := 52) rfl, ⟨"AlgolHouse$Machine", Or.inr ⟨_, lw_at lw_m4 21 rfl⟩, Or.inl rfl⟩⟩, fun q h => by cases h⟩⟩⟩⟩⟩⟩⟩⟩⟩⟩⟩
theorem ow2_1 : ∀ q ∈ ([(21, 806098994), (57, 757220398), (60, 126027276)] : List (Nat × Nat)), q.2 ∈ iFs ∧ PLk "AlgolHouse$Call" q.1 q.2 := List.forall_mem_cons.mpr ⟨⟨List.mem_of_getElem? (i := 96) rfl, ⟨"AlgolHouse$Call", Or.inl (lw_g (lw_at lw_m8 72 rfl) rfl), Or.inl rfl⟩, rfl⟩, List.forall_mem_cons.mpr ⟨⟨List.mem_of_getElem? (i := 90) rfl, ⟨"AlgolHouse$Call", Or.inl (lw_g (lw_at lw_m5 184 rfl) rfl), Or.inr (lw_g (lw_at lw_m5 185 rfl) rfl)⟩, rfl⟩, List.forall_mem_cons.mpr ⟨⟨List.mem_of_getElem? (i := 15) rfl, ⟨"AlgolHouse$Frame", Or.inr ⟨_, lw_at lw_m15 153 rfl⟩, Or.inl rfl⟩, rfl⟩, fun q h => by cases h⟩⟩⟩
theorem ow2_2 : ∀ q ∈ ([] : List (Nat × Nat)), q.2 ∈ iFs ∧ PFk "AlgolHouse$Call" q.1 q.2 := fun q h => by cases h
theorem ow2_3 : ∀ q ∈ ([] : List (Nat × Nat)), q.2 ∈ sFs ∧ FLk "AlgolHouse$Call" q.1 q.2 := fun q h => by cases h
theorem ow2_4 : ∀ q ∈ ([] : List (Nat × Nat)), TLk "AlgolHouse$Call" q.1 q.2 ∧ q.2 % 4 = 2 := fun q h => by cases h
theorem ow2_5 : ∀ q ∈ ([] : List (Nat × Nat)), mdT q.2 = true ∧ NLk "AlgolHouse$Call" q.1 q.2 := fun q h => by cases h
theorem ow2_6 : ∀ q ∈ ([] : List (Nat × Nat)), mdA q.2 = true ∧ ak q.2 = 2 ∧ ALk "AlgolHouse$Call" q.1 q.2 := fun q h => by cases h
theorem ow2_7_0 : XLk "AlgolHouse$Call" 26 1161 := (Or.inl ⟨"AlgolHouse$Mode", lw_g (lw_at lw_m13 122 rfl) rfl, fun t h1 h2 => by
  obtain rfl : t = 9 := by omega
  exact ⟨⟨by omega, by omega⟩, Or.inl rfl⟩⟩)
theorem ow2_7 : ∀ q ∈ ([(26, 1161)] : List (Nat × Nat)), XLk "AlgolHouse$Call" q.1 q.2 := List.forall_mem_cons.mpr ⟨ow2_7_0, fun q h => by cases h⟩
theorem ow2_8 {s0 : State} (hN : NCs s0) : ∀ q ∈ ([] : List (Nat × Nat)), YLk s0 "AlgolHouse$Call" q.1 q.2 := fun q h => by cases h
theorem ow2_9 : ∀ q ∈ ([] : List (Nat × Nat)), q.2 = ACN ∧ ACk "AlgolHouse$Call" q.1 ∨ q.2 ≠ ACN ∧ SMk "AlgolHouse$Call" q.1 q.2 := fun q h => by cases h
theorem ow2_10 : ∀ q ∈ ([(3, 118034610)] : List (Nat × Nat)), IMk "AlgolHouse$Call" q.1 q.2 ∧ ∀ t, inT (q.2 / 16 % 128) (q.2 / 2048 % 128) t → inT 1 55 t := List.forall_mem_cons.mpr ⟨⟨⟨mok_X12_init, np_X12_init, by decide, rfl, im_X12_init, ⟨_, _, rfl⟩, Or.inl (lw_g (lw_at lw_m8 71 rfl) rfl)⟩, fun t ht => ⟨Nat.le_trans (by decide) ht.1, Nat.le_trans ht.2 (by decide)⟩⟩, fun q h => by cases h⟩
theorem ow2_11_0 : VMk "AlgolHouse$Call" 15 17309764 := ⟨mok_X3_come, by decide, fun t ht => by
  obtain rfl : t = 4 := Nat.le_antisymm (Nat.le_trans ht.2 (by decide)) (Nat.le_trans (by decide) ht.1)
  exact ⟨⟨by decide, by decide⟩, im_X3_come, Or.inl ⟨np_X3_come, lw_g (lw_at lw_m13 1 rfl) rfl, Or.inl (lw_g (lw_at lw_m12 239 rfl) rfl)⟩⟩⟩
theorem ow2_11_1 : VMk "AlgolHouse$Call" 31 165249793 := ⟨mok_J6_size, by decide, fun t ht => by
  obtain rfl : t = 48 := Nat.le_antisymm (Nat.le_trans ht.2 (by decide)) (Nat.le_trans (by decide) ht.1)
  exact ⟨⟨by decide, by decide⟩, im_J6_size, Or.inl ⟨np_J6_size, lw_g (lw_at lw_m4 167 rfl) rfl, Or.inl (lw_g (lw_at lw_m13 119 rfl) rfl)⟩⟩⟩
theorem ow2_11_2 : VMk "AlgolHouse$Call" 42 15474756 := ⟨mok_X3_need, by decide, fun t ht => by
  obtain rfl : t = 4 := Nat.le_antisymm (Nat.le_trans ht.2 (by decide)) (Nat.le_trans (by decide) ht.1)
  exact ⟨⟨by decide, by decide⟩, im_X3_need, Or.inl ⟨np_X3_need, lw_g (lw_at lw_m11 139 rfl) rfl, Or.inl (lw_g (lw_at lw_m13 120 rfl) rfl)⟩⟩⟩
theorem ow2_11_3 : VMk "AlgolHouse$Call" 46 166822658 := ⟨mok_J6_get, by decide, fun t ht => by
  obtain rfl : t = 48 := Nat.le_antisymm (Nat.le_trans ht.2 (by decide)) (Nat.le_trans (by decide) ht.1)
  exact ⟨⟨by decide, by decide⟩, im_J6_get, Or.inl ⟨np_J6_get, lw_g (lw_at lw_m7 79 rfl) rfl, Or.inl (lw_g (lw_at lw_m13 121 rfl) rfl)⟩⟩⟩
theorem ow2_11_4 : VMk "AlgolHouse$Call" 50 17047619 := ⟨mok_X3_strong, by decide, fun t ht => by
  obtain rfl : t = 4 := Nat.le_antisymm (Nat.le_trans ht.2 (by decide)) (Nat.le_trans (by decide) ht.1)
  exact ⟨⟨by decide, by decide⟩, im_X3_strong, Or.inl ⟨np_X3_strong, lw_g (lw_at lw_m12 134 rfl) rfl, Or.inl (lw_g (lw_at lw_m13 123 rfl) rfl)⟩⟩⟩
theorem ow2_11_5 : VMk "AlgolHouse$Call" 65 27275364 := ⟨mok_X7_all, by decide, fun t ht => by
  obtain rfl : t = 6 := Nat.le_antisymm (Nat.le_trans ht.2 (by decide)) (Nat.le_trans (by decide) ht.1)
  exact ⟨⟨by decide, by decide⟩, im_X7_all, Or.inl ⟨np_X7_all, lw_g (lw_at lw_m15 233 rfl) rfl, Or.inl (lw_g (lw_at lw_m16 85 rfl) rfl)⟩⟩⟩
theorem ow2_11_6 : VMk "AlgolHouse$Call" 81 27013220 := ⟨mok_X7_need, by decide, fun t ht => by
  obtain rfl : t = 6 := Nat.le_antisymm (Nat.le_trans ht.2 (by decide)) (Nat.le_trans (by decide) ht.1)
  exact ⟨⟨by decide, by decide⟩, im_X7_need, Or.inl ⟨np_X7_need, lw_g (lw_at lw_m15 132 rfl) rfl, Or.inl (lw_g (lw_at lw_m16 86 rfl) rfl)⟩⟩⟩
theorem ow2_11_7 : VMk "AlgolHouse$Call" 90 29896806 := ⟨mok_X7_call, by decide, fun t ht => by
  obtain rfl : t = 6 := Nat.le_antisymm (Nat.le_trans ht.2 (by decide)) (Nat.le_trans (by decide) ht.1)
  exact ⟨⟨by decide, by decide⟩, im_X7_call, Or.inl ⟨np_X7_call, lw_g (lw_at lw_m16 89 rfl) rfl, Or.inl (lw_g (lw_at lw_m16 87 rfl) rfl)⟩⟩⟩
theorem ow2_11_8 : VMk "AlgolHouse$Call" 94 30421091 := ⟨mok_X7_returned, by decide, fun t ht => by
  obtain rfl : t = 6 := Nat.le_antisymm (Nat.le_trans ht.2 (by decide)) (Nat.le_trans (by decide) ht.1)
  exact ⟨⟨by decide, by decide⟩, im_X7_returned, Or.inl ⟨np_X7_returned, lw_g (lw_at lw_m16 99 rfl) rfl, Or.inl (lw_g (lw_at lw_m16 97 rfl) rfl)⟩⟩⟩
theorem ow2_11_9 : VMk "AlgolHouse$Call" 102 29634659 := ⟨mok_X7_done, by decide, fun t ht => by
  obtain rfl : t = 6 := Nat.le_antisymm (Nat.le_trans ht.2 (by decide)) (Nat.le_trans (by decide) ht.1)
  exact ⟨⟨by decide, by decide⟩, im_X7_done, Or.inl ⟨np_X7_done, lw_g (lw_at lw_m16 80 rfl) rfl, Or.inl (lw_g (lw_at lw_m16 105 rfl) rfl)⟩⟩⟩
theorem ow2_11 : ∀ q ∈ ([(15, 17309764), (31, 165249793), (42, 15474756), (46, 166822658), (50, 17047619), (65, 27275364), (81, 27013220), (90, 29896806), (94, 30421091), (102, 29634659)] : List (Nat × Nat)), VMk "AlgolHouse$Call" q.1 q.2 := List.forall_mem_cons.mpr ⟨ow2_11_0, List.forall_mem_cons.mpr ⟨ow2_11_1, List.forall_mem_cons.mpr ⟨ow2_11_2, List.forall_mem_cons.mpr ⟨ow2_11_3, List.forall_mem_cons.mpr ⟨ow2_11_4, List.forall_mem_cons.mpr ⟨ow2_11_5, List.forall_mem_cons.mpr ⟨ow2_11_6, List.forall_mem_cons.mpr ⟨ow2_11_7, List.forall_mem_cons.mpr ⟨ow2_11_8, List.forall_mem_cons.mpr ⟨ow2_11_9, fun q h => by cases h⟩⟩⟩⟩⟩⟩⟩⟩⟩⟩
theorem ow2_12_0 : PMk "AlgolHouse$Call" 9 32 2 := ⟨by decide, fun t m h => by
  rcases dsp_32 h with ⟨rfl, rfl⟩
  · exact ⟨mok_X12_part, ⟨by decide, by decide⟩, im_X12_part, Or.inr ⟨⟨"AlgolHouse$Call", "part", "(I)LAlgolHouse$Node;"⟩, "AlgolHouse$Node", by decide +kernel, lw_g (lw_at lw_m12 236 rfl) rfl, lw_g (lw_at lw_m12 237 rfl) rfl, Or.inl (lw_at lw_m10 110 rfl), ⟨by decide +kernel, by decide +kernel⟩, lw_g (lw_at lw_m12 238 rfl) rfl⟩⟩⟩
theorem ow2_12 : ∀ q ∈ ([(9, 32)] : List (Nat × Nat)), ∀ n, pN q.2 n → PMk "AlgolHouse$Call" q.1 q.2 n := List.forall_mem_cons.mpr ⟨(fun n hn => by cases hn; exact ow2_12_0), fun q h => by cases h⟩
theorem ow2_13 : ∀ q ∈ ([] : List (Nat × Nat)), Cond.methodLink "AlgolHouse$Call" q.1 Lib.objectInit ∈ lw_all := fun q h => by cases h
theorem ow2_14 : ∀ q ∈ ([] : List (Nat × Nat)), JMk "AlgolHouse$Call" q.1 q.2 := fun q h => by cases h
theorem ow2_15 : ∀ q ∈ ([] : List (Nat × Nat)), exT q.2 ∧ NLk "AlgolHouse$Call" q.1 q.2 := fun q h => by cases h
theorem ow2_16 : ∀ q ∈ ([] : List (Nat × Nat)), exT q.2 ∧ Cond.methodLink "AlgolHouse$Call" q.1 ⟨cN q.2, "<init>", "()V"⟩ ∈ lw_all := fun q h => by cases h
def Om2 : Om := [[(21, 806098994), (25, 646517286), (37, 748831790), (38, 740443180), (54, 671683110), (60, 126027276), (71, 134415886), (75, 1563055275), (82, 1588221098), (86, 1596609706), (98, 436603930)], [(21, 806098994), (57, 757220398), (60, 126027276)], [], [], [], [], [], [(26, 1161)], [], [], [(3, 118034610)], [(15, 17309764), (31, 165249793), (42, 15474756), (46, 166822658), (50, 17047619), (65, 27275364), (81, 27013220), (90, 29896806), (94, 30421091), (102, 29634659)], [(9, 32)], [], [], [], []]
def Ok2 : List (Nat × Int) := []
def Ol2 : List (Nat × Int) := []
theorem ow2 {s0 : State} (hN : NCs s0) : OwnOK s0 "AlgolHouse$Call" Om2 Ok2 Ol2 := ⟨ow2_k, ow2_l, ow2_0, ow2_1, ow2_2, ow2_3, ow2_4, ow2_5, ow2_6, ow2_7, ow2_8 hN, ow2_9, ow2_10, ow2_11, ow2_12, ow2_13, ow2_14, ow2_15, ow2_16⟩
theorem ow3_k : ∀ q ∈ ([] : List (Nat × Int)), Cond.constant "AlgolHouse$Candidate" q.1 (Int32.ofInt q.2) ∈ lw_all := fun q h => by cases h
theorem ow3_l : ∀ q ∈ ([] : List (Nat × Int)), Cond.constantLong "AlgolHouse$Candidate" q.1 (Int64.ofInt q.2) ∈ lw_all := fun q h => by cases h
theorem ow3_0 : ∀ q ∈ ([] : List (Nat × Nat)), q.2 ∈ iFs ∧ FLk "AlgolHouse$Candidate" q.1 q.2 := fun q h => by cases h
theorem ow3_1 : ∀ q ∈ ([] : List (Nat × Nat)), q.2 ∈ iFs ∧ PLk "AlgolHouse$Candidate" q.1 q.2 := fun q h => by cases h
theorem ow3_2 : ∀ q ∈ ([(7, 92406792), (13, 100795400), (16, 109184010)] : List (Nat × Nat)), q.2 ∈ iFs ∧ PFk "AlgolHouse$Candidate" q.1 q.2 := List.forall_mem_cons.mpr ⟨⟨List.mem_of_getElem? (i := 11) rfl, rfl, rfl, "AlgolHouse$Candidate", lw_g (lw_at lw_m7 95 rfl) rfl, Or.inl rfl⟩, List.forall_mem_cons.mpr ⟨⟨List.mem_of_getElem? (i := 12) rfl, rfl, rfl, "AlgolHouse$Candidate", lw_g (lw_at lw_m7 97 rfl) rfl, Or.inl rfl⟩, List.forall_mem_cons.mpr ⟨⟨List.mem_of_getElem? (i := 13) rfl, rfl, rfl, "AlgolHouse$Candidate", lw_g (lw_at lw_m7 99 rfl) rfl, Or.inl rfl⟩, fun q h => by cases h⟩⟩⟩
theorem ow3_3 : ∀ q ∈ ([] : List (Nat × Nat)), q.2 ∈ sFs ∧ FLk "AlgolHouse$Candidate" q.1 q.2 := fun q h => by cases h
theorem ow3_4 : ∀ q ∈ ([] : List (Nat × Nat)), TLk "AlgolHouse$Candidate" q.1 q.2 ∧ q.2 % 4 = 2 := fun q h => by cases h
theorem ow3_5 : ∀ q ∈ ([] : List (Nat × Nat)), mdT q.2 = true ∧ NLk "AlgolHouse$Candidate" q.1 q.2 := fun q h => by cases h
theorem ow3_6 : ∀ q ∈ ([] : List (Nat × Nat)), mdA q.2 = true ∧ ak q.2 = 2 ∧ ALk "AlgolHouse$Candidate" q.1 q.2 := fun q h => by cases h
theorem ow3_7 : ∀ q ∈ ([] : List (Nat × Nat)), XLk "AlgolHouse$Candidate" q.1 q.2 := fun q h => by cases h
theorem ow3_8 {s0 : State} (hN : NCs s0) : ∀ q ∈ ([] : List (Nat × Nat)), YLk s0 "AlgolHouse$Candidate" q.1 q.2 := fun q h => by cases h
theorem ow3_9 : ∀ q ∈ ([] : List (Nat × Nat)), q.2 = ACN ∧ ACk "AlgolHouse$Candidate" q.1 ∨ q.2 ≠ ACN ∧ SMk "AlgolHouse$Candidate" q.1 q.2 := fun q h => by cases h
theorem ow3_10 : ∀ q ∈ ([] : List (Nat × Nat)), IMk "AlgolHouse$Candidate" q.1 q.2 ∧ ∀ t, inT (q.2 / 16 % 128) (q.2 / 2048 % 128) t → inT 1 55 t := fun q h => by cases h
theorem ow3_11 : ∀ q ∈ ([] : List (Nat × Nat)), VMk "AlgolHouse$Candidate" q.1 q.2 := fun q h => by cases h
theorem ow3_12 : ∀ q ∈ ([] : List (Nat × Nat)), ∀ n, pN q.2 n → PMk "AlgolHouse$Candidate" q.1 q.2 n := fun q h => by cases h
theorem ow3_13 : ∀ q ∈ ([(1, 0)] : List (Nat × Nat)), Cond.methodLink "AlgolHouse$Candidate" q.1 Lib.objectInit ∈ lw_all := List.forall_mem_cons.mpr ⟨lw_g (lw_at lw_m7 94 rfl) rfl, fun q h => by cases h⟩
theorem ow3_14 : ∀ q ∈ ([] : List (Nat × Nat)), JMk "AlgolHouse$Candidate" q.1 q.2 := fun q h => by cases h
theorem ow3_15 : ∀ q ∈ ([] : List (Nat × Nat)), exT q.2 ∧ NLk "AlgolHouse$Candidate" q.1 q.2 := fun q h => by cases h
theorem ow3_16 : ∀ q ∈ ([] : List (Nat × Nat)), exT q.2 ∧ Cond.methodLink "AlgolHouse$Candidate" q.1 ⟨cN q.2, "<init>", "()V"⟩ ∈ lw_all := fun q h => by cases h
def Om3 : Om := [[], [], [(7, 92406792), (13, 100795400), (16, 109184010)], [], [], [], [], [], [], [], [], [], [], [(1, 0)], [], [], []]
def Ok3 : List (Nat × Int) := []
def Ol3 : List (Nat × Int) := []
theorem ow3 {s0 : State} (hN : NCs s0) : OwnOK s0 "AlgolHouse$Candidate" Om3 Ok3 Ol3 := ⟨ow3_k, ow3_l, ow3_0, ow3_1, ow3_2, ow3_3, ow3_4, ow3_5, ow3_6, ow3_7, ow3_8 hN, ow3_9, ow3_10, ow3_11, ow3_12, ow3_13, ow3_14, ow3_15, ow3_16⟩
theorem ow4_k : ∀ q ∈ ([] : List (Nat × Int)), Cond.constant "AlgolHouse$Case" q.1 (Int32.ofInt q.2) ∈ lw_all := fun q h => by cases h
theorem ow4_l : ∀ q ∈ ([] : List (Nat × Int)), Cond.constantLong "AlgolHouse$Case" q.1 (Int64.ofInt q.2) ∈ lw_all := fun q h => by cases h
theorem ow4_0 : ∀ q ∈ ([(9, 940779084), (15, 748831790), (35, 126027276), (46, 436603930), (54, 1563055275), (60, 740443180), (67, 1571443881)] : List (Nat × Nat)), q.2 ∈ iFs ∧ FLk "AlgolHouse$Case" q.1 q.2 := List.forall_mem_cons.mpr ⟨⟨List.mem_of_getElem? (i := 112) rfl, ⟨"AlgolHouse$Case", Or.inl (lw_g (lw_at lw_m9 183 rfl) rfl), Or.inl rfl⟩⟩, List.forall_mem_cons.mpr ⟨⟨List.mem_of_getElem? (i := 89) rfl, ⟨"AlgolHouse$Case", Or.inl (lw_g (lw_at lw_m5 138 rfl) rfl), Or.inr (lw_g (lw_at lw_m5 139 rfl) rfl)⟩⟩, List.forall_mem_cons.mpr ⟨⟨List.mem_of_getElem? (i := 15) rfl, ⟨"AlgolHouse$Frame", Or.inr ⟨_, lw_at lw_m15 156 rfl⟩, Or.inl rfl⟩⟩, List.forall_mem_cons.mpr ⟨⟨List.mem_of_getElem? (i := 52) rfl, ⟨"AlgolHouse$Machine", Or.inr ⟨_, lw_at lw_m4 22 rfl⟩, Or.inl rfl⟩⟩, List.forall_mem_cons.mpr ⟨⟨List.mem_of_getElem? (i := 186) rfl, ⟨"AlgolHouse$Value", Or.inr ⟨_, lw_at lw_m16 132 rfl⟩, Or.inl rfl⟩⟩, List.forall_mem_cons.mpr ⟨⟨List.mem_of_getElem? (i := 88) rfl, ⟨"AlgolHouse$Case", Or.inl (lw_g (lw_at lw_m5 120 rfl) rfl), Or.inr (lw_g (lw_at lw_m5 121 rfl) rfl)⟩⟩, List.forall_mem_cons.mpr ⟨⟨List.mem_of_getElem? (i := 187) rfl, ⟨"AlgolHouse$Value", Or.inr ⟨_, lw_at lw_m16 141 rfl⟩, Or.inl rfl⟩⟩, fun q h => by cases h⟩⟩⟩⟩⟩⟩⟩
theorem ow4_1 : ∀ q ∈ ([(35, 126027276)] : List (Nat × Nat)), q.2 ∈ iFs ∧ PLk "AlgolHouse$Case" q.1 q.2 := List.forall_mem_cons.mpr ⟨⟨List.mem_of_getElem? (i := 15) rfl, ⟨"AlgolHouse$Frame", Or.inr ⟨_, lw_at lw_m15 156 rfl⟩, Or.inl rfl⟩, rfl⟩, fun q h => by cases h⟩
theorem ow4_2 : ∀ q ∈ ([(9, 940779084)] : List (Nat × Nat)), q.2 ∈ iFs ∧ PFk "AlgolHouse$Case" q.1 q.2 := List.forall_mem_cons.mpr ⟨⟨List.mem_of_getElem? (i := 112) rfl, rfl, rfl, "AlgolHouse$Case", lw_g (lw_at lw_m9 183 rfl) rfl, Or.inl rfl⟩, fun q h => by cases h⟩
theorem ow4_3 : ∀ q ∈ ([] : List (Nat × Nat)), q.2 ∈ sFs ∧ FLk "AlgolHouse$Case" q.1 q.2 := fun q h => by cases h
theorem ow4_4 : ∀ q ∈ ([] : List (Nat × Nat)), TLk "AlgolHouse$Case" q.1 q.2 ∧ q.2 % 4 = 2 := fun q h => by cases h
theorem ow4_5 : ∀ q ∈ ([] : List (Nat × Nat)), mdT q.2 = true ∧ NLk "AlgolHouse$Case" q.1 q.2 := fun q h => by cases h
theorem ow4_6 : ∀ q ∈ ([] : List (Nat × Nat)), mdA q.2 = true ∧ ak q.2 = 2 ∧ ALk "AlgolHouse$Case" q.1 q.2 := fun q h => by cases h
theorem ow4_7 : ∀ q ∈ ([] : List (Nat × Nat)), XLk "AlgolHouse$Case" q.1 q.2 := fun q h => by cases h
theorem ow4_8 {s0 : State} (hN : NCs s0) : ∀ q ∈ ([] : List (Nat × Nat)), YLk s0 "AlgolHouse$Case" q.1 q.2 := fun q h => by cases h
theorem ow4_9 : ∀ q ∈ ([] : List (Nat × Nat)), q.2 = ACN ∧ ACk "AlgolHouse$Case" q.1 ∨ q.2 ≠ ACN ∧ SMk "AlgolHouse$Case" q.1 q.2 := fun q h => by cases h
theorem ow4_10 : ∀ q ∈ ([(3, 121155890)] : List (Nat × Nat)), IMk "AlgolHouse$Case" q.1 q.2 ∧ ∀ t, inT (q.2 / 16 % 128) (q.2 / 2048 % 128) t → inT 1 55 t := List.forall_mem_cons.mpr ⟨⟨⟨mok_X13_init, np_X13_init, by decide, rfl, im_X13_init, ⟨_, _, rfl⟩, Or.inl (lw_g (lw_at lw_m9 182 rfl) rfl)⟩, fun t ht => ⟨Nat.le_trans (by decide) ht.1, Nat.le_trans ht.2 (by decide)⟩⟩, fun q h => by cases h⟩
theorem ow4_11_0 : VMk "AlgolHouse$Case" 19 165249793 := ⟨mok_J6_size, by decide, fun t ht => by
  obtain rfl : t = 48 := Nat.le_antisymm (Nat.le_trans ht.2 (by decide)) (Nat.le_trans (by decide) ht.1)
  exact ⟨⟨by decide, by decide⟩, im_J6_size, Or.inl ⟨np_J6_size, lw_g (lw_at lw_m4 167 rfl) rfl, Or.inl (lw_g (lw_at lw_m12 33 rfl) rfl)⟩⟩⟩
theorem ow4_11_1 : VMk "AlgolHouse$Case" 29 17309764 := ⟨mok_X3_come, by decide, fun t ht => by
  obtain rfl : t = 4 := Nat.le_antisymm (Nat.le_trans ht.2 (by decide)) (Nat.le_trans (by decide) ht.1)
  exact ⟨⟨by decide, by decide⟩, im_X3_come, Or.inl ⟨np_X3_come, lw_g (lw_at lw_m13 1 rfl) rfl, Or.inl (lw_g (lw_at lw_m13 12 rfl) rfl)⟩⟩⟩
theorem ow4_11_2 : VMk "AlgolHouse$Case" 40 26488930 := ⟨mok_X7_push, by decide, fun t ht => by
  obtain rfl : t = 6 := Nat.le_antisymm (Nat.le_trans ht.2 (by decide)) (Nat.le_trans (by decide) ht.1)
  exact ⟨⟨by decide, by decide⟩, im_X7_push, Or.inl ⟨np_X7_push, lw_g (lw_at lw_m15 124 rfl) rfl, Or.inl (lw_g (lw_at lw_m16 109 rfl) rfl)⟩⟩⟩
theorem ow4_11_3 : VMk "AlgolHouse$Case" 50 29634659 := ⟨mok_X7_done, by decide, fun t ht => by
  obtain rfl : t = 6 := Nat.le_antisymm (Nat.le_trans ht.2 (by decide)) (Nat.le_trans (by decide) ht.1)
  exact ⟨⟨by decide, by decide⟩, im_X7_done, Or.inl ⟨np_X7_done, lw_g (lw_at lw_m16 80 rfl) rfl, Or.inl (lw_g (lw_at lw_m16 110 rfl) rfl)⟩⟩⟩
theorem ow4_11_4 : VMk "AlgolHouse$Case" 63 27013220 := ⟨mok_X7_need, by decide, fun t ht => by
  obtain rfl : t = 6 := Nat.le_antisymm (Nat.le_trans ht.2 (by decide)) (Nat.le_trans (by decide) ht.1)
  exact ⟨⟨by decide, by decide⟩, im_X7_need, Or.inl ⟨np_X7_need, lw_g (lw_at lw_m15 132 rfl) rfl, Or.inl (lw_g (lw_at lw_m16 111 rfl) rfl)⟩⟩⟩
theorem ow4_11_5 : VMk "AlgolHouse$Case" 71 30945377 := ⟨mok_X7_undefined, by decide, fun t ht => by
  obtain rfl : t = 6 := Nat.le_antisymm (Nat.le_trans ht.2 (by decide)) (Nat.le_trans (by decide) ht.1)
  exact ⟨⟨by decide, by decide⟩, im_X7_undefined, Or.inl ⟨np_X7_undefined, lw_g (lw_at lw_m16 114 rfl) rfl, Or.inl (lw_g (lw_at lw_m16 112 rfl) rfl)⟩⟩⟩
theorem ow4_11 : ∀ q ∈ ([(19, 165249793), (29, 17309764), (40, 26488930), (50, 29634659), (63, 27013220), (71, 30945377)] : List (Nat × Nat)), VMk "AlgolHouse$Case" q.1 q.2 := List.forall_mem_cons.mpr ⟨ow4_11_0, List.forall_mem_cons.mpr ⟨ow4_11_1, List.forall_mem_cons.mpr ⟨ow4_11_2, List.forall_mem_cons.mpr ⟨ow4_11_3, List.forall_mem_cons.mpr ⟨ow4_11_4, List.forall_mem_cons.mpr ⟨ow4_11_5, fun q h => by cases h⟩⟩⟩⟩⟩⟩
theorem ow4_12_0 : PMk "AlgolHouse$Case" 25 40 2 := ⟨by decide, fun t m h => by
  rcases dsp_40 h with ⟨rfl, rfl⟩
  · exact ⟨mok_X12_part, ⟨by decide, by decide⟩, im_X12_part, Or.inr ⟨⟨"AlgolHouse$Case", "part", "(I)LAlgolHouse$Node;"⟩, "AlgolHouse$Node", by decide +kernel, lw_g (lw_at lw_m12 72 rfl) rfl, lw_g (lw_at lw_m12 73 rfl) rfl, Or.inl (lw_at lw_m10 110 rfl), ⟨by decide +kernel, by decide +kernel⟩, lw_g (lw_at lw_m12 74 rfl) rfl⟩⟩⟩
theorem ow4_12 : ∀ q ∈ ([(25, 40)] : List (Nat × Nat)), ∀ n, pN q.2 n → PMk "AlgolHouse$Case" q.1 q.2 n := List.forall_mem_cons.mpr ⟨(fun n hn => by cases hn; exact ow4_12_0), fun q h => by cases h⟩
theorem ow4_13 : ∀ q ∈ ([] : List (Nat × Nat)), Cond.methodLink "AlgolHouse$Case" q.1 Lib.objectInit ∈ lw_all := fun q h => by cases h
theorem ow4_14 : ∀ q ∈ ([] : List (Nat × Nat)), JMk "AlgolHouse$Case" q.1 q.2 := fun q h => by cases h
theorem ow4_15 : ∀ q ∈ ([] : List (Nat × Nat)), exT q.2 ∧ NLk "AlgolHouse$Case" q.1 q.2 := fun q h => by cases h
theorem ow4_16 : ∀ q ∈ ([] : List (Nat × Nat)), exT q.2 ∧ Cond.methodLink "AlgolHouse$Case" q.1 ⟨cN q.2, "<init>", "()V"⟩ ∈ lw_all := fun q h => by cases h
def Om4 : Om := [[(9, 940779084), (15, 748831790), (35, 126027276), (46, 436603930), (54, 1563055275), (60, 740443180), (67, 1571443881)], [(35, 126027276)], [(9, 940779084)], [], [], [], [], [], [], [], [(3, 121155890)], [(19, 165249793), (29, 17309764), (40, 26488930), (50, 29634659), (63, 27013220), (71, 30945377)], [(25, 40)], [], [], [], []]
def Ok4 : List (Nat × Int) := []
def Ol4 : List (Nat × Int) := []
theorem ow4 {s0 : State} (hN : NCs s0) : OwnOK s0 "AlgolHouse$Case" Om4 Ok4 Ol4 := ⟨ow4_k, ow4_l, ow4_0, ow4_1, ow4_2, ow4_3, ow4_4, ow4_5, ow4_6, ow4_7, ow4_8 hN, ow4_9, ow4_10, ow4_11, ow4_12, ow4_13, ow4_14, ow4_15, ow4_16⟩
theorem ow5_k : ∀ q ∈ ([] : List (Nat × Int)), Cond.constant "AlgolHouse$Cast" q.1 (Int32.ofInt q.2) ∈ lw_all := fun q h => by cases h
theorem ow5_l : ∀ q ∈ ([] : List (Nat × Int)), Cond.constantLong "AlgolHouse$Cast" q.1 (Int64.ofInt q.2) ∈ lw_all := fun q h => by cases h
theorem ow5_0 : ∀ q ∈ ([(7, 814553654), (26, 126027276), (38, 436603930)] : List (Nat × Nat)), q.2 ∈ iFs ∧ FLk "AlgolHouse$Cast" q.1 q.2 := List.forall_mem_cons.mpr ⟨⟨List.mem_of_getElem? (i := 97) rfl, ⟨"AlgolHouse$Cast", Or.inl (lw_g (lw_at lw_m8 47 rfl) rfl), Or.inl rfl⟩⟩, List.forall_mem_cons.mpr ⟨⟨List.mem_of_getElem? (i := 15) rfl, ⟨"AlgolHouse$Frame", Or.inr ⟨_, lw_at lw_m15 149 rfl⟩, Or.inl rfl⟩⟩, List.forall_mem_cons.mpr ⟨⟨List.mem_of_getElem? (i := 52) rfl, ⟨"AlgolHouse$Machine", Or.inr ⟨_, lw_at lw_m4 18 rfl⟩, Or.inl rfl⟩⟩, fun q h => by cases h⟩⟩⟩
theorem ow5_1 : ∀ q ∈ ([(23, 757220398), (26, 126027276)] : List (Nat × Nat)), q.2 ∈ iFs ∧ PLk "AlgolHouse$Cast" q.1 q.2 := List.forall_mem_cons.mpr ⟨⟨List.mem_of_getElem? (i := 90) rfl, ⟨"AlgolHouse$Cast", Or.inl (lw_g (lw_at lw_m5 166 rfl) rfl), Or.inr (lw_g (lw_at lw_m5 167 rfl) rfl)⟩, rfl⟩, List.forall_mem_cons.mpr ⟨⟨List.mem_of_getElem? (i := 15) rfl, ⟨"AlgolHouse$Frame", Or.inr ⟨_, lw_at lw_m15 149 rfl⟩, Or.inl rfl⟩, rfl⟩, fun q h => by cases h⟩⟩
theorem ow5_2 : ∀ q ∈ ([(7, 814553654)] : List (Nat × Nat)), q.2 ∈ iFs ∧ PFk "AlgolHouse$Cast" q.1 q.2 := List.forall_mem_cons.mpr ⟨⟨List.mem_of_getElem? (i := 97) rfl, rfl, rfl, "AlgolHouse$Cast", lw_g (lw_at lw_m8 47 rfl) rfl, Or.inl rfl⟩, fun q h => by cases h⟩
theorem ow5_3 : ∀ q ∈ ([] : List (Nat × Nat)), q.2 ∈ sFs ∧ FLk "AlgolHouse$Cast" q.1 q.2 := fun q h => by cases h
theorem ow5_4 : ∀ q ∈ ([] : List (Nat × Nat)), TLk "AlgolHouse$Cast" q.1 q.2 ∧ q.2 % 4 = 2 := fun q h => by cases h
theorem ow5_5 : ∀ q ∈ ([] : List (Nat × Nat)), mdT q.2 = true ∧ NLk "AlgolHouse$Cast" q.1 q.2 := fun q h => by cases h
theorem ow5_6 : ∀ q ∈ ([] : List (Nat × Nat)), mdA q.2 = true ∧ ak q.2 = 2 ∧ ALk "AlgolHouse$Cast" q.1 q.2 := fun q h => by cases h
theorem ow5_7 : ∀ q ∈ ([] : List (Nat × Nat)), XLk "AlgolHouse$Cast" q.1 q.2 := fun q h => by cases h
theorem ow5_8 {s0 : State} (hN : NCs s0) : ∀ q ∈ ([] : List (Nat × Nat)), YLk s0 "AlgolHouse$Cast" q.1 q.2 := fun q h => by cases h
theorem ow5_9 : ∀ q ∈ ([] : List (Nat × Nat)), q.2 = ACN ∧ ACk "AlgolHouse$Cast" q.1 ∨ q.2 ≠ ACN ∧ SMk "AlgolHouse$Cast" q.1 q.2 := fun q h => by cases h
theorem ow5_10 : ∀ q ∈ ([(1, 118034610)] : List (Nat × Nat)), IMk "AlgolHouse$Cast" q.1 q.2 ∧ ∀ t, inT (q.2 / 16 % 128) (q.2 / 2048 % 128) t → inT 1 55 t := List.forall_mem_cons.mpr ⟨⟨⟨mok_X12_init, np_X12_init, by decide, rfl, im_X12_init, ⟨_, _, rfl⟩, Or.inl (lw_g (lw_at lw_m8 46 rfl) rfl)⟩, fun t ht => ⟨Nat.le_trans (by decide) ht.1, Nat.le_trans ht.2 (by decide)⟩⟩, fun q h => by cases h⟩
theorem ow5_11_0 : VMk "AlgolHouse$Cast" 17 17047619 := ⟨mok_X3_strong, by decide, fun t ht => by
  obtain rfl : t = 4 := Nat.le_antisymm (Nat.le_trans ht.2 (by decide)) (Nat.le_trans (by decide) ht.1)
  exact ⟨⟨by decide, by decide⟩, im_X3_strong, Or.inl ⟨np_X3_strong, lw_g (lw_at lw_m12 134 rfl) rfl, Or.inl (lw_g (lw_at lw_m13 145 rfl) rfl)⟩⟩⟩
theorem ow5_11_1 : VMk "AlgolHouse$Cast" 32 26488930 := ⟨mok_X7_push, by decide, fun t ht => by
  obtain rfl : t = 6 := Nat.le_antisymm (Nat.le_trans ht.2 (by decide)) (Nat.le_trans (by decide) ht.1)
  exact ⟨⟨by decide, by decide⟩, im_X7_push, Or.inl ⟨np_X7_push, lw_g (lw_at lw_m15 124 rfl) rfl, Or.inl (lw_g (lw_at lw_m16 217 rfl) rfl)⟩⟩⟩
theorem ow5_11_2 : VMk "AlgolHouse$Cast" 42 29634659 := ⟨mok_X7_done, by decide, fun t ht => by
  obtain rfl : t = 6 := Nat.le_antisymm (Nat.le_trans ht.2 (by decide)) (Nat.le_trans (by decide) ht.1)
  exact ⟨⟨by decide, by decide⟩, im_X7_done, Or.inl ⟨np_X7_done, lw_g (lw_at lw_m16 80 rfl) rfl, Or.inl (lw_g (lw_at lw_m16 218 rfl) rfl)⟩⟩⟩
theorem ow5_11 : ∀ q ∈ ([(17, 17047619), (32, 26488930), (42, 29634659)] : List (Nat × Nat)), VMk "AlgolHouse$Cast" q.1 q.2 := List.forall_mem_cons.mpr ⟨ow5_11_0, List.forall_mem_cons.mpr ⟨ow5_11_1, List.forall_mem_cons.mpr ⟨ow5_11_2, fun q h => by cases h⟩⟩⟩
theorem ow5_12_0 : PMk "AlgolHouse$Cast" 13 31 2 := ⟨by decide, fun t m h => by
  rcases dsp_31 h with ⟨rfl, rfl⟩
  · exact ⟨mok_X12_part, ⟨by decide, by decide⟩, im_X12_part, Or.inr ⟨⟨"AlgolHouse$Cast", "part", "(I)LAlgolHouse$Node;"⟩, "AlgolHouse$Node", by decide +kernel, lw_g (lw_at lw_m13 142 rfl) rfl, lw_g (lw_at lw_m13 143 rfl) rfl, Or.inl (lw_at lw_m10 110 rfl), ⟨by decide +kernel, by decide +kernel⟩, lw_g (lw_at lw_m13 144 rfl) rfl⟩⟩⟩
theorem ow5_12 : ∀ q ∈ ([(13, 31)] : List (Nat × Nat)), ∀ n, pN q.2 n → PMk "AlgolHouse$Cast" q.1 q.2 n := List.forall_mem_cons.mpr ⟨(fun n hn => by cases hn; exact ow5_12_0), fun q h => by cases h⟩
theorem ow5_13 : ∀ q ∈ ([] : List (Nat × Nat)), Cond.methodLink "AlgolHouse$Cast" q.1 Lib.objectInit ∈ lw_all := fun q h => by cases h
theorem ow5_14 : ∀ q ∈ ([] : List (Nat × Nat)), JMk "AlgolHouse$Cast" q.1 q.2 := fun q h => by cases h
theorem ow5_15 : ∀ q ∈ ([] : List (Nat × Nat)), exT q.2 ∧ NLk "AlgolHouse$Cast" q.1 q.2 := fun q h => by cases h
theorem ow5_16 : ∀ q ∈ ([] : List (Nat × Nat)), exT q.2 ∧ Cond.methodLink "AlgolHouse$Cast" q.1 ⟨cN q.2, "<init>", "()V"⟩ ∈ lw_all := fun q h => by cases h
def Om5 : Om := [[(7, 814553654), (26, 126027276), (38, 436603930)], [(23, 757220398), (26, 126027276)], [(7, 814553654)], [], [], [], [], [], [], [], [(1, 118034610)], [(17, 17047619), (32, 26488930), (42, 29634659)], [(13, 31)], [], [], [], []]
def Ok5 : List (Nat × Int) := []
def Ol5 : List (Nat × Int) := []
theorem ow5 {s0 : State} (hN : NCs s0) : OwnOK s0 "AlgolHouse$Cast" Om5 Ok5 Ol5 := ⟨ow5_k, ow5_l, ow5_0, ow5_1, ow5_2, ow5_3, ow5_4, ow5_5, ow5_6, ow5_7, ow5_8 hN, ow5_9, ow5_10, ow5_11, ow5_12, ow5_13, ow5_14, ow5_15, ow5_16⟩
theorem ow6_k : ∀ q ∈ ([] : List (Nat × Int)), Cond.constant "AlgolHouse$Declaration" q.1 (Int32.ofInt q.2) ∈ lw_all := fun q h => by cases h
theorem ow6_l : ∀ q ∈ ([] : List (Nat × Int)), Cond.constantLong "AlgolHouse$Declaration" q.1 (Int64.ofInt q.2) ∈ lw_all := fun q h => by cases h
theorem ow6_0 : ∀ q ∈ ([] : List (Nat × Nat)), q.2 ∈ iFs ∧ FLk "AlgolHouse$Declaration" q.1 q.2 := fun q h => by cases h
theorem ow6_1 : ∀ q ∈ ([] : List (Nat × Nat)), q.2 ∈ iFs ∧ PLk "AlgolHouse$Declaration" q.1 q.2 := fun q h => by cases h
theorem ow6_2 : ∀ q ∈ ([] : List (Nat × Nat)), q.2 ∈ iFs ∧ PFk "AlgolHouse$Declaration" q.1 q.2 := fun q h => by cases h
theorem ow6_3 : ∀ q ∈ ([] : List (Nat × Nat)), q.2 ∈ sFs ∧ FLk "AlgolHouse$Declaration" q.1 q.2 := fun q h => by cases h
theorem ow6_4 : ∀ q ∈ ([] : List (Nat × Nat)), TLk "AlgolHouse$Declaration" q.1 q.2 ∧ q.2 % 4 = 2 := fun q h => by cases h
theorem ow6_5 : ∀ q ∈ ([] : List (Nat × Nat)), mdT q.2 = true ∧ NLk "AlgolHouse$Declaration" q.1 q.2 := fun q h => by cases h
theorem ow6_6 : ∀ q ∈ ([] : List (Nat × Nat)), mdA q.2 = true ∧ ak q.2 = 2 ∧ ALk "AlgolHouse$Declaration" q.1 q.2 := fun q h => by cases h
theorem ow6_7 : ∀ q ∈ ([] : List (Nat × Nat)), XLk "AlgolHouse$Declaration" q.1 q.2 := fun q h => by cases h
theorem ow6_8 {s0 : State} (hN : NCs s0) : ∀ q ∈ ([] : List (Nat × Nat)), YLk s0 "AlgolHouse$Declaration" q.1 q.2 := fun q h => by cases h
theorem ow6_9 : ∀ q ∈ ([] : List (Nat × Nat)), q.2 = ACN ∧ ACk "AlgolHouse$Declaration" q.1 ∨ q.2 ≠ ACN ∧ SMk "AlgolHouse$Declaration" q.1 q.2 := fun q h => by cases h
theorem ow6_10 : ∀ q ∈ ([(1, 118034610)] : List (Nat × Nat)), IMk "AlgolHouse$Declaration" q.1 q.2 ∧ ∀ t, inT (q.2 / 16 % 128) (q.2 / 2048 % 128) t → inT 1 55 t := List.forall_mem_cons.mpr ⟨⟨⟨mok_X12_init, np_X12_init, by decide, rfl, im_X12_init, ⟨_, _, rfl⟩, Or.inl (lw_g (lw_at lw_m8 2 rfl) rfl)⟩, fun t ht => ⟨Nat.le_trans (by decide) ht.1, Nat.le_trans ht.2 (by decide)⟩⟩, fun q h => by cases h⟩
theorem ow6_11 : ∀ q ∈ ([] : List (Nat × Nat)), VMk "AlgolHouse$Declaration" q.1 q.2 := fun q h => by cases h
theorem ow6_12 : ∀ q ∈ ([] : List (Nat × Nat)), ∀ n, pN q.2 n → PMk "AlgolHouse$Declaration" q.1 q.2 n := fun q h => by cases h
theorem ow6_13 : ∀ q ∈ ([] : List (Nat × Nat)), Cond.methodLink "AlgolHouse$Declaration" q.1 Lib.objectInit ∈ lw_all := fun q h => by cases h
theorem ow6_14 : ∀ q ∈ ([] : List (Nat × Nat)), JMk "AlgolHouse$Declaration" q.1 q.2 := fun q h => by cases h
theorem ow6_15 : ∀ q ∈ ([] : List (Nat × Nat)), exT q.2 ∧ NLk "AlgolHouse$Declaration" q.1 q.2 := fun q h => by cases h
theorem ow6_16 : ∀ q ∈ ([] : List (Nat × Nat)), exT q.2 ∧ Cond.methodLink "AlgolHouse$Declaration" q.1 ⟨cN q.2, "<init>", "()V"⟩ ∈ lw_all := fun q h => by cases h
def Om6 : Om := [[], [], [], [], [], [], [], [], [], [], [(1, 118034610)], [], [], [], [], [], []]
def Ok6 : List (Nat × Int) := []
def Ol6 : List (Nat × Int) := []
theorem ow6 {s0 : State} (hN : NCs s0) : OwnOK s0 "AlgolHouse$Declaration" Om6 Ok6 Ol6 := ⟨ow6_k, ow6_l, ow6_0, ow6_1, ow6_2, ow6_3, ow6_4, ow6_5, ow6_6, ow6_7, ow6_8 hN, ow6_9, ow6_10, ow6_11, ow6_12, ow6_13, ow6_14, ow6_15, ow6_16⟩
theorem ow7_k : ∀ q ∈ ([] : List (Nat × Int)), Cond.constant "AlgolHouse$Display" q.1 (Int32.ofInt q.2) ∈ lw_all := fun q h => by cases h
theorem ow7_l : ∀ q ∈ ([] : List (Nat × Int)), Cond.constantLong "AlgolHouse$Display" q.1 (Int64.ofInt q.2) ∈ lw_all := fun q h => by cases h
theorem ow7_0 : ∀ q ∈ ([(15, 638128676), (19, 915481159), (25, 646517286), (35, 748831790), (36, 740443180), (49, 671683110), (71, 134415886)] : List (Nat × Nat)), q.2 ∈ iFs ∧ FLk "AlgolHouse$Display" q.1 q.2 := List.forall_mem_cons.mpr ⟨⟨List.mem_of_getElem? (i := 76) rfl, ⟨"AlgolHouse$Mode", Or.inr ⟨_, lw_at lw_m3 71 rfl⟩, Or.inl rfl⟩⟩, List.forall_mem_cons.mpr ⟨⟨List.mem_of_getElem? (i := 109) rfl, ⟨"AlgolHouse$Display", Or.inl (lw_g (lw_at lw_m6 230 rfl) rfl), Or.inl rfl⟩⟩, List.forall_mem_cons.mpr ⟨⟨List.mem_of_getElem? (i := 77) rfl, ⟨"AlgolHouse$Mode", Or.inr ⟨_, lw_at lw_m3 82 rfl⟩, Or.inl rfl⟩⟩, List.forall_mem_cons.mpr ⟨⟨List.mem_of_getElem? (i := 89) rfl, ⟨"AlgolHouse$Display", Or.inl (lw_g (lw_at lw_m5 146 rfl) rfl), Or.inr (lw_g (lw_at lw_m5 147 rfl) rfl)⟩⟩, List.forall_mem_cons.mpr ⟨⟨List.mem_of_getElem? (i := 88) rfl, ⟨"AlgolHouse$Display", Or.inl (lw_g (lw_at lw_m5 99 rfl) rfl), Or.inr (lw_g (lw_at lw_m5 100 rfl) rfl)⟩⟩, List.forall_mem_cons.mpr ⟨⟨List.mem_of_getElem? (i := 80) rfl, ⟨"AlgolHouse$Mode", Or.inr ⟨_, lw_at lw_m3 97 rfl⟩, Or.inl rfl⟩⟩, List.forall_mem_cons.mpr ⟨⟨List.mem_of_getElem? (i := 16) rfl, ⟨"AlgolHouse$Frame", Or.inr ⟨_, lw_at lw_m15 165 rfl⟩, Or.inl rfl⟩⟩, fun q h => by cases h⟩⟩⟩⟩⟩⟩⟩
theorem ow7_1 : ∀ q ∈ ([(19, 915481159)] : List (Nat × Nat)), q.2 ∈ iFs ∧ PLk "AlgolHouse$Display" q.1 q.2 := List.forall_mem_cons.mpr ⟨⟨List.mem_of_getElem? (i := 109) rfl, ⟨"AlgolHouse$Display", Or.inl (lw_g (lw_at lw_m6 230 rfl) rfl), Or.inl rfl⟩, rfl⟩, fun q h => by cases h⟩
theorem ow7_2 : ∀ q ∈ ([] : List (Nat × Nat)), q.2 ∈ iFs ∧ PFk "AlgolHouse$Display" q.1 q.2 := fun q h => by cases h
theorem ow7_3 : ∀ q ∈ ([] : List (Nat × Nat)), q.2 ∈ sFs ∧ FLk "AlgolHouse$Display" q.1 q.2 := fun q h => by cases h
theorem ow7_4 : ∀ q ∈ ([] : List (Nat × Nat)), TLk "AlgolHouse$Display" q.1 q.2 ∧ q.2 % 4 = 2 := fun q h => by cases h
theorem ow7_5 : ∀ q ∈ ([] : List (Nat × Nat)), mdT q.2 = true ∧ NLk "AlgolHouse$Display" q.1 q.2 := fun q h => by cases h
theorem ow7_6 : ∀ q ∈ ([] : List (Nat × Nat)), mdA q.2 = true ∧ ak q.2 = 2 ∧ ALk "AlgolHouse$Display" q.1 q.2 := fun q h => by cases h
theorem ow7_7_0 : XLk "AlgolHouse$Display" 10 1161 := (Or.inl ⟨"AlgolHouse$Mode", lw_g (lw_at lw_m12 131 rfl) rfl, fun t h1 h2 => by
  obtain rfl : t = 9 := by omega
  exact ⟨⟨by omega, by omega⟩, Or.inl rfl⟩⟩)
theorem ow7_7 : ∀ q ∈ ([(10, 1161)] : List (Nat × Nat)), XLk "AlgolHouse$Display" q.1 q.2 := List.forall_mem_cons.mpr ⟨ow7_7_0, fun q h => by cases h⟩
theorem ow7_8 {s0 : State} (hN : NCs s0) : ∀ q ∈ ([] : List (Nat × Nat)), YLk s0 "AlgolHouse$Display" q.1 q.2 := fun q h => by cases h
theorem ow7_9 : ∀ q ∈ ([] : List (Nat × Nat)), q.2 = ACN ∧ ACk "AlgolHouse$Display" q.1 ∨ q.2 ≠ ACN ∧ SMk "AlgolHouse$Display" q.1 q.2 := fun q h => by cases h
theorem ow7_10 : ∀ q ∈ ([(3, 118034610)] : List (Nat × Nat)), IMk "AlgolHouse$Display" q.1 q.2 ∧ ∀ t, inT (q.2 / 16 % 128) (q.2 / 2048 % 128) t → inT 1 55 t := List.forall_mem_cons.mpr ⟨⟨⟨mok_X12_init, np_X12_init, by decide, rfl, im_X12_init, ⟨_, _, rfl⟩, Or.inl (lw_g (lw_at lw_m6 229 rfl) rfl)⟩, fun t ht => ⟨Nat.le_trans (by decide) ht.1, Nat.le_trans ht.2 (by decide)⟩⟩, fun q h => by cases h⟩
theorem ow7_11_0 : VMk "AlgolHouse$Display" 9 24922257 := ⟨mok_X6_real, by decide, fun t ht => by
  obtain rfl : t = 9 := Nat.le_antisymm (Nat.le_trans ht.2 (by decide)) (Nat.le_trans (by decide) ht.1)
  exact ⟨⟨by decide, by decide⟩, im_X6_real, Or.inl ⟨np_X6_real, lw_g (lw_at lw_m11 4 rfl) rfl, Or.inl (lw_g (lw_at lw_m12 124 rfl) rfl)⟩⟩⟩
theorem ow7_11_1 : VMk "AlgolHouse$Display" 29 165249793 := ⟨mok_J6_size, by decide, fun t ht => by
  obtain rfl : t = 48 := Nat.le_antisymm (Nat.le_trans ht.2 (by decide)) (Nat.le_trans (by decide) ht.1)
  exact ⟨⟨by decide, by decide⟩, im_J6_size, Or.inl ⟨np_J6_size, lw_g (lw_at lw_m4 167 rfl) rfl, Or.inl (lw_g (lw_at lw_m12 125 rfl) rfl)⟩⟩⟩
theorem ow7_11_2 : VMk "AlgolHouse$Display" 39 15474756 := ⟨mok_X3_need, by decide, fun t ht => by
  obtain rfl : t = 4 := Nat.le_antisymm (Nat.le_trans ht.2 (by decide)) (Nat.le_trans (by decide) ht.1)
  exact ⟨⟨by decide, by decide⟩, im_X3_need, Or.inl ⟨np_X3_need, lw_g (lw_at lw_m11 139 rfl) rfl, Or.inl (lw_g (lw_at lw_m12 126 rfl) rfl)⟩⟩⟩
theorem ow7_11_3 : VMk "AlgolHouse$Display" 53 166822658 := ⟨mok_J6_get, by decide, fun t ht => by
  obtain rfl : t = 48 := Nat.le_antisymm (Nat.le_trans ht.2 (by decide)) (Nat.le_trans (by decide) ht.1)
  exact ⟨⟨by decide, by decide⟩, im_J6_get, Or.inl ⟨np_J6_get, lw_g (lw_at lw_m7 79 rfl) rfl, Or.inl (lw_g (lw_at lw_m12 130 rfl) rfl)⟩⟩⟩
theorem ow7_11_4 : VMk "AlgolHouse$Display" 57 17047619 := ⟨mok_X3_strong, by decide, fun t ht => by
  obtain rfl : t = 4 := Nat.le_antisymm (Nat.le_trans ht.2 (by decide)) (Nat.le_trans (by decide) ht.1)
  exact ⟨⟨by decide, by decide⟩, im_X3_strong, Or.inl ⟨np_X3_strong, lw_g (lw_at lw_m12 134 rfl) rfl, Or.inl (lw_g (lw_at lw_m12 132 rfl) rfl)⟩⟩⟩
theorem ow7_11_5 : VMk "AlgolHouse$Display" 61 27275364 := ⟨mok_X7_all, by decide, fun t ht => by
  obtain rfl : t = 6 := Nat.le_antisymm (Nat.le_trans ht.2 (by decide)) (Nat.le_trans (by decide) ht.1)
  exact ⟨⟨by decide, by decide⟩, im_X7_all, Or.inl ⟨np_X7_all, lw_g (lw_at lw_m15 233 rfl) rfl, Or.inl (lw_g (lw_at lw_m16 222 rfl) rfl)⟩⟩⟩
theorem ow7_11_6 : VMk "AlgolHouse$Display" 67 31469666 := ⟨mok_X7_row, by decide, fun t ht => by
  obtain rfl : t = 6 := Nat.le_antisymm (Nat.le_trans ht.2 (by decide)) (Nat.le_trans (by decide) ht.1)
  exact ⟨⟨by decide, by decide⟩, im_X7_row, Or.inl ⟨np_X7_row, lw_g (lw_at lw_m16 225 rfl) rfl, Or.inl (lw_g (lw_at lw_m16 223 rfl) rfl)⟩⟩⟩
theorem ow7_11_7 : VMk "AlgolHouse$Display" 77 31731810 := ⟨mok_X7_again, by decide, fun t ht => by
  obtain rfl : t = 6 := Nat.le_antisymm (Nat.le_trans ht.2 (by decide)) (Nat.le_trans (by decide) ht.1)
  exact ⟨⟨by decide, by decide⟩, im_X7_again, Or.inl ⟨np_X7_again, lw_g (lw_at lw_m16 229 rfl) rfl, Or.inl (lw_g (lw_at lw_m16 227 rfl) rfl)⟩⟩⟩
theorem ow7_11_8 : VMk "AlgolHouse$Display" 81 163664546 := ⟨mok_X46_add, by decide, fun t ht => by
  obtain rfl : t = 42 := Nat.le_antisymm (Nat.le_trans ht.2 (by decide)) (Nat.le_trans (by decide) ht.1)
  exact ⟨⟨by decide, by decide⟩, im_X46_add, Or.inl ⟨np_X46_add, lw_g (lw_at lw_m16 233 rfl) rfl, Or.inl (lw_g (lw_at lw_m16 231 rfl) rfl)⟩⟩⟩
theorem ow7_11_9 : VMk "AlgolHouse$Display" 87 31993955 := ⟨mok_X7_fits, by decide, fun t ht => by
  obtain rfl : t = 6 := Nat.le_antisymm (Nat.le_trans ht.2 (by decide)) (Nat.le_trans (by decide) ht.1)
  exact ⟨⟨by decide, by decide⟩, im_X7_fits, Or.inl ⟨np_X7_fits, lw_g (lw_at lw_m16 237 rfl) rfl, Or.inl (lw_g (lw_at lw_m16 235 rfl) rfl)⟩⟩⟩
theorem ow7_11_10 : VMk "AlgolHouse$Display" 91 29634659 := ⟨mok_X7_done, by decide, fun t ht => by
  obtain rfl : t = 6 := Nat.le_antisymm (Nat.le_trans ht.2 (by decide)) (Nat.le_trans (by decide) ht.1)
  exact ⟨⟨by decide, by decide⟩, im_X7_done, Or.inl ⟨np_X7_done, lw_g (lw_at lw_m16 80 rfl) rfl, Or.inl (lw_g (lw_at lw_m16 239 rfl) rfl)⟩⟩⟩
theorem ow7_11 : ∀ q ∈ ([(9, 24922257), (29, 165249793), (39, 15474756), (53, 166822658), (57, 17047619), (61, 27275364), (67, 31469666), (77, 31731810), (81, 163664546), (87, 31993955), (91, 29634659)] : List (Nat × Nat)), VMk "AlgolHouse$Display" q.1 q.2 := List.forall_mem_cons.mpr ⟨ow7_11_0, List.forall_mem_cons.mpr ⟨ow7_11_1, List.forall_mem_cons.mpr ⟨ow7_11_2, List.forall_mem_cons.mpr ⟨ow7_11_3, List.forall_mem_cons.mpr ⟨ow7_11_4, List.forall_mem_cons.mpr ⟨ow7_11_5, List.forall_mem_cons.mpr ⟨ow7_11_6, List.forall_mem_cons.mpr ⟨ow7_11_7, List.forall_mem_cons.mpr ⟨ow7_11_8, List.forall_mem_cons.mpr ⟨ow7_11_9, List.forall_mem_cons.mpr ⟨ow7_11_10, fun q h => by cases h⟩⟩⟩⟩⟩⟩⟩⟩⟩⟩⟩
theorem ow7_12_0 : PMk "AlgolHouse$Display" 45 29 2 := ⟨by decide, fun t m h => by
  rcases dsp_29 h with ⟨rfl, rfl⟩
  · exact ⟨mok_X12_part, ⟨by decide, by decide⟩, im_X12_part, Or.inr ⟨⟨"AlgolHouse$Display", "part", "(I)LAlgolHouse$Node;"⟩, "AlgolHouse$Node", by decide +kernel, lw_g (lw_at lw_m12 127 rfl) rfl, lw_g (lw_at lw_m12 128 rfl) rfl, Or.inl (lw_at lw_m10 110 rfl), ⟨by decide +kernel, by decide +kernel⟩, lw_g (lw_at lw_m12 129 rfl) rfl⟩⟩⟩
theorem ow7_12 : ∀ q ∈ ([(45, 29)] : List (Nat × Nat)), ∀ n, pN q.2 n → PMk "AlgolHouse$Display" q.1 q.2 n := List.forall_mem_cons.mpr ⟨(fun n hn => by cases hn; exact ow7_12_0), fun q h => by cases h⟩
theorem ow7_13 : ∀ q ∈ ([] : List (Nat × Nat)), Cond.methodLink "AlgolHouse$Display" q.1 Lib.objectInit ∈ lw_all := fun q h => by cases h
theorem ow7_14 : ∀ q ∈ ([] : List (Nat × Nat)), JMk "AlgolHouse$Display" q.1 q.2 := fun q h => by cases h
theorem ow7_15 : ∀ q ∈ ([] : List (Nat × Nat)), exT q.2 ∧ NLk "AlgolHouse$Display" q.1 q.2 := fun q h => by cases h
theorem ow7_16 : ∀ q ∈ ([] : List (Nat × Nat)), exT q.2 ∧ Cond.methodLink "AlgolHouse$Display" q.1 ⟨cN q.2, "<init>", "()V"⟩ ∈ lw_all := fun q h => by cases h
def Om7 : Om := [[(15, 638128676), (19, 915481159), (25, 646517286), (35, 748831790), (36, 740443180), (49, 671683110), (71, 134415886)], [(19, 915481159)], [], [], [], [], [], [(10, 1161)], [], [], [(3, 118034610)], [(9, 24922257), (29, 165249793), (39, 15474756), (53, 166822658), (57, 17047619), (61, 27275364), (67, 31469666), (77, 31731810), (81, 163664546), (87, 31993955), (91, 29634659)], [(45, 29)], [], [], [], []]
def Ok7 : List (Nat × Int) := []
def Ol7 : List (Nat × Int) := []
theorem ow7 {s0 : State} (hN : NCs s0) : OwnOK s0 "AlgolHouse$Display" Om7 Ok7 Ol7 := ⟨ow7_k, ow7_l, ow7_0, ow7_1, ow7_2, ow7_3, ow7_4, ow7_5, ow7_6, ow7_7, ow7_8 hN, ow7_9, ow7_10, ow7_11, ow7_12, ow7_13, ow7_14, ow7_15, ow7_16⟩
theorem ow8_k : ∀ q ∈ ([] : List (Nat × Int)), Cond.constant "AlgolHouse$Edge" q.1 (Int32.ofInt q.2) ∈ lw_all := fun q h => by cases h
theorem ow8_l : ∀ q ∈ ([] : List (Nat × Int)), Cond.constantLong "AlgolHouse$Edge" q.1 (Int64.ofInt q.2) ∈ lw_all := fun q h => by cases h
theorem ow8_0 : ∀ q ∈ ([(9, 923935819), (25, 638128676), (31, 932324427), (34, 268699666), (41, 126027276), (52, 436603930), (56, 740443180), (63, 1420184731), (72, 1462127768), (75, 1470516376), (86, 1563055275), (89, 1646941352), (90, 1655329960)] : List (Nat × Nat)), q.2 ∈ iFs ∧ FLk "AlgolHouse$Edge" q.1 q.2 := List.forall_mem_cons.mpr ⟨⟨List.mem_of_getElem? (i := 110) rfl, ⟨"AlgolHouse$Edge", Or.inl (lw_g (lw_at lw_m8 200 rfl) rfl), Or.inl rfl⟩⟩, List.forall_mem_cons.mpr ⟨⟨List.mem_of_getElem? (i := 76) rfl, ⟨"AlgolHouse$Mode", Or.inr ⟨_, lw_at lw_m3 72 rfl⟩, Or.inl rfl⟩⟩, List.forall_mem_cons.mpr ⟨⟨List.mem_of_getElem? (i := 111) rfl, ⟨"AlgolHouse$Edge", Or.inl (lw_g (lw_at lw_m8 201 rfl) rfl), Or.inl rfl⟩⟩, List.forall_mem_cons.mpr ⟨⟨List.mem_of_getElem? (i := 32) rfl, ⟨"AlgolHouse$Judge", Or.inr ⟨_, lw_at lw_m3 141 rfl⟩, Or.inl rfl⟩⟩, List.forall_mem_cons.mpr ⟨⟨List.mem_of_getElem? (i := 15) rfl, ⟨"AlgolHouse$Frame", Or.inr ⟨_, lw_at lw_m15 150 rfl⟩, Or.inl rfl⟩⟩, List.forall_mem_cons.mpr ⟨⟨List.mem_of_getElem? (i := 52) rfl, ⟨"AlgolHouse$Machine", Or.inr ⟨_, lw_at lw_m4 16 rfl⟩, Or.inl rfl⟩⟩, List.forall_mem_cons.mpr ⟨⟨List.mem_of_getElem? (i := 88) rfl, ⟨"AlgolHouse$Edge", Or.inl (lw_g (lw_at lw_m5 109 rfl) rfl), Or.inr (lw_g (lw_at lw_m5 110 rfl) rfl)⟩⟩, List.forall_mem_cons.mpr ⟨⟨List.mem_of_getElem? (i := 169) rfl, ⟨"AlgolHouse$Place", Or.inr ⟨_, lw_at lw_m16 38 rfl⟩, Or.inl rfl⟩⟩, List.forall_mem_cons.mpr ⟨⟨List.mem_of_getElem? (i := 174) rfl, ⟨"AlgolHouse$Place", Or.inr ⟨_, lw_at lw_m16 48 rfl⟩, Or.inl rfl⟩⟩, List.forall_mem_cons.mpr ⟨⟨List.mem_of_getElem? (i := 175) rfl, ⟨"AlgolHouse$Place", Or.inr ⟨_, lw_at lw_m16 52 rfl⟩, Or.inl rfl⟩⟩, List.forall_mem_cons.mpr ⟨⟨List.mem_of_getElem? (i := 186) rfl, ⟨"AlgolHouse$Value", Or.inr ⟨_, lw_at lw_m16 129 rfl⟩, Or.inl rfl⟩⟩, List.forall_mem_cons.mpr ⟨⟨List.mem_of_getElem? (i := 196) rfl, ⟨"AlgolHouse$Value", Or.inr ⟨_, lw_at lw_m16 174 rfl⟩, Or.inl rfl⟩⟩, List.forall_mem_cons.mpr ⟨⟨List.mem_of_getElem? (i := 197) rfl, ⟨"AlgolHouse$Value", Or.inr ⟨_, lw_at lw_m16 178 rfl⟩, Or.inl rfl⟩⟩, fun q h => by cases h⟩⟩⟩⟩⟩⟩⟩⟩⟩⟩⟩⟩⟩
theorem ow8_1 : ∀ q ∈ ([(31, 932324427), (38, 757220398), (41, 126027276)] : List (Nat × Nat)), q.2 ∈ iFs ∧ PLk "AlgolHouse$Edge" q.1 q.2 := List.forall_mem_cons.mpr ⟨⟨List.mem_of_getElem? (i := 111) rfl, ⟨"AlgolHouse$Edge", Or.inl (lw_g (lw_at lw_m8 201 rfl) rfl), Or.inl rfl⟩, rfl⟩, List.forall_mem_cons.mpr ⟨⟨List.mem_of_getElem? (i := 90) rfl, ⟨"AlgolHouse$Edge", Or.inl (lw_g (lw_at lw_m5 168 rfl) rfl), Or.inr (lw_g (lw_at lw_m5 169 rfl) rfl)⟩, rfl⟩, List.forall_mem_cons.mpr ⟨⟨List.mem_of_getElem? (i := 15) rfl, ⟨"AlgolHouse$Frame", Or.inr ⟨_, lw_at lw_m15 150 rfl⟩, Or.inl rfl⟩, rfl⟩, fun q h => by cases h⟩⟩⟩
theorem ow8_2 : ∀ q ∈ ([(9, 923935819)] : List (Nat × Nat)), q.2 ∈ iFs ∧ PFk "AlgolHouse$Edge" q.1 q.2 := List.forall_mem_cons.mpr ⟨⟨List.mem_of_getElem? (i := 110) rfl, rfl, rfl, "AlgolHouse$Edge", lw_g (lw_at lw_m8 200 rfl) rfl, Or.inl rfl⟩, fun q h => by cases h⟩
theorem ow8_3 : ∀ q ∈ ([] : List (Nat × Nat)), q.2 ∈ sFs ∧ FLk "AlgolHouse$Edge" q.1 q.2 := fun q h => by cases h
theorem ow8_4 : ∀ q ∈ ([] : List (Nat × Nat)), TLk "AlgolHouse$Edge" q.1 q.2 ∧ q.2 % 4 = 2 := fun q h => by cases h
theorem ow8_5 : ∀ q ∈ ([] : List (Nat × Nat)), mdT q.2 = true ∧ NLk "AlgolHouse$Edge" q.1 q.2 := fun q h => by cases h
theorem ow8_6 : ∀ q ∈ ([] : List (Nat × Nat)), mdA q.2 = true ∧ ak q.2 = 2 ∧ ALk "AlgolHouse$Edge" q.1 q.2 := fun q h => by cases h
theorem ow8_7 : ∀ q ∈ ([] : List (Nat × Nat)), XLk "AlgolHouse$Edge" q.1 q.2 := fun q h => by cases h
theorem ow8_8 {s0 : State} (hN : NCs s0) : ∀ q ∈ ([] : List (Nat × Nat)), YLk s0 "AlgolHouse$Edge" q.1 q.2 := fun q h => by cases h
theorem ow8_9 : ∀ q ∈ ([] : List (Nat × Nat)), q.2 = ACN ∧ ACk "AlgolHouse$Edge" q.1 ∨ q.2 ≠ ACN ∧ SMk "AlgolHouse$Edge" q.1 q.2 := fun q h => by cases h
theorem ow8_10 : ∀ q ∈ ([(3, 118034610)] : List (Nat × Nat)), IMk "AlgolHouse$Edge" q.1 q.2 ∧ ∀ t, inT (q.2 / 16 % 128) (q.2 / 2048 % 128) t → inT 1 55 t := List.forall_mem_cons.mpr ⟨⟨⟨mok_X12_init, np_X12_init, by decide, rfl, im_X12_init, ⟨_, _, rfl⟩, Or.inl (lw_g (lw_at lw_m8 199 rfl) rfl)⟩, fun t ht => ⟨Nat.le_trans (by decide) ht.1, Nat.le_trans ht.2 (by decide)⟩⟩, fun q h => by cases h⟩
theorem ow8_11_0 : VMk "AlgolHouse$Edge" 19 17309764 := ⟨mok_X3_come, by decide, fun t ht => by
  obtain rfl : t = 4 := Nat.le_antisymm (Nat.le_trans ht.2 (by decide)) (Nat.le_trans (by decide) ht.1)
  exact ⟨⟨by decide, by decide⟩, im_X3_come, Or.inl ⟨np_X3_come, lw_g (lw_at lw_m13 1 rfl) rfl, Or.inl (lw_g (lw_at lw_m13 153 rfl) rfl)⟩⟩⟩
theorem ow8_11_1 : VMk "AlgolHouse$Edge" 46 26488930 := ⟨mok_X7_push, by decide, fun t ht => by
  obtain rfl : t = 6 := Nat.le_antisymm (Nat.le_trans ht.2 (by decide)) (Nat.le_trans (by decide) ht.1)
  exact ⟨⟨by decide, by decide⟩, im_X7_push, Or.inl ⟨np_X7_push, lw_g (lw_at lw_m15 124 rfl) rfl, Or.inl (lw_g (lw_at lw_m17 3 rfl) rfl)⟩⟩⟩
theorem ow8_11_2 : VMk "AlgolHouse$Edge" 59 27799651 := ⟨mok_X7_followed, by decide, fun t ht => by
  obtain rfl : t = 6 := Nat.le_antisymm (Nat.le_trans ht.2 (by decide)) (Nat.le_trans (by decide) ht.1)
  exact ⟨⟨by decide, by decide⟩, im_X7_followed, Or.inl ⟨np_X7_followed, lw_g (lw_at lw_m16 4 rfl) rfl, Or.inl (lw_g (lw_at lw_m17 4 rfl) rfl)⟩⟩⟩
theorem ow8_11_3 : VMk "AlgolHouse$Edge" 68 27013220 := ⟨mok_X7_need, by decide, fun t ht => by
  obtain rfl : t = 6 := Nat.le_antisymm (Nat.le_trans ht.2 (by decide)) (Nat.le_trans (by decide) ht.1)
  exact ⟨⟨by decide, by decide⟩, im_X7_need, Or.inl ⟨np_X7_need, lw_g (lw_at lw_m15 132 rfl) rfl, Or.inl (lw_g (lw_at lw_m17 5 rfl) rfl)⟩⟩⟩
theorem ow8_11_4 : VMk "AlgolHouse$Edge" 78 32256098 := ⟨mok_X7_number, by decide, fun t ht => by
  obtain rfl : t = 6 := Nat.le_antisymm (Nat.le_trans ht.2 (by decide)) (Nat.le_trans (by decide) ht.1)
  exact ⟨⟨by decide, by decide⟩, im_X7_number, Or.inl ⟨np_X7_number, lw_g (lw_at lw_m17 8 rfl) rfl, Or.inl (lw_g (lw_at lw_m17 6 rfl) rfl)⟩⟩⟩
theorem ow8_11_5 : VMk "AlgolHouse$Edge" 82 29634659 := ⟨mok_X7_done, by decide, fun t ht => by
  obtain rfl : t = 6 := Nat.le_antisymm (Nat.le_trans ht.2 (by decide)) (Nat.le_trans (by decide) ht.1)
  exact ⟨⟨by decide, by decide⟩, im_X7_done, Or.inl ⟨np_X7_done, lw_g (lw_at lw_m16 80 rfl) rfl, Or.inl (lw_g (lw_at lw_m17 10 rfl) rfl)⟩⟩⟩
theorem ow8_11 : ∀ q ∈ ([(19, 17309764), (46, 26488930), (59, 27799651), (68, 27013220), (78, 32256098), (82, 29634659)] : List (Nat × Nat)), VMk "AlgolHouse$Edge" q.1 q.2 := List.forall_mem_cons.mpr ⟨ow8_11_0, List.forall_mem_cons.mpr ⟨ow8_11_1, List.forall_mem_cons.mpr ⟨ow8_11_2, List.forall_mem_cons.mpr ⟨ow8_11_3, List.forall_mem_cons.mpr ⟨ow8_11_4, List.forall_mem_cons.mpr ⟨ow8_11_5, fun q h => by cases h⟩⟩⟩⟩⟩⟩
theorem ow8_12_0 : PMk "AlgolHouse$Edge" 15 35 2 := ⟨by decide, fun t m h => by
  rcases dsp_35 h with ⟨rfl, rfl⟩
  · exact ⟨mok_X12_part, ⟨by decide, by decide⟩, im_X12_part, Or.inr ⟨⟨"AlgolHouse$Edge", "part", "(I)LAlgolHouse$Node;"⟩, "AlgolHouse$Node", by decide +kernel, lw_g (lw_at lw_m13 150 rfl) rfl, lw_g (lw_at lw_m13 151 rfl) rfl, Or.inl (lw_at lw_m10 110 rfl), ⟨by decide +kernel, by decide +kernel⟩, lw_g (lw_at lw_m13 152 rfl) rfl⟩⟩⟩
theorem ow8_12 : ∀ q ∈ ([(15, 35)] : List (Nat × Nat)), ∀ n, pN q.2 n → PMk "AlgolHouse$Edge" q.1 q.2 n := List.forall_mem_cons.mpr ⟨(fun n hn => by cases hn; exact ow8_12_0), fun q h => by cases h⟩
theorem ow8_13 : ∀ q ∈ ([] : List (Nat × Nat)), Cond.methodLink "AlgolHouse$Edge" q.1 Lib.objectInit ∈ lw_all := fun q h => by cases h
theorem ow8_14 : ∀ q ∈ ([] : List (Nat × Nat)), JMk "AlgolHouse$Edge" q.1 q.2 := fun q h => by cases h
theorem ow8_15 : ∀ q ∈ ([] : List (Nat × Nat)), exT q.2 ∧ NLk "AlgolHouse$Edge" q.1 q.2 := fun q h => by cases h
theorem ow8_16 : ∀ q ∈ ([] : List (Nat × Nat)), exT q.2 ∧ Cond.methodLink "AlgolHouse$Edge" q.1 ⟨cN q.2, "<init>", "()V"⟩ ∈ lw_all := fun q h => by cases h
def Om8 : Om := [[(9, 923935819), (25, 638128676), (31, 932324427), (34, 268699666), (41, 126027276), (52, 436603930), (56, 740443180), (63, 1420184731), (72, 1462127768), (75, 1470516376), (86, 1563055275), (89, 1646941352), (90, 1655329960)], [(31, 932324427), (38, 757220398), (41, 126027276)], [(9, 923935819)], [], [], [], [], [], [], [], [(3, 118034610)], [(19, 17309764), (46, 26488930), (59, 27799651), (68, 27013220), (78, 32256098), (82, 29634659)], [(15, 35)], [], [], [], []]
def Ok8 : List (Nat × Int) := []
def Ol8 : List (Nat × Int) := []
theorem ow8 {s0 : State} (hN : NCs s0) : OwnOK s0 "AlgolHouse$Edge" Om8 Ok8 Ol8 := ⟨ow8_k, ow8_l, ow8_0, ow8_1, ow8_2, ow8_3, ow8_4, ow8_5, ow8_6, ow8_7, ow8_8 hN, ow8_9, ow8_10, ow8_11, ow8_12, ow8_13, ow8_14, ow8_15, ow8_16⟩
theorem ow9_k : ∀ q ∈ ([] : List (Nat × Int)), Cond.constant "AlgolHouse$Ends" q.1 (Int32.ofInt q.2) ∈ lw_all := fun q h => by cases h
theorem ow9_l : ∀ q ∈ ([] : List (Nat × Int)), Cond.constantLong "AlgolHouse$Ends" q.1 (Int64.ofInt q.2) ∈ lw_all := fun q h => by cases h
theorem ow9_0 : ∀ q ∈ ([(13, 757220398)] : List (Nat × Nat)), q.2 ∈ iFs ∧ FLk "AlgolHouse$Ends" q.1 q.2 := List.forall_mem_cons.mpr ⟨⟨List.mem_of_getElem? (i := 90) rfl, ⟨"AlgolHouse$Node", Or.inl (lw_g (lw_at lw_m5 161 rfl) rfl), Or.inl rfl⟩⟩, fun q h => by cases h⟩
theorem ow9_1 : ∀ q ∈ ([(17, 757220398)] : List (Nat × Nat)), q.2 ∈ iFs ∧ PLk "AlgolHouse$Ends" q.1 q.2 := List.forall_mem_cons.mpr ⟨⟨List.mem_of_getElem? (i := 90) rfl, ⟨"AlgolHouse$Ends", Or.inl (lw_g (lw_at lw_m5 162 rfl) rfl), Or.inr (lw_g (lw_at lw_m5 163 rfl) rfl)⟩, rfl⟩, fun q h => by cases h⟩
theorem ow9_2 : ∀ q ∈ ([] : List (Nat × Nat)), q.2 ∈ iFs ∧ PFk "AlgolHouse$Ends" q.1 q.2 := fun q h => by cases h
theorem ow9_3 : ∀ q ∈ ([] : List (Nat × Nat)), q.2 ∈ sFs ∧ FLk "AlgolHouse$Ends" q.1 q.2 := fun q h => by cases h
theorem ow9_4 : ∀ q ∈ ([] : List (Nat × Nat)), TLk "AlgolHouse$Ends" q.1 q.2 ∧ q.2 % 4 = 2 := fun q h => by cases h
theorem ow9_5 : ∀ q ∈ ([] : List (Nat × Nat)), mdT q.2 = true ∧ NLk "AlgolHouse$Ends" q.1 q.2 := fun q h => by cases h
theorem ow9_6 : ∀ q ∈ ([] : List (Nat × Nat)), mdA q.2 = true ∧ ak q.2 = 2 ∧ ALk "AlgolHouse$Ends" q.1 q.2 := fun q h => by cases h
theorem ow9_7 : ∀ q ∈ ([] : List (Nat × Nat)), XLk "AlgolHouse$Ends" q.1 q.2 := fun q h => by cases h
theorem ow9_8 {s0 : State} (hN : NCs s0) : ∀ q ∈ ([] : List (Nat × Nat)), YLk s0 "AlgolHouse$Ends" q.1 q.2 := fun q h => by cases h
theorem ow9_9 : ∀ q ∈ ([] : List (Nat × Nat)), q.2 = ACN ∧ ACk "AlgolHouse$Ends" q.1 ∨ q.2 ≠ ACN ∧ SMk "AlgolHouse$Ends" q.1 q.2 := fun q h => by cases h
theorem ow9_10 : ∀ q ∈ ([(1, 118034610)] : List (Nat × Nat)), IMk "AlgolHouse$Ends" q.1 q.2 ∧ ∀ t, inT (q.2 / 16 % 128) (q.2 / 2048 % 128) t → inT 1 55 t := List.forall_mem_cons.mpr ⟨⟨⟨mok_X12_init, np_X12_init, by decide, rfl, im_X12_init, ⟨_, _, rfl⟩, Or.inl (lw_g (lw_at lw_m5 86 rfl) rfl)⟩, fun t ht => ⟨Nat.le_trans (by decide) ht.1, Nat.le_trans ht.2 (by decide)⟩⟩, fun q h => by cases h⟩
theorem ow9_11_0 : VMk "AlgolHouse$Ends" 7 16523330 := ⟨mok_X3_leader, by decide, fun t ht => by
  obtain rfl : t = 4 := Nat.le_antisymm (Nat.le_trans ht.2 (by decide)) (Nat.le_trans (by decide) ht.1)
  exact ⟨⟨by decide, by decide⟩, im_X3_leader, Or.inl ⟨np_X3_leader, lw_g (lw_ms _ (List.mem_map.mpr ⟨_, List.mem_of_getElem? (i := 81) rfl, rfl⟩)) rfl, Or.inr ⟨_, lw_at lw_m13 127 rfl⟩⟩⟩⟩
theorem ow9_11 : ∀ q ∈ ([(7, 16523330)] : List (Nat × Nat)), VMk "AlgolHouse$Ends" q.1 q.2 := List.forall_mem_cons.mpr ⟨ow9_11_0, fun q h => by cases h⟩
theorem ow9_12_0 : PMk "AlgolHouse$Ends" 20 27 2 := ⟨by decide, fun t m h => by
  rcases dsp_27 h with ⟨rfl, rfl⟩ | ⟨rfl, rfl⟩ | ⟨rfl, rfl⟩ | ⟨rfl, rfl⟩
  · exact ⟨mok_X13_closed, ⟨by decide, by decide⟩, im_X13_closed, Or.inl ⟨by decide +kernel, lw_g (lw_at lw_m13 131 rfl) rfl, Or.inl (lw_g (lw_at lw_m13 128 rfl) rfl)⟩⟩
  · exact ⟨mok_X13_closed, ⟨by decide, by decide⟩, im_X13_closed, Or.inl ⟨by decide +kernel, lw_g (lw_at lw_m13 132 rfl) rfl, Or.inl (lw_g (lw_at lw_m13 128 rfl) rfl)⟩⟩
  · exact ⟨mok_X14_closed, ⟨by decide, by decide⟩, im_X14_closed, Or.inr ⟨⟨"AlgolHouse$Ends", "closed", "(LAlgolHouse$Judge;)V"⟩, "AlgolHouse$Ends", by decide +kernel, lw_g (lw_at lw_m13 128 rfl) rfl, lw_g (lw_at lw_m13 130 rfl) rfl, Or.inr ⟨lw_g (lw_at lw_m13 129 rfl) rfl, _, _, _, lw_g (lw_at lw_m13 138 rfl) rfl⟩, ⟨by decide +kernel, by decide +kernel⟩, lw_g (lw_at lw_m13 133 rfl) rfl⟩⟩
  · exact ⟨mok_X13_closed, ⟨by decide, by decide⟩, im_X13_closed, Or.inl ⟨by decide +kernel, lw_g (lw_at lw_m13 137 rfl) rfl, Or.inl (lw_g (lw_at lw_m13 128 rfl) rfl)⟩⟩⟩
theorem ow9_12 : ∀ q ∈ ([(20, 27)] : List (Nat × Nat)), ∀ n, pN q.2 n → PMk "AlgolHouse$Ends" q.1 q.2 n := List.forall_mem_cons.mpr ⟨(fun n hn => by cases hn; exact ow9_12_0), fun q h => by cases h⟩
theorem ow9_13 : ∀ q ∈ ([] : List (Nat × Nat)), Cond.methodLink "AlgolHouse$Ends" q.1 Lib.objectInit ∈ lw_all := fun q h => by cases h
theorem ow9_14 : ∀ q ∈ ([] : List (Nat × Nat)), JMk "AlgolHouse$Ends" q.1 q.2 := fun q h => by cases h
theorem ow9_15 : ∀ q ∈ ([] : List (Nat × Nat)), exT q.2 ∧ NLk "AlgolHouse$Ends" q.1 q.2 := fun q h => by cases h
theorem ow9_16 : ∀ q ∈ ([] : List (Nat × Nat)), exT q.2 ∧ Cond.methodLink "AlgolHouse$Ends" q.1 ⟨cN q.2, "<init>", "()V"⟩ ∈ lw_all := fun q h => by cases h
def Om9 : Om := [[(13, 757220398)], [(17, 757220398)], [], [], [], [], [], [], [], [], [(1, 118034610)], [(7, 16523330)], [(20, 27)], [], [], [], []]
def Ok9 : List (Nat × Int) := []
def Ol9 : List (Nat × Int) := []
theorem ow9 {s0 : State} (hN : NCs s0) : OwnOK s0 "AlgolHouse$Ends" Om9 Ok9 Ol9 := ⟨ow9_k, ow9_l, ow9_0, ow9_1, ow9_2, ow9_3, ow9_4, ow9_5, ow9_6, ow9_7, ow9_8 hN, ow9_9, ow9_10, ow9_11, ow9_12, ow9_13, ow9_14, ow9_15, ow9_16⟩
theorem ow10_k : ∀ q ∈ ([] : List (Nat × Int)), Cond.constant "AlgolHouse$Fault" q.1 (Int32.ofInt q.2) ∈ lw_all := fun q h => by cases h
theorem ow10_l : ∀ q ∈ ([] : List (Nat × Int)), Cond.constantLong "AlgolHouse$Fault" q.1 (Int64.ofInt q.2) ∈ lw_all := fun q h => by cases h
theorem ow10_0 : ∀ q ∈ ([] : List (Nat × Nat)), q.2 ∈ iFs ∧ FLk "AlgolHouse$Fault" q.1 q.2 := fun q h => by cases h
theorem ow10_1 : ∀ q ∈ ([(7, 3509344432), (13, 3517733040)] : List (Nat × Nat)), q.2 ∈ iFs ∧ PLk "AlgolHouse$Fault" q.1 q.2 := List.forall_mem_cons.mpr ⟨⟨List.mem_of_getElem? (i := 418) rfl, ⟨"AlgolHouse$Fault", Or.inl (lw_g (lw_at lw_m3 207 rfl) rfl), Or.inl rfl⟩, rfl⟩, List.forall_mem_cons.mpr ⟨⟨List.mem_of_getElem? (i := 419) rfl, ⟨"AlgolHouse$Fault", Or.inl (lw_g (lw_at lw_m3 210 rfl) rfl), Or.inl rfl⟩, rfl⟩, fun q h => by cases h⟩⟩
theorem ow10_2 : ∀ q ∈ ([] : List (Nat × Nat)), q.2 ∈ iFs ∧ PFk "AlgolHouse$Fault" q.1 q.2 := fun q h => by cases h
theorem ow10_3 : ∀ q ∈ ([] : List (Nat × Nat)), q.2 ∈ sFs ∧ FLk "AlgolHouse$Fault" q.1 q.2 := fun q h => by cases h
theorem ow10_4 : ∀ q ∈ ([] : List (Nat × Nat)), TLk "AlgolHouse$Fault" q.1 q.2 ∧ q.2 % 4 = 2 := fun q h => by cases h
theorem ow10_5 : ∀ q ∈ ([] : List (Nat × Nat)), mdT q.2 = true ∧ NLk "AlgolHouse$Fault" q.1 q.2 := fun q h => by cases h
theorem ow10_6 : ∀ q ∈ ([] : List (Nat × Nat)), mdA q.2 = true ∧ ak q.2 = 2 ∧ ALk "AlgolHouse$Fault" q.1 q.2 := fun q h => by cases h
theorem ow10_7 : ∀ q ∈ ([] : List (Nat × Nat)), XLk "AlgolHouse$Fault" q.1 q.2 := fun q h => by cases h
theorem ow10_8 {s0 : State} (hN : NCs s0) : ∀ q ∈ ([] : List (Nat × Nat)), YLk s0 "AlgolHouse$Fault" q.1 q.2 := fun q h => by cases h
theorem ow10_9 : ∀ q ∈ ([] : List (Nat × Nat)), q.2 = ACN ∧ ACk "AlgolHouse$Fault" q.1 ∨ q.2 ≠ ACN ∧ SMk "AlgolHouse$Fault" q.1 q.2 := fun q h => by cases h
theorem ow10_10 : ∀ q ∈ ([(1, 176519877)] : List (Nat × Nat)), IMk "AlgolHouse$Fault" q.1 q.2 ∧ ∀ t, inT (q.2 / 16 % 128) (q.2 / 2048 % 128) t → inT 1 55 t := List.forall_mem_cons.mpr ⟨⟨⟨mok_J9_init_2, np_J9_init_2, by decide, rfl, im_J9_init_2, ⟨_, _, rfl⟩, Or.inl (lw_g (lw_at lw_m3 198 rfl) rfl)⟩, fun t ht => ⟨Nat.le_trans (by decide) ht.1, Nat.le_trans ht.2 (by decide)⟩⟩, fun q h => by cases h⟩
theorem ow10_11 : ∀ q ∈ ([] : List (Nat × Nat)), VMk "AlgolHouse$Fault" q.1 q.2 := fun q h => by cases h
theorem ow10_12 : ∀ q ∈ ([] : List (Nat × Nat)), ∀ n, pN q.2 n → PMk "AlgolHouse$Fault" q.1 q.2 n := fun q h => by cases h
theorem ow10_13 : ∀ q ∈ ([] : List (Nat × Nat)), Cond.methodLink "AlgolHouse$Fault" q.1 Lib.objectInit ∈ lw_all := fun q h => by cases h
theorem ow10_14 : ∀ q ∈ ([] : List (Nat × Nat)), JMk "AlgolHouse$Fault" q.1 q.2 := fun q h => by cases h
theorem ow10_15 : ∀ q ∈ ([] : List (Nat × Nat)), exT q.2 ∧ NLk "AlgolHouse$Fault" q.1 q.2 := fun q h => by cases h
theorem ow10_16 : ∀ q ∈ ([] : List (Nat × Nat)), exT q.2 ∧ Cond.methodLink "AlgolHouse$Fault" q.1 ⟨cN q.2, "<init>", "()V"⟩ ∈ lw_all := fun q h => by cases h
def Om10 : Om := [[], [(7, 3509344432), (13, 3517733040)], [], [], [], [], [], [], [], [], [(1, 176519877)], [], [], [], [], [], []]
def Ok10 : List (Nat × Int) := []
def Ol10 : List (Nat × Int) := []
theorem ow10 {s0 : State} (hN : NCs s0) : OwnOK s0 "AlgolHouse$Fault" Om10 Ok10 Ol10 := ⟨ow10_k, ow10_l, ow10_0, ow10_1, ow10_2, ow10_3, ow10_4, ow10_5, ow10_6, ow10_7, ow10_8 hN, ow10_9, ow10_10, ow10_11, ow10_12, ow10_13, ow10_14, ow10_15, ow10_16⟩
theorem ow11_k : ∀ q ∈ ([] : List (Nat × Int)), Cond.constant "AlgolHouse$Formula" q.1 (Int32.ofInt q.2) ∈ lw_all := fun q h => by cases h
theorem ow11_l : ∀ q ∈ ([(139, 60), (141, 15676), (143, 62), (145, 15678), (147, 61), (149, 15663), (151, 126), (153, 43), (155, 45), (167, 38), (169, 33), (174, 42), (176, 47), (178, 37), (242, (-9223372036854775808)), (256, (-1))] : List (Nat × Int)), Cond.constantLong "AlgolHouse$Formula" q.1 (Int64.ofInt q.2) ∈ lw_all := List.forall_mem_cons.mpr ⟨lw_g (lw_at lw_m13 209 rfl) rfl, List.forall_mem_cons.mpr ⟨lw_g (lw_at lw_m13 210 rfl) rfl, List.forall_mem_cons.mpr ⟨lw_g (lw_at lw_m13 211 rfl) rfl, List.forall_mem_cons.mpr ⟨lw_g (lw_at lw_m13 212 rfl) rfl, List.forall_mem_cons.mpr ⟨lw_g (lw_at lw_m13 201 rfl) rfl, List.forall_mem_cons.mpr ⟨lw_g (lw_at lw_m13 202 rfl) rfl, List.forall_mem_cons.mpr ⟨lw_g (lw_at lw_m13 190 rfl) rfl, List.forall_mem_cons.mpr ⟨lw_g (lw_at lw_m13 191 rfl) rfl, List.forall_mem_cons.mpr ⟨lw_g (lw_at lw_m13 192 rfl) rfl, List.forall_mem_cons.mpr ⟨lw_g (lw_at lw_m13 203 rfl) rfl, List.forall_mem_cons.mpr ⟨lw_g (lw_at lw_m13 204 rfl) rfl, List.forall_mem_cons.mpr ⟨lw_g (lw_at lw_m13 213 rfl) rfl, List.forall_mem_cons.mpr ⟨lw_g (lw_at lw_m13 214 rfl) rfl, List.forall_mem_cons.mpr ⟨lw_g (lw_at lw_m13 215 rfl) rfl, List.forall_mem_cons.mpr ⟨lw_g (lw_at lw_m17 31 rfl) rfl, List.forall_mem_cons.mpr ⟨lw_g (lw_at lw_m17 48 rfl) rfl, fun q h => by cases h⟩⟩⟩⟩⟩⟩⟩⟩⟩⟩⟩⟩⟩⟩⟩⟩
theorem ow11_0 : ∀ q ∈ ([(9, 999763549), (15, 748831790), (35, 765609006), (39, 251922450), (43, 1008152158), (47, 1554600614), (62, 1529434790), (65, 604508190), (75, 612896798), (80, 1117666426), (91, 1142832250), (97, 1016540764), (113, 740443180), (123, 596119581), (130, 268699666), (133, 277088274), (136, 285476882), (180, 126027276), (203, 436603930), (211, 134415886), (215, 1563055275), (222, 1571443881)] : List (Nat × Nat)), q.2 ∈ iFs ∧ FLk "AlgolHouse$Formula" q.1 q.2 := List.forall_mem_cons.mpr ⟨⟨List.mem_of_getElem? (i := 119) rfl, ⟨"AlgolHouse$Formula", Or.inl (lw_g (lw_at lw_m8 166 rfl) rfl), Or.inl rfl⟩⟩, List.forall_mem_cons.mpr ⟨⟨List.mem_of_getElem? (i := 89) rfl, ⟨"AlgolHouse$Formula", Or.inl (lw_g (lw_at lw_m5 136 rfl) rfl), Or.inr (lw_g (lw_at lw_m5 137 rfl) rfl)⟩⟩, List.forall_mem_cons.mpr ⟨⟨List.mem_of_getElem? (i := 91) rfl, ⟨"AlgolHouse$Node", Or.inl (lw_g (lw_at lw_m5 195 rfl) rfl), Or.inl rfl⟩⟩, List.forall_mem_cons.mpr ⟨⟨List.mem_of_getElem? (i := 30) rfl, ⟨"AlgolHouse$Judge", Or.inr ⟨_, lw_at lw_m3 135 rfl⟩, Or.inl rfl⟩⟩, List.forall_mem_cons.mpr ⟨⟨List.mem_of_getElem? (i := 120) rfl, ⟨"AlgolHouse$Formula", Or.inl (lw_g (lw_at lw_m8 167 rfl) rfl), Or.inl rfl⟩⟩, List.forall_mem_cons.mpr ⟨⟨List.mem_of_getElem? (i := 185) rfl, ⟨"AlgolHouse$Scope", Or.inr ⟨_, lw_at lw_m11 111 rfl⟩, Or.inl rfl⟩⟩, List.forall_mem_cons.mpr ⟨⟨List.mem_of_getElem? (i := 182) rfl, ⟨"AlgolHouse$Scope", Or.inr ⟨_, lw_at lw_m11 104 rfl⟩, Or.inl rfl⟩⟩, List.forall_mem_cons.mpr ⟨⟨List.mem_of_getElem? (i := 72) rfl, ⟨"AlgolHouse$Operation", Or.inl (lw_g (lw_at lw_m11 158 rfl) rfl), Or.inr (lw_g (lw_at lw_m11 159 rfl) rfl)⟩⟩, List.forall_mem_cons.mpr ⟨⟨List.mem_of_getElem? (i := 73) rfl, ⟨"AlgolHouse$Operation", Or.inl (lw_g (lw_at lw_m11 164 rfl) rfl), Or.inr (lw_g (lw_at lw_m11 165 rfl) rfl)⟩⟩, List.forall_mem_cons.mpr ⟨⟨List.mem_of_getElem? (i := 133) rfl, ⟨"AlgolHouse$Routine", Or.inr ⟨_, lw_at lw_m7 30 rfl⟩, Or.inl rfl⟩⟩, List.forall_mem_cons.mpr ⟨⟨List.mem_of_getElem? (i := 136) rfl, ⟨"AlgolHouse$Routine", Or.inr ⟨_, lw_at lw_m7 37 rfl⟩, Or.inl rfl⟩⟩, List.forall_mem_cons.mpr ⟨⟨List.mem_of_getElem? (i := 121) rfl, ⟨"AlgolHouse$Formula", Or.inl (lw_g (lw_at lw_m8 169 rfl) rfl), Or.inl rfl⟩⟩, List.forall_mem_cons.mpr ⟨⟨List.mem_of_getElem? (i := 88) rfl, ⟨"AlgolHouse$Formula", Or.inl (lw_g (lw_at lw_m5 111 rfl) rfl), Or.inr (lw_g (lw_at lw_m5 112 rfl) rfl)⟩⟩, List.forall_mem_cons.mpr ⟨⟨List.mem_of_getElem? (i := 71) rfl, ⟨"AlgolHouse$Operation", Or.inl (lw_g (lw_at lw_m11 155 rfl) rfl), Or.inr (lw_g (lw_at lw_m11 156 rfl) rfl)⟩⟩, List.forall_mem_cons.mpr ⟨⟨List.mem_of_getElem? (i := 32) rfl, ⟨"AlgolHouse$Judge", Or.inr ⟨_, lw_at lw_m3 143 rfl⟩, Or.inl rfl⟩⟩, List.forall_mem_cons.mpr ⟨⟨List.mem_of_getElem? (i := 33) rfl, ⟨"AlgolHouse$Judge", Or.inr ⟨_, lw_at lw_m3 146 rfl⟩, Or.inl rfl⟩⟩, List.forall_mem_cons.mpr ⟨⟨List.mem_of_getElem? (i := 34) rfl, ⟨"AlgolHouse$Judge", Or.inr ⟨_, lw_at lw_m3 150 rfl⟩, Or.inl rfl⟩⟩, List.forall_mem_cons.mpr ⟨⟨List.mem_of_getElem? (i := 15) rfl, ⟨"AlgolHouse$Frame", Or.inr ⟨_, lw_at lw_m15 162 rfl⟩, Or.inl rfl⟩⟩, List.forall_mem_cons.mpr ⟨⟨List.mem_of_getElem? (i := 52) rfl, ⟨"AlgolHouse$Machine", Or.inr ⟨_, lw_at lw_m4 28 rfl⟩, Or.inl rfl⟩⟩, List.forall_mem_cons.mpr ⟨⟨List.mem_of_getElem? (i := 16) rfl, ⟨"AlgolHouse$Frame", Or.inr ⟨_, lw_at lw_m15 171 rfl⟩, Or.inl rfl⟩⟩, List.forall_mem_cons.mpr ⟨⟨List.mem_of_getElem? (i := 186) rfl, ⟨"AlgolHouse$Value", Or.inr ⟨_, lw_at lw_m16 137 rfl⟩, Or.inl rfl⟩⟩, List.forall_mem_cons.mpr ⟨⟨List.mem_of_getElem? (i := 187) rfl, ⟨"AlgolHouse$Value", Or.inr ⟨_, lw_at lw_m16 145 rfl⟩, Or.inl rfl⟩⟩, fun q h => by cases h⟩⟩⟩⟩⟩⟩⟩⟩⟩⟩⟩⟩⟩⟩⟩⟩⟩⟩⟩⟩⟩⟩
theorem ow11_1 : ∀ q ∈ ([(35, 765609006), (43, 1008152158), (94, 757220398), (97, 1016540764), (180, 126027276)] : List (Nat × Nat)), q.2 ∈ iFs ∧ PLk "AlgolHouse$Formula" q.1 q.2 := List.forall_mem_cons.mpr ⟨⟨List.mem_of_getElem? (i := 91) rfl, ⟨"AlgolHouse$Node", Or.inl (lw_g (lw_at lw_m5 195 rfl) rfl), Or.inl rfl⟩, rfl⟩, List.forall_mem_cons.mpr ⟨⟨List.mem_of_getElem? (i := 120) rfl, ⟨"AlgolHouse$Formula", Or.inl (lw_g (lw_at lw_m8 167 rfl) rfl), Or.inl rfl⟩, rfl⟩, List.forall_mem_cons.mpr ⟨⟨List.mem_of_getElem? (i := 90) rfl, ⟨"AlgolHouse$Formula", Or.inl (lw_g (lw_at lw_m5 186 rfl) rfl), Or.inr (lw_g (lw_at lw_m5 187 rfl) rfl)⟩, rfl⟩, List.forall_mem_cons.mpr ⟨⟨List.mem_of_getElem? (i := 121) rfl, ⟨"AlgolHouse$Formula", Or.inl (lw_g (lw_at lw_m8 169 rfl) rfl), Or.inl rfl⟩, rfl⟩, List.forall_mem_cons.mpr ⟨⟨List.mem_of_getElem? (i := 15) rfl, ⟨"AlgolHouse$Frame", Or.inr ⟨_, lw_at lw_m15 162 rfl⟩, Or.inl rfl⟩, rfl⟩, fun q h => by cases h⟩⟩⟩⟩⟩
theorem ow11_2 : ∀ q ∈ ([(9, 999763549)] : List (Nat × Nat)), q.2 ∈ iFs ∧ PFk "AlgolHouse$Formula" q.1 q.2 := List.forall_mem_cons.mpr ⟨⟨List.mem_of_getElem? (i := 119) rfl, rfl, rfl, "AlgolHouse$Formula", lw_g (lw_at lw_m8 166 rfl) rfl, Or.inl rfl⟩, fun q h => by cases h⟩
theorem ow11_3 : ∀ q ∈ ([(157, 4018143233), (160, 4026531841)] : List (Nat × Nat)), q.2 ∈ sFs ∧ FLk "AlgolHouse$Formula" q.1 q.2 := List.forall_mem_cons.mpr ⟨⟨List.mem_of_getElem? (i := 9) rfl, ⟨"AlgolHouse", Or.inr ⟨_, lw_at lw_m13 193 rfl⟩, Or.inl rfl⟩⟩, List.forall_mem_cons.mpr ⟨⟨List.mem_of_getElem? (i := 10) rfl, ⟨"AlgolHouse", Or.inr ⟨_, lw_at lw_m13 195 rfl⟩, Or.inl rfl⟩⟩, fun q h => by cases h⟩⟩
theorem ow11_4 : ∀ q ∈ ([] : List (Nat × Nat)), TLk "AlgolHouse$Formula" q.1 q.2 ∧ q.2 % 4 = 2 := fun q h => by cases h
theorem ow11_5 : ∀ q ∈ ([] : List (Nat × Nat)), mdT q.2 = true ∧ NLk "AlgolHouse$Formula" q.1 q.2 := fun q h => by cases h
theorem ow11_6 : ∀ q ∈ ([] : List (Nat × Nat)), mdA q.2 = true ∧ ak q.2 = 2 ∧ ALk "AlgolHouse$Formula" q.1 q.2 := fun q h => by cases h
theorem ow11_7_0 : XLk "AlgolHouse$Formula" 56 1032 := (Or.inl ⟨"AlgolHouse$Operation", lw_g (lw_at lw_m13 159 rfl) rfl, fun t h1 h2 => by
  obtain rfl : t = 8 := by omega
  exact ⟨⟨by omega, by omega⟩, Or.inl rfl⟩⟩)
theorem ow11_7_1 : XLk "AlgolHouse$Formula" 69 1935 := (Or.inl ⟨"AlgolHouse$Op", lw_g (lw_at lw_m13 164 rfl) rfl, fun t h1 h2 => by
  obtain rfl : t = 15 := by omega
  exact ⟨⟨by omega, by omega⟩, Or.inl rfl⟩⟩)
theorem ow11_7_2 : XLk "AlgolHouse$Formula" 85 1161 := (Or.inl ⟨"AlgolHouse$Mode", lw_g (lw_at lw_m13 173 rfl) rfl, fun t h1 h2 => by
  obtain rfl : t = 9 := by omega
  exact ⟨⟨by omega, by omega⟩, Or.inl rfl⟩⟩)
theorem ow11_7 : ∀ q ∈ ([(56, 1032), (69, 1935), (85, 1161)] : List (Nat × Nat)), XLk "AlgolHouse$Formula" q.1 q.2 := List.forall_mem_cons.mpr ⟨ow11_7_0, List.forall_mem_cons.mpr ⟨ow11_7_1, List.forall_mem_cons.mpr ⟨ow11_7_2, fun q h => by cases h⟩⟩⟩
theorem ow11_8 {s0 : State} (hN : NCs s0) : ∀ q ∈ ([] : List (Nat × Nat)), YLk s0 "AlgolHouse$Formula" q.1 q.2 := fun q h => by cases h
theorem ow11_9 : ∀ q ∈ ([(105, 135528450)] : List (Nat × Nat)), q.2 = ACN ∧ ACk "AlgolHouse$Formula" q.1 ∨ q.2 ≠ ACN ∧ SMk "AlgolHouse$Formula" q.1 q.2 := List.forall_mem_cons.mpr ⟨Or.inr ⟨by decide, mok_X24_plainOf, np_X24_plainOf, ⟨sm_X24_plainOf, lw_g (lw_at lw_m1 51 rfl) rfl⟩, Or.inl (lw_g (lw_at lw_m13 216 rfl) rfl)⟩, fun q h => by cases h⟩
theorem ow11_10 : ∀ q ∈ ([(3, 118034610)] : List (Nat × Nat)), IMk "AlgolHouse$Formula" q.1 q.2 ∧ ∀ t, inT (q.2 / 16 % 128) (q.2 / 2048 % 128) t → inT 1 55 t := List.forall_mem_cons.mpr ⟨⟨⟨mok_X12_init, np_X12_init, by decide, rfl, im_X12_init, ⟨_, _, rfl⟩, Or.inl (lw_g (lw_at lw_m8 165 rfl) rfl)⟩, fun t ht => ⟨Nat.le_trans (by decide) ht.1, Nat.le_trans ht.2 (by decide)⟩⟩, fun q h => by cases h⟩
theorem ow11_11_0 : VMk "AlgolHouse$Formula" 19 165249793 := ⟨mok_J6_size, by decide, fun t ht => by
  obtain rfl : t = 48 := Nat.le_antisymm (Nat.le_trans ht.2 (by decide)) (Nat.le_trans (by decide) ht.1)
  exact ⟨⟨by decide, by decide⟩, im_J6_size, Or.inl ⟨np_J6_size, lw_g (lw_at lw_m4 167 rfl) rfl, Or.inl (lw_g (lw_at lw_m13 157 rfl) rfl)⟩⟩⟩
theorem ow11_11_1 : VMk "AlgolHouse$Formula" 29 16261186 := ⟨mok_X3_lead, by decide, fun t ht => by
  obtain rfl : t = 4 := Nat.le_antisymm (Nat.le_trans ht.2 (by decide)) (Nat.le_trans (by decide) ht.1)
  exact ⟨⟨by decide, by decide⟩, im_X3_lead, Or.inl ⟨np_X3_lead, lw_g (lw_at lw_m12 19 rfl) rfl, Or.inl (lw_g (lw_at lw_m13 22 rfl) rfl)⟩⟩⟩
theorem ow11_11_2 : VMk "AlgolHouse$Formula" 52 166822658 := ⟨mok_J6_get, by decide, fun t ht => by
  obtain rfl : t = 48 := Nat.le_antisymm (Nat.le_trans ht.2 (by decide)) (Nat.le_trans (by decide) ht.1)
  exact ⟨⟨by decide, by decide⟩, im_J6_get, Or.inl ⟨np_J6_get, lw_g (lw_at lw_m7 79 rfl) rfl, Or.inl (lw_g (lw_at lw_m13 158 rfl) rfl)⟩⟩⟩
theorem ow11_11_3 : VMk "AlgolHouse$Formula" 58 134527347 := ⟨mok_X24_fits, by decide, fun t ht => by
  obtain rfl : t = 23 := Nat.le_antisymm (Nat.le_trans ht.2 (by decide)) (Nat.le_trans (by decide) ht.1)
  exact ⟨⟨by decide, by decide⟩, im_X24_fits, Or.inl ⟨np_X24_fits, lw_g (lw_ms _ (List.mem_map.mpr ⟨_, List.mem_of_getElem? (i := 88) rfl, rfl⟩)) rfl, Or.inl (lw_g (lw_at lw_m13 160 rfl) rfl)⟩⟩⟩
theorem ow11_11_4 : VMk "AlgolHouse$Formula" 71 157841649 := ⟨mok_X38_routine, by decide, fun t ht => by
  obtain rfl : t = 15 := Nat.le_antisymm (Nat.le_trans ht.2 (by decide)) (Nat.le_trans (by decide) ht.1)
  exact ⟨⟨by decide, by decide⟩, im_X38_routine, Or.inl ⟨np_X38_routine, lw_g (lw_at lw_m13 167 rfl) rfl, Or.inl (lw_g (lw_at lw_m13 165 rfl) rfl)⟩⟩⟩
theorem ow11_11_5 : VMk "AlgolHouse$Formula" 76 15736898 := ⟨mok_X3_use, by decide, fun t ht => by
  obtain rfl : t = 4 := Nat.le_antisymm (Nat.le_trans ht.2 (by decide)) (Nat.le_trans (by decide) ht.1)
  exact ⟨⟨by decide, by decide⟩, im_X3_use, Or.inl ⟨np_X3_use, lw_g (lw_at lw_m11 230 rfl) rfl, Or.inl (lw_g (lw_at lw_m13 180 rfl) rfl)⟩⟩⟩
theorem ow11_11_6 : VMk "AlgolHouse$Formula" 87 18358340 := ⟨mok_X3_bring, by decide, fun t ht => by
  obtain rfl : t = 4 := Nat.le_antisymm (Nat.le_trans ht.2 (by decide)) (Nat.le_trans (by decide) ht.1)
  exact ⟨⟨by decide, by decide⟩, im_X3_bring, Or.inl ⟨np_X3_bring, lw_g (lw_at lw_m13 183 rfl) rfl, Or.inl (lw_g (lw_at lw_m13 181 rfl) rfl)⟩⟩⟩
theorem ow11_11_7 : VMk "AlgolHouse$Formula" 101 134789490 := ⟨mok_X24_isStandard, by decide, fun t ht => by
  obtain rfl : t = 23 := Nat.le_antisymm (Nat.le_trans ht.2 (by decide)) (Nat.le_trans (by decide) ht.1)
  exact ⟨⟨by decide, by decide⟩, im_X24_isStandard, Or.inl ⟨np_X24_isStandard, lw_g (lw_ms _ (List.mem_map.mpr ⟨_, List.mem_of_getElem? (i := 89) rfl, rfl⟩)) rfl, Or.inl (lw_g (lw_at lw_m13 186 rfl) rfl)⟩⟩⟩
theorem ow11_11_8 : VMk "AlgolHouse$Formula" 109 135838067 := ⟨mok_X24_reach, by decide, fun t ht => by
  obtain rfl : t = 23 := Nat.le_antisymm (Nat.le_trans ht.2 (by decide)) (Nat.le_trans (by decide) ht.1)
  exact ⟨⟨by decide, by decide⟩, im_X24_reach, Or.inl ⟨np_X24_reach, lw_g (lw_ms _ (List.mem_map.mpr ⟨_, List.mem_of_getElem? (i := 92) rfl, rfl⟩)) rfl, Or.inl (lw_g (lw_at lw_m13 219 rfl) rfl)⟩⟩⟩
theorem ow11_11_9 : VMk "AlgolHouse$Formula" 116 15474756 := ⟨mok_X3_need, by decide, fun t ht => by
  obtain rfl : t = 4 := Nat.le_antisymm (Nat.le_trans ht.2 (by decide)) (Nat.le_trans (by decide) ht.1)
  exact ⟨⟨by decide, by decide⟩, im_X3_need, Or.inl ⟨np_X3_need, lw_g (lw_at lw_m11 139 rfl) rfl, Or.inl (lw_g (lw_at lw_m13 223 rfl) rfl)⟩⟩⟩
theorem ow11_11_10 : VMk "AlgolHouse$Formula" 120 136100209 := ⟨mok_X24_yields, by decide, fun t ht => by
  obtain rfl : t = 23 := Nat.le_antisymm (Nat.le_trans ht.2 (by decide)) (Nat.le_trans (by decide) ht.1)
  exact ⟨⟨by decide, by decide⟩, im_X24_yields, Or.inl ⟨np_X24_yields, lw_g (lw_ms _ (List.mem_map.mpr ⟨_, List.mem_of_getElem? (i := 93) rfl, rfl⟩)) rfl, Or.inl (lw_g (lw_at lw_m13 224 rfl) rfl)⟩⟩⟩
theorem ow11_11_11 : VMk "AlgolHouse$Formula" 126 18096196 := ⟨mok_X3_firm, by decide, fun t ht => by
  obtain rfl : t = 4 := Nat.le_antisymm (Nat.le_trans ht.2 (by decide)) (Nat.le_trans (by decide) ht.1)
  exact ⟨⟨by decide, by decide⟩, im_X3_firm, Or.inl ⟨np_X3_firm, lw_g (lw_at lw_m13 176 rfl) rfl, Or.inl (lw_g (lw_at lw_m13 174 rfl) rfl)⟩⟩⟩
theorem ow11_11_12 : VMk "AlgolHouse$Formula" 163 135051633 := ⟨mok_X24_isAlike, by decide, fun t ht => by
  obtain rfl : t = 23 := Nat.le_antisymm (Nat.le_trans ht.2 (by decide)) (Nat.le_trans (by decide) ht.1)
  exact ⟨⟨by decide, by decide⟩, im_X24_isAlike, Or.inl ⟨np_X24_isAlike, lw_g (lw_ms _ (List.mem_map.mpr ⟨_, List.mem_of_getElem? (i := 90) rfl, rfl⟩)) rfl, Or.inl (lw_g (lw_at lw_m13 197 rfl) rfl)⟩⟩⟩
theorem ow11_11_13 : VMk "AlgolHouse$Formula" 171 135313777 := ⟨mok_X24_isOrder, by decide, fun t ht => by
  obtain rfl : t = 23 := Nat.le_antisymm (Nat.le_trans ht.2 (by decide)) (Nat.le_trans (by decide) ht.1)
  exact ⟨⟨by decide, by decide⟩, im_X24_isOrder, Or.inl ⟨np_X24_isOrder, lw_g (lw_ms _ (List.mem_map.mpr ⟨_, List.mem_of_getElem? (i := 91) rfl, rfl⟩)) rfl, Or.inl (lw_g (lw_at lw_m13 205 rfl) rfl)⟩⟩⟩
theorem ow11_11_14 : VMk "AlgolHouse$Formula" 185 27275364 := ⟨mok_X7_all, by decide, fun t ht => by
  obtain rfl : t = 6 := Nat.le_antisymm (Nat.le_trans ht.2 (by decide)) (Nat.le_trans (by decide) ht.1)
  exact ⟨⟨by decide, by decide⟩, im_X7_all, Or.inl ⟨np_X7_all, lw_g (lw_at lw_m15 233 rfl) rfl, Or.inl (lw_g (lw_at lw_m17 14 rfl) rfl)⟩⟩⟩
theorem ow11_11_15 : VMk "AlgolHouse$Formula" 191 32518242 := ⟨mok_X7_range, by decide, fun t ht => by
  obtain rfl : t = 6 := Nat.le_antisymm (Nat.le_trans ht.2 (by decide)) (Nat.le_trans (by decide) ht.1)
  exact ⟨⟨by decide, by decide⟩, im_X7_range, Or.inl ⟨np_X7_range, lw_g (lw_at lw_m17 17 rfl) rfl, Or.inl (lw_g (lw_at lw_m17 15 rfl) rfl)⟩⟩⟩
theorem ow11_11_16 : VMk "AlgolHouse$Formula" 195 29896806 := ⟨mok_X7_call, by decide, fun t ht => by
  obtain rfl : t = 6 := Nat.le_antisymm (Nat.le_trans ht.2 (by decide)) (Nat.le_trans (by decide) ht.1)
  exact ⟨⟨by decide, by decide⟩, im_X7_call, Or.inl ⟨np_X7_call, lw_g (lw_at lw_m16 89 rfl) rfl, Or.inl (lw_g (lw_at lw_m17 19 rfl) rfl)⟩⟩⟩
theorem ow11_11_17 : VMk "AlgolHouse$Formula" 199 30421091 := ⟨mok_X7_returned, by decide, fun t ht => by
  obtain rfl : t = 6 := Nat.le_antisymm (Nat.le_trans ht.2 (by decide)) (Nat.le_trans (by decide) ht.1)
  exact ⟨⟨by decide, by decide⟩, im_X7_returned, Or.inl ⟨np_X7_returned, lw_g (lw_at lw_m16 99 rfl) rfl, Or.inl (lw_g (lw_at lw_m17 20 rfl) rfl)⟩⟩⟩
theorem ow11_11_18 : VMk "AlgolHouse$Formula" 207 29634659 := ⟨mok_X7_done, by decide, fun t ht => by
  obtain rfl : t = 6 := Nat.le_antisymm (Nat.le_trans ht.2 (by decide)) (Nat.le_trans (by decide) ht.1)
  exact ⟨⟨by decide, by decide⟩, im_X7_done, Or.inl ⟨np_X7_done, lw_g (lw_at lw_m16 80 rfl) rfl, Or.inl (lw_g (lw_at lw_m17 21 rfl) rfl)⟩⟩⟩
theorem ow11_11_19 : VMk "AlgolHouse$Formula" 221 27013220 := ⟨mok_X7_need, by decide, fun t ht => by
  obtain rfl : t = 6 := Nat.le_antisymm (Nat.le_trans ht.2 (by decide)) (Nat.le_trans (by decide) ht.1)
  exact ⟨⟨by decide, by decide⟩, im_X7_need, Or.inl ⟨np_X7_need, lw_g (lw_at lw_m15 132 rfl) rfl, Or.inl (lw_g (lw_at lw_m17 22 rfl) rfl)⟩⟩⟩
theorem ow11_11_20 : VMk "AlgolHouse$Formula" 225 136886643 := ⟨mok_X24_single, by decide, fun t ht => by
  obtain rfl : t = 23 := Nat.le_antisymm (Nat.le_trans ht.2 (by decide)) (Nat.le_trans (by decide) ht.1)
  exact ⟨⟨by decide, by decide⟩, im_X24_single, Or.inl ⟨np_X24_single, lw_g (lw_ms _ (List.mem_map.mpr ⟨_, List.mem_of_getElem? (i := 100) rfl, rfl⟩)) rfl, Or.inl (lw_g (lw_at lw_m17 23 rfl) rfl)⟩⟩⟩
theorem ow11_11_21 : VMk "AlgolHouse$Formula" 229 137410932 := ⟨mok_X24_both, by decide, fun t ht => by
  obtain rfl : t = 23 := Nat.le_antisymm (Nat.le_trans ht.2 (by decide)) (Nat.le_trans (by decide) ht.1)
  exact ⟨⟨by decide, by decide⟩, im_X24_both, Or.inl ⟨np_X24_both, lw_g (lw_ms _ (List.mem_map.mpr ⟨_, List.mem_of_getElem? (i := 102) rfl, rfl⟩)) rfl, Or.inl (lw_g (lw_at lw_m17 32 rfl) rfl)⟩⟩⟩
theorem ow11_11_22 : VMk "AlgolHouse$Formula" 233 32256098 := ⟨mok_X7_number, by decide, fun t ht => by
  obtain rfl : t = 6 := Nat.le_antisymm (Nat.le_trans ht.2 (by decide)) (Nat.le_trans (by decide) ht.1)
  exact ⟨⟨by decide, by decide⟩, im_X7_number, Or.inl ⟨np_X7_number, lw_g (lw_at lw_m17 8 rfl) rfl, Or.inl (lw_g (lw_at lw_m17 53 rfl) rfl)⟩⟩⟩
theorem ow11_11_23 : VMk "AlgolHouse$Formula" 236 137148788 := ⟨mok_X24_fit, by decide, fun t ht => by
  obtain rfl : t = 23 := Nat.le_antisymm (Nat.le_trans ht.2 (by decide)) (Nat.le_trans (by decide) ht.1)
  exact ⟨⟨by decide, by decide⟩, im_X24_fit, Or.inl ⟨np_X24_fit, lw_g (lw_ms _ (List.mem_map.mpr ⟨_, List.mem_of_getElem? (i := 101) rfl, rfl⟩)) rfl, Or.inl (lw_g (lw_at lw_m17 27 rfl) rfl)⟩⟩⟩
theorem ow11_11_24 : VMk "AlgolHouse$Formula" 244 137673076 := ⟨mok_X24_sum, by decide, fun t ht => by
  obtain rfl : t = 23 := Nat.le_antisymm (Nat.le_trans ht.2 (by decide)) (Nat.le_trans (by decide) ht.1)
  exact ⟨⟨by decide, by decide⟩, im_X24_sum, Or.inl ⟨np_X24_sum, lw_g (lw_ms _ (List.mem_map.mpr ⟨_, List.mem_of_getElem? (i := 103) rfl, rfl⟩)) rfl, Or.inl (lw_g (lw_at lw_m17 36 rfl) rfl)⟩⟩⟩
theorem ow11_11_25 : VMk "AlgolHouse$Formula" 247 137935220 := ⟨mok_X24_difference, by decide, fun t ht => by
  obtain rfl : t = 23 := Nat.le_antisymm (Nat.le_trans ht.2 (by decide)) (Nat.le_trans (by decide) ht.1)
  exact ⟨⟨by decide, by decide⟩, im_X24_difference, Or.inl ⟨np_X24_difference, lw_g (lw_ms _ (List.mem_map.mpr ⟨_, List.mem_of_getElem? (i := 104) rfl, rfl⟩)) rfl, Or.inl (lw_g (lw_at lw_m17 40 rfl) rfl)⟩⟩⟩
theorem ow11_11_26 : VMk "AlgolHouse$Formula" 250 138197364 := ⟨mok_X24_product, by decide, fun t ht => by
  obtain rfl : t = 23 := Nat.le_antisymm (Nat.le_trans ht.2 (by decide)) (Nat.le_trans (by decide) ht.1)
  exact ⟨⟨by decide, by decide⟩, im_X24_product, Or.inl ⟨np_X24_product, lw_g (lw_ms _ (List.mem_map.mpr ⟨_, List.mem_of_getElem? (i := 105) rfl, rfl⟩)) rfl, Or.inl (lw_g (lw_at lw_m17 44 rfl) rfl)⟩⟩⟩
theorem ow11_11_27 : VMk "AlgolHouse$Formula" 253 138459508 := ⟨mok_X24_quotient, by decide, fun t ht => by
  obtain rfl : t = 23 := Nat.le_antisymm (Nat.le_trans ht.2 (by decide)) (Nat.le_trans (by decide) ht.1)
  exact ⟨⟨by decide, by decide⟩, im_X24_quotient, Or.inl ⟨np_X24_quotient, lw_g (lw_ms _ (List.mem_map.mpr ⟨_, List.mem_of_getElem? (i := 106) rfl, rfl⟩)) rfl, Or.inl (lw_g (lw_at lw_m17 49 rfl) rfl)⟩⟩⟩
theorem ow11_11 : ∀ q ∈ ([(19, 165249793), (29, 16261186), (52, 166822658), (58, 134527347), (71, 157841649), (76, 15736898), (87, 18358340), (101, 134789490), (109, 135838067), (116, 15474756), (120, 136100209), (126, 18096196), (163, 135051633), (171, 135313777), (185, 27275364), (191, 32518242), (195, 29896806), (199, 30421091), (207, 29634659), (221, 27013220), (225, 136886643), (229, 137410932), (233, 32256098), (236, 137148788), (244, 137673076), (247, 137935220), (250, 138197364), (253, 138459508)] : List (Nat × Nat)), VMk "AlgolHouse$Formula" q.1 q.2 := List.forall_mem_cons.mpr ⟨ow11_11_0, List.forall_mem_cons.mpr ⟨ow11_11_1, List.forall_mem_cons.mpr ⟨ow11_11_2, List.forall_mem_cons.mpr ⟨ow11_11_3, List.forall_mem_cons.mpr ⟨ow11_11_4, List.forall_mem_cons.mpr ⟨ow11_11_5, List.forall_mem_cons.mpr ⟨ow11_11_6, List.forall_mem_cons.mpr ⟨ow11_11_7, List.forall_mem_cons.mpr ⟨ow11_11_8, List.forall_mem_cons.mpr ⟨ow11_11_9, List.forall_mem_cons.mpr ⟨ow11_11_10, List.forall_mem_cons.mpr ⟨ow11_11_11, List.forall_mem_cons.mpr ⟨ow11_11_12, List.forall_mem_cons.mpr ⟨ow11_11_13, List.forall_mem_cons.mpr ⟨ow11_11_14, List.forall_mem_cons.mpr ⟨ow11_11_15, List.forall_mem_cons.mpr ⟨ow11_11_16, List.forall_mem_cons.mpr ⟨ow11_11_17, List.forall_mem_cons.mpr ⟨ow11_11_18, List.forall_mem_cons.mpr ⟨ow11_11_19, List.forall_mem_cons.mpr ⟨ow11_11_20, List.forall_mem_cons.mpr ⟨ow11_11_21, List.forall_mem_cons.mpr ⟨ow11_11_22, List.forall_mem_cons.mpr ⟨ow11_11_23, List.forall_mem_cons.mpr ⟨ow11_11_24, List.forall_mem_cons.mpr ⟨ow11_11_25, List.forall_mem_cons.mpr ⟨ow11_11_26, List.forall_mem_cons.mpr ⟨ow11_11_27, fun q h => by cases h⟩⟩⟩⟩⟩⟩⟩⟩⟩⟩⟩⟩⟩⟩⟩⟩⟩⟩⟩⟩⟩⟩⟩⟩⟩⟩⟩⟩
theorem ow11_12_0 : PMk "AlgolHouse$Formula" 25 34 2 := ⟨by decide, fun t m h => by
  rcases dsp_34 h with ⟨rfl, rfl⟩
  · exact ⟨mok_X12_part, ⟨by decide, by decide⟩, im_X12_part, Or.inr ⟨⟨"AlgolHouse$Formula", "part", "(I)LAlgolHouse$Node;"⟩, "AlgolHouse$Node", by decide +kernel, lw_g (lw_at lw_m13 19 rfl) rfl, lw_g (lw_at lw_m13 20 rfl) rfl, Or.inl (lw_at lw_m10 110 rfl), ⟨by decide +kernel, by decide +kernel⟩, lw_g (lw_at lw_m13 21 rfl) rfl⟩⟩⟩
theorem ow11_12 : ∀ q ∈ ([(25, 34)] : List (Nat × Nat)), ∀ n, pN q.2 n → PMk "AlgolHouse$Formula" q.1 q.2 n := List.forall_mem_cons.mpr ⟨(fun n hn => by cases hn; exact ow11_12_0), fun q h => by cases h⟩
theorem ow11_13 : ∀ q ∈ ([] : List (Nat × Nat)), Cond.methodLink "AlgolHouse$Formula" q.1 Lib.objectInit ∈ lw_all := fun q h => by cases h
theorem ow11_14 : ∀ q ∈ ([] : List (Nat × Nat)), JMk "AlgolHouse$Formula" q.1 q.2 := fun q h => by cases h
theorem ow11_15 : ∀ q ∈ ([] : List (Nat × Nat)), exT q.2 ∧ NLk "AlgolHouse$Formula" q.1 q.2 := fun q h => by cases h
theorem ow11_16 : ∀ q ∈ ([] : List (Nat × Nat)), exT q.2 ∧ Cond.methodLink "AlgolHouse$Formula" q.1 ⟨cN q.2, "<init>", "()V"⟩ ∈ lw_all := fun q h => by cases h
def Om11 : Om := [[(9, 999763549), (15, 748831790), (35, 765609006), (39, 251922450), (43, 1008152158), (47, 1554600614), (62, 1529434790), (65, 604508190), (75, 612896798), (80, 1117666426), (91, 1142832250), (97, 1016540764), (113, 740443180), (123, 596119581), (130, 268699666), (133, 277088274), (136, 285476882), (180, 126027276), (203, 436603930), (211, 134415886), (215, 1563055275), (222, 1571443881)], [(35, 765609006), (43, 1008152158), (94, 757220398), (97, 1016540764), (180, 126027276)], [(9, 999763549)], [(157, 4018143233), (160, 4026531841)], [], [], [], [(56, 1032), (69, 1935), (85, 1161)], [], [(105, 135528450)], [(3, 118034610)], [(19, 165249793), (29, 16261186), (52, 166822658), (58, 134527347), (71, 157841649), (76, 15736898), (87, 18358340), (101, 134789490), (109, 135838067), (116, 15474756), (120, 136100209), (126, 18096196), (163, 135051633), (171, 135313777), (185, 27275364), (191, 32518242), (195, 29896806), (199, 30421091), (207, 29634659), (221, 27013220), (225, 136886643), (229, 137410932), (233, 32256098), (236, 137148788), (244, 137673076), (247, 137935220), (250, 138197364), (253, 138459508)], [(25, 34)], [], [], [], []]
def Ok11 : List (Nat × Int) := []
def Ol11 : List (Nat × Int) := [(139, 60), (141, 15676), (143, 62), (145, 15678), (147, 61), (149, 15663), (151, 126), (153, 43), (155, 45), (167, 38), (169, 33), (174, 42), (176, 47), (178, 37), (242, -9223372036854775808), (256, -1)]
theorem ow11 {s0 : State} (hN : NCs s0) : OwnOK s0 "AlgolHouse$Formula" Om11 Ok11 Ol11 := ⟨ow11_k, ow11_l, ow11_0, ow11_1, ow11_2, ow11_3, ow11_4, ow11_5, ow11_6, ow11_7, ow11_8 hN, ow11_9, ow11_10, ow11_11, ow11_12, ow11_13, ow11_14, ow11_15, ow11_16⟩
theorem ow12_k : ∀ q ∈ ([] : List (Nat × Int)), Cond.constant "AlgolHouse$Frame" q.1 (Int32.ofInt q.2) ∈ lw_all := fun q h => by cases h
theorem ow12_l : ∀ q ∈ ([] : List (Nat × Int)), Cond.constantLong "AlgolHouse$Frame" q.1 (Int64.ofInt q.2) ∈ lw_all := fun q h => by cases h
theorem ow12_0 : ∀ q ∈ ([] : List (Nat × Nat)), q.2 ∈ iFs ∧ FLk "AlgolHouse$Frame" q.1 q.2 := fun q h => by cases h
theorem ow12_1 : ∀ q ∈ ([(21, 117638670), (25, 126027276), (29, 151193100), (32, 167970318), (36, 176358924), (39, 184747535), (43, 193136142), (47, 201524750)] : List (Nat × Nat)), q.2 ∈ iFs ∧ PLk "AlgolHouse$Frame" q.1 q.2 := List.forall_mem_cons.mpr ⟨⟨List.mem_of_getElem? (i := 14) rfl, ⟨"AlgolHouse$Frame", Or.inl (lw_g (lw_at lw_m15 146 rfl) rfl), Or.inl rfl⟩, rfl⟩, List.forall_mem_cons.mpr ⟨⟨List.mem_of_getElem? (i := 15) rfl, ⟨"AlgolHouse$Frame", Or.inl (lw_g (lw_at lw_m15 148 rfl) rfl), Or.inl rfl⟩, rfl⟩, List.forall_mem_cons.mpr ⟨⟨List.mem_of_getElem? (i := 18) rfl, ⟨"AlgolHouse$Frame", Or.inl (lw_g (lw_at lw_m15 174 rfl) rfl), Or.inl rfl⟩, rfl⟩, List.forall_mem_cons.mpr ⟨⟨List.mem_of_getElem? (i := 20) rfl, ⟨"AlgolHouse$Frame", Or.inl (lw_g (lw_at lw_m15 177 rfl) rfl), Or.inl rfl⟩, rfl⟩, List.forall_mem_cons.mpr ⟨⟨List.mem_of_getElem? (i := 21) rfl, ⟨"AlgolHouse$Frame", Or.inl (lw_g (lw_at lw_m15 179 rfl) rfl), Or.inl rfl⟩, rfl⟩, List.forall_mem_cons.mpr ⟨⟨List.mem_of_getElem? (i := 22) rfl, ⟨"AlgolHouse$Frame", Or.inl (lw_g (lw_at lw_m15 181 rfl) rfl), Or.inl rfl⟩, rfl⟩, List.forall_mem_cons.mpr ⟨⟨List.mem_of_getElem? (i := 23) rfl, ⟨"AlgolHouse$Frame", Or.inl (lw_g (lw_at lw_m15 183 rfl) rfl), Or.inl rfl⟩, rfl⟩, List.forall_mem_cons.mpr ⟨⟨List.mem_of_getElem? (i := 24) rfl, ⟨"AlgolHouse$Frame", Or.inl (lw_g (lw_at lw_m15 185 rfl) rfl), Or.inl rfl⟩, rfl⟩, fun q h => by cases h⟩⟩⟩⟩⟩⟩⟩⟩
theorem ow12_2 : ∀ q ∈ ([(11, 134415886), (17, 142804494)] : List (Nat × Nat)), q.2 ∈ iFs ∧ PFk "AlgolHouse$Frame" q.1 q.2 := List.forall_mem_cons.mpr ⟨⟨List.mem_of_getElem? (i := 16) rfl, rfl, rfl, "AlgolHouse$Frame", lw_g (lw_at lw_m15 163 rfl) rfl, Or.inl rfl⟩, List.forall_mem_cons.mpr ⟨⟨List.mem_of_getElem? (i := 17) rfl, rfl, rfl, "AlgolHouse$Frame", lw_g (lw_at lw_m15 172 rfl) rfl, Or.inl rfl⟩, fun q h => by cases h⟩⟩
theorem ow12_3 : ∀ q ∈ ([] : List (Nat × Nat)), q.2 ∈ sFs ∧ FLk "AlgolHouse$Frame" q.1 q.2 := fun q h => by cases h
theorem ow12_4 : ∀ q ∈ ([] : List (Nat × Nat)), TLk "AlgolHouse$Frame" q.1 q.2 ∧ q.2 % 4 = 2 := fun q h => by cases h
theorem ow12_5 : ∀ q ∈ ([] : List (Nat × Nat)), mdT q.2 = true ∧ NLk "AlgolHouse$Frame" q.1 q.2 := fun q h => by cases h
theorem ow12_6 : ∀ q ∈ ([(9, 75)] : List (Nat × Nat)), mdA q.2 = true ∧ ak q.2 = 2 ∧ ALk "AlgolHouse$Frame" q.1 q.2 := List.forall_mem_cons.mpr ⟨⟨rfl, rfl, "AlgolHouse$Value", rfl, lw_g (lw_at lw_m15 145 rfl) rfl, lw_at lw_m3 225 rfl⟩, fun q h => by cases h⟩
theorem ow12_7 : ∀ q ∈ ([] : List (Nat × Nat)), XLk "AlgolHouse$Frame" q.1 q.2 := fun q h => by cases h
theorem ow12_8 {s0 : State} (hN : NCs s0) : ∀ q ∈ ([] : List (Nat × Nat)), YLk s0 "AlgolHouse$Frame" q.1 q.2 := fun q h => by cases h
theorem ow12_9 : ∀ q ∈ ([] : List (Nat × Nat)), q.2 = ACN ∧ ACk "AlgolHouse$Frame" q.1 ∨ q.2 ≠ ACN ∧ SMk "AlgolHouse$Frame" q.1 q.2 := fun q h => by cases h
theorem ow12_10 : ∀ q ∈ ([] : List (Nat × Nat)), IMk "AlgolHouse$Frame" q.1 q.2 ∧ ∀ t, inT (q.2 / 16 % 128) (q.2 / 2048 % 128) t → inT 1 55 t := fun q h => by cases h
theorem ow12_11 : ∀ q ∈ ([] : List (Nat × Nat)), VMk "AlgolHouse$Frame" q.1 q.2 := fun q h => by cases h
theorem ow12_12 : ∀ q ∈ ([] : List (Nat × Nat)), ∀ n, pN q.2 n → PMk "AlgolHouse$Frame" q.1 q.2 n := fun q h => by cases h
theorem ow12_13 : ∀ q ∈ ([(3, 0)] : List (Nat × Nat)), Cond.methodLink "AlgolHouse$Frame" q.1 Lib.objectInit ∈ lw_all := List.forall_mem_cons.mpr ⟨lw_g (lw_at lw_m15 144 rfl) rfl, fun q h => by cases h⟩
theorem ow12_14 : ∀ q ∈ ([] : List (Nat × Nat)), JMk "AlgolHouse$Frame" q.1 q.2 := fun q h => by cases h
theorem ow12_15 : ∀ q ∈ ([] : List (Nat × Nat)), exT q.2 ∧ NLk "AlgolHouse$Frame" q.1 q.2 := fun q h => by cases h
theorem ow12_16 : ∀ q ∈ ([] : List (Nat × Nat)), exT q.2 ∧ Cond.methodLink "AlgolHouse$Frame" q.1 ⟨cN q.2, "<init>", "()V"⟩ ∈ lw_all := fun q h => by cases h
def Om12 : Om := [[], [(21, 117638670), (25, 126027276), (29, 151193100), (32, 167970318), (36, 176358924), (39, 184747535), (43, 193136142), (47, 201524750)], [(11, 134415886), (17, 142804494)], [], [], [], [(9, 75)], [], [], [], [], [], [], [(3, 0)], [], [], []]
def Ok12 : List (Nat × Int) := []
def Ol12 : List (Nat × Int) := []
theorem ow12 {s0 : State} (hN : NCs s0) : OwnOK s0 "AlgolHouse$Frame" Om12 Ok12 Ol12 := ⟨ow12_k, ow12_l, ow12_0, ow12_1, ow12_2, ow12_3, ow12_4, ow12_5, ow12_6, ow12_7, ow12_8 hN, ow12_9, ow12_10, ow12_11, ow12_12, ow12_13, ow12_14, ow12_15, ow12_16⟩
theorem ow13_k : ∀ q ∈ ([] : List (Nat × Int)), Cond.constant "AlgolHouse$Generator" q.1 (Int32.ofInt q.2) ∈ lw_all := fun q h => by cases h
theorem ow13_l : ∀ q ∈ ([] : List (Nat × Int)), Cond.constantLong "AlgolHouse$Generator" q.1 (Int64.ofInt q.2) ∈ lw_all := fun q h => by cases h
theorem ow13_0 : ∀ q ∈ ([(9, 1024995427), (15, 1033384034), (35, 748831790), (51, 453381144), (55, 740443180)] : List (Nat × Nat)), q.2 ∈ iFs ∧ FLk "AlgolHouse$Generator" q.1 q.2 := List.forall_mem_cons.mpr ⟨⟨List.mem_of_getElem? (i := 122) rfl, ⟨"AlgolHouse$Generator", Or.inl (lw_g (lw_at lw_m9 26 rfl) rfl), Or.inl rfl⟩⟩, List.forall_mem_cons.mpr ⟨⟨List.mem_of_getElem? (i := 123) rfl, ⟨"AlgolHouse$Generator", Or.inl (lw_g (lw_at lw_m9 27 rfl) rfl), Or.inl rfl⟩⟩, List.forall_mem_cons.mpr ⟨⟨List.mem_of_getElem? (i := 89) rfl, ⟨"AlgolHouse$Generator", Or.inl (lw_g (lw_at lw_m5 155 rfl) rfl), Or.inr (lw_g (lw_at lw_m5 156 rfl) rfl)⟩⟩, List.forall_mem_cons.mpr ⟨⟨List.mem_of_getElem? (i := 54) rfl, ⟨"AlgolHouse$Machine", Or.inr ⟨_, lw_at lw_m4 36 rfl⟩, Or.inl rfl⟩⟩, List.forall_mem_cons.mpr ⟨⟨List.mem_of_getElem? (i := 88) rfl, ⟨"AlgolHouse$Generator", Or.inl (lw_g (lw_at lw_m5 115 rfl) rfl), Or.inr (lw_g (lw_at lw_m5 116 rfl) rfl)⟩⟩, fun q h => by cases h⟩⟩⟩⟩⟩
theorem ow13_1 : ∀ q ∈ ([(32, 757220398)] : List (Nat × Nat)), q.2 ∈ iFs ∧ PLk "AlgolHouse$Generator" q.1 q.2 := List.forall_mem_cons.mpr ⟨⟨List.mem_of_getElem? (i := 90) rfl, ⟨"AlgolHouse$Generator", Or.inl (lw_g (lw_at lw_m5 180 rfl) rfl), Or.inr (lw_g (lw_at lw_m5 181 rfl) rfl)⟩, rfl⟩, fun q h => by cases h⟩
theorem ow13_2 : ∀ q ∈ ([(9, 1024995427), (15, 1033384034)] : List (Nat × Nat)), q.2 ∈ iFs ∧ PFk "AlgolHouse$Generator" q.1 q.2 := List.forall_mem_cons.mpr ⟨⟨List.mem_of_getElem? (i := 122) rfl, rfl, rfl, "AlgolHouse$Generator", lw_g (lw_at lw_m9 26 rfl) rfl, Or.inl rfl⟩, List.forall_mem_cons.mpr ⟨⟨List.mem_of_getElem? (i := 123) rfl, rfl, rfl, "AlgolHouse$Generator", lw_g (lw_at lw_m9 27 rfl) rfl, Or.inl rfl⟩, fun q h => by cases h⟩⟩
theorem ow13_3 : ∀ q ∈ ([] : List (Nat × Nat)), q.2 ∈ sFs ∧ FLk "AlgolHouse$Generator" q.1 q.2 := fun q h => by cases h
theorem ow13_4 : ∀ q ∈ ([] : List (Nat × Nat)), TLk "AlgolHouse$Generator" q.1 q.2 ∧ q.2 % 4 = 2 := fun q h => by cases h
theorem ow13_5 : ∀ q ∈ ([(27, 9)] : List (Nat × Nat)), mdT q.2 = true ∧ NLk "AlgolHouse$Generator" q.1 q.2 := List.forall_mem_cons.mpr ⟨⟨rfl, lw_g (lw_at lw_m13 231 rfl) rfl, lw_g (lw_at lw_m2 6 rfl) rfl, lw_g (lw_at lw_m1 13 rfl) rfl⟩, fun q h => by cases h⟩
theorem ow13_6 : ∀ q ∈ ([] : List (Nat × Nat)), mdA q.2 = true ∧ ak q.2 = 2 ∧ ALk "AlgolHouse$Generator" q.1 q.2 := fun q h => by cases h
theorem ow13_7 : ∀ q ∈ ([] : List (Nat × Nat)), XLk "AlgolHouse$Generator" q.1 q.2 := fun q h => by cases h
theorem ow13_8 {s0 : State} (hN : NCs s0) : ∀ q ∈ ([] : List (Nat × Nat)), YLk s0 "AlgolHouse$Generator" q.1 q.2 := fun q h => by cases h
theorem ow13_9 : ∀ q ∈ ([(23, 6029314)] : List (Nat × Nat)), q.2 = ACN ∧ ACk "AlgolHouse$Generator" q.1 ∨ q.2 ≠ ACN ∧ SMk "AlgolHouse$Generator" q.1 q.2 := List.forall_mem_cons.mpr ⟨Or.inr ⟨by decide, mok_X1_bound, np_X1_bound, ⟨sm_X1_bound, lw_g (lw_at lw_m1 1 rfl) rfl⟩, Or.inr ⟨_, lw_at lw_m13 29 rfl⟩⟩, fun q h => by cases h⟩
theorem ow13_10 : ∀ q ∈ ([(3, 118034610), (29, 24660115)] : List (Nat × Nat)), IMk "AlgolHouse$Generator" q.1 q.2 ∧ ∀ t, inT (q.2 / 16 % 128) (q.2 / 2048 % 128) t → inT 1 55 t := List.forall_mem_cons.mpr ⟨⟨⟨mok_X12_init, np_X12_init, by decide, rfl, im_X12_init, ⟨_, _, rfl⟩, Or.inl (lw_g (lw_at lw_m9 25 rfl) rfl)⟩, fun t ht => ⟨Nat.le_trans (by decide) ht.1, Nat.le_trans ht.2 (by decide)⟩⟩, List.forall_mem_cons.mpr ⟨⟨⟨mok_X6_init_2, np_X6_init_2, by decide, rfl, im_X6_init_2, ⟨_, _, rfl⟩, Or.inl (lw_g (lw_at lw_m13 232 rfl) rfl)⟩, fun t ht => ⟨Nat.le_trans (by decide) ht.1, Nat.le_trans ht.2 (by decide)⟩⟩, fun q h => by cases h⟩⟩
theorem ow13_11_0 : VMk "AlgolHouse$Generator" 39 165249793 := ⟨mok_J6_size, by decide, fun t ht => by
  obtain rfl : t = 48 := Nat.le_antisymm (Nat.le_trans ht.2 (by decide)) (Nat.le_trans (by decide) ht.1)
  exact ⟨⟨by decide, by decide⟩, im_J6_size, Or.inl ⟨np_J6_size, lw_g (lw_at lw_m4 167 rfl) rfl, Or.inl (lw_g (lw_at lw_m17 57 rfl) rfl)⟩⟩⟩
theorem ow13_11_1 : VMk "AlgolHouse$Generator" 45 27275364 := ⟨mok_X7_all, by decide, fun t ht => by
  obtain rfl : t = 6 := Nat.le_antisymm (Nat.le_trans ht.2 (by decide)) (Nat.le_trans (by decide) ht.1)
  exact ⟨⟨by decide, by decide⟩, im_X7_all, Or.inl ⟨np_X7_all, lw_g (lw_at lw_m15 233 rfl) rfl, Or.inl (lw_g (lw_at lw_m17 58 rfl) rfl)⟩⟩⟩
theorem ow13_11_2 : VMk "AlgolHouse$Generator" 58 32780389 := ⟨mok_X7_make, by decide, fun t ht => by
  obtain rfl : t = 6 := Nat.le_antisymm (Nat.le_trans ht.2 (by decide)) (Nat.le_trans (by decide) ht.1)
  exact ⟨⟨by decide, by decide⟩, im_X7_make, Or.inl ⟨np_X7_make, lw_g (lw_at lw_m17 61 rfl) rfl, Or.inl (lw_g (lw_at lw_m17 59 rfl) rfl)⟩⟩⟩
theorem ow13_11_3 : VMk "AlgolHouse$Generator" 62 33042530 := ⟨mok_X7_name, by decide, fun t ht => by
  obtain rfl : t = 6 := Nat.le_antisymm (Nat.le_trans ht.2 (by decide)) (Nat.le_trans (by decide) ht.1)
  exact ⟨⟨by decide, by decide⟩, im_X7_name, Or.inl ⟨np_X7_name, lw_g (lw_at lw_m17 70 rfl) rfl, Or.inl (lw_g (lw_at lw_m17 68 rfl) rfl)⟩⟩⟩
theorem ow13_11_4 : VMk "AlgolHouse$Generator" 66 29634659 := ⟨mok_X7_done, by decide, fun t ht => by
  obtain rfl : t = 6 := Nat.le_antisymm (Nat.le_trans ht.2 (by decide)) (Nat.le_trans (by decide) ht.1)
  exact ⟨⟨by decide, by decide⟩, im_X7_done, Or.inl ⟨np_X7_done, lw_g (lw_at lw_m16 80 rfl) rfl, Or.inl (lw_g (lw_at lw_m17 72 rfl) rfl)⟩⟩⟩
theorem ow13_11 : ∀ q ∈ ([(39, 165249793), (45, 27275364), (58, 32780389), (62, 33042530), (66, 29634659)] : List (Nat × Nat)), VMk "AlgolHouse$Generator" q.1 q.2 := List.forall_mem_cons.mpr ⟨ow13_11_0, List.forall_mem_cons.mpr ⟨ow13_11_1, List.forall_mem_cons.mpr ⟨ow13_11_2, List.forall_mem_cons.mpr ⟨ow13_11_3, List.forall_mem_cons.mpr ⟨ow13_11_4, fun q h => by cases h⟩⟩⟩⟩⟩
theorem ow13_12_0 : PMk "AlgolHouse$Generator" 19 37 2 := ⟨by decide, fun t m h => by
  rcases dsp_37 h with ⟨rfl, rfl⟩
  · exact ⟨mok_X12_part, ⟨by decide, by decide⟩, im_X12_part, Or.inr ⟨⟨"AlgolHouse$Generator", "part", "(I)LAlgolHouse$Node;"⟩, "AlgolHouse$Node", by decide +kernel, lw_g (lw_at lw_m13 26 rfl) rfl, lw_g (lw_at lw_m13 27 rfl) rfl, Or.inl (lw_at lw_m10 110 rfl), ⟨by decide +kernel, by decide +kernel⟩, lw_g (lw_at lw_m13 28 rfl) rfl⟩⟩⟩
theorem ow13_12 : ∀ q ∈ ([(19, 37)] : List (Nat × Nat)), ∀ n, pN q.2 n → PMk "AlgolHouse$Generator" q.1 q.2 n := List.forall_mem_cons.mpr ⟨(fun n hn => by cases hn; exact ow13_12_0), fun q h => by cases h⟩
theorem ow13_13 : ∀ q ∈ ([] : List (Nat × Nat)), Cond.methodLink "AlgolHouse$Generator" q.1 Lib.objectInit ∈ lw_all := fun q h => by cases h
theorem ow13_14 : ∀ q ∈ ([] : List (Nat × Nat)), JMk "AlgolHouse$Generator" q.1 q.2 := fun q h => by cases h
theorem ow13_15 : ∀ q ∈ ([] : List (Nat × Nat)), exT q.2 ∧ NLk "AlgolHouse$Generator" q.1 q.2 := fun q h => by cases h
theorem ow13_16 : ∀ q ∈ ([] : List (Nat × Nat)), exT q.2 ∧ Cond.methodLink "AlgolHouse$Generator" q.1 ⟨cN q.2, "<init>", "()V"⟩ ∈ lw_all := fun q h => by cases h
def Om13 : Om := [[(9, 1024995427), (15, 1033384034), (35, 748831790), (51, 453381144), (55, 740443180)], [(32, 757220398)], [(9, 1024995427), (15, 1033384034)], [], [], [(27, 9)], [], [], [], [(23, 6029314)], [(3, 118034610), (29, 24660115)], [(39, 165249793), (45, 27275364), (58, 32780389), (62, 33042530), (66, 29634659)], [(19, 37)], [], [], [], []]
def Ok13 : List (Nat × Int) := []
def Ol13 : List (Nat × Int) := []
theorem ow13 {s0 : State} (hN : NCs s0) : OwnOK s0 "AlgolHouse$Generator" Om13 Ok13 Ol13 := ⟨ow13_k, ow13_l, ow13_0, ow13_1, ow13_2, ow13_3, ow13_4, ow13_5, ow13_6, ow13_7, ow13_8 hN, ow13_9, ow13_10, ow13_11, ow13_12, ow13_13, ow13_14, ow13_15, ow13_16⟩
theorem ow14_k : ∀ q ∈ ([] : List (Nat × Int)), Cond.constant "AlgolHouse$Identity" q.1 (Int32.ofInt q.2) ∈ lw_all := fun q h => by cases h
theorem ow14_l : ∀ q ∈ ([] : List (Nat × Int)), Cond.constantLong "AlgolHouse$Identity" q.1 (Int64.ofInt q.2) ∈ lw_all := fun q h => by cases h
theorem ow14_0 : ∀ q ∈ ([(7, 831396922), (13, 839785529), (17, 848174136), (27, 823140410), (39, 126027276), (50, 444992538), (54, 1520980130), (60, 621285404), (65, 436603930)] : List (Nat × Nat)), q.2 ∈ iFs ∧ FLk "AlgolHouse$Identity" q.1 q.2 := List.forall_mem_cons.mpr ⟨⟨List.mem_of_getElem? (i := 99) rfl, ⟨"AlgolHouse$Identity", Or.inl (lw_g (lw_at lw_m8 3 rfl) rfl), Or.inl rfl⟩⟩, List.forall_mem_cons.mpr ⟨⟨List.mem_of_getElem? (i := 100) rfl, ⟨"AlgolHouse$Identity", Or.inl (lw_g (lw_at lw_m8 4 rfl) rfl), Or.inl rfl⟩⟩, List.forall_mem_cons.mpr ⟨⟨List.mem_of_getElem? (i := 101) rfl, ⟨"AlgolHouse$Identity", Or.inl (lw_g (lw_at lw_m8 5 rfl) rfl), Or.inl rfl⟩⟩, List.forall_mem_cons.mpr ⟨⟨List.mem_of_getElem? (i := 98) rfl, ⟨"AlgolHouse$Identity", Or.inl (lw_g (lw_at lw_m8 6 rfl) rfl), Or.inr (lw_g (lw_at lw_m8 7 rfl) rfl)⟩⟩, List.forall_mem_cons.mpr ⟨⟨List.mem_of_getElem? (i := 15) rfl, ⟨"AlgolHouse$Frame", Or.inr ⟨_, lw_at lw_m15 154 rfl⟩, Or.inl rfl⟩⟩, List.forall_mem_cons.mpr ⟨⟨List.mem_of_getElem? (i := 53) rfl, ⟨"AlgolHouse$Machine", Or.inr ⟨_, lw_at lw_m4 30 rfl⟩, Or.inl rfl⟩⟩, List.forall_mem_cons.mpr ⟨⟨List.mem_of_getElem? (i := 181) rfl, ⟨"AlgolHouse$Range", Or.inr ⟨_, lw_at lw_m3 231 rfl⟩, Or.inl rfl⟩⟩, List.forall_mem_cons.mpr ⟨⟨List.mem_of_getElem? (i := 74) rfl, ⟨"AlgolHouse$Meaning", Or.inl (lw_g (lw_at lw_m11 168 rfl) rfl), Or.inl rfl⟩⟩, List.forall_mem_cons.mpr ⟨⟨List.mem_of_getElem? (i := 52) rfl, ⟨"AlgolHouse$Machine", Or.inr ⟨_, lw_at lw_m4 20 rfl⟩, Or.inl rfl⟩⟩, fun q h => by cases h⟩⟩⟩⟩⟩⟩⟩⟩⟩
theorem ow14_1 : ∀ q ∈ ([(27, 823140410), (39, 126027276)] : List (Nat × Nat)), q.2 ∈ iFs ∧ PLk "AlgolHouse$Identity" q.1 q.2 := List.forall_mem_cons.mpr ⟨⟨List.mem_of_getElem? (i := 98) rfl, ⟨"AlgolHouse$Identity", Or.inl (lw_g (lw_at lw_m8 6 rfl) rfl), Or.inr (lw_g (lw_at lw_m8 7 rfl) rfl)⟩, rfl⟩, List.forall_mem_cons.mpr ⟨⟨List.mem_of_getElem? (i := 15) rfl, ⟨"AlgolHouse$Frame", Or.inr ⟨_, lw_at lw_m15 154 rfl⟩, Or.inl rfl⟩, rfl⟩, fun q h => by cases h⟩⟩
theorem ow14_2 : ∀ q ∈ ([(7, 831396922), (13, 839785529), (17, 848174136)] : List (Nat × Nat)), q.2 ∈ iFs ∧ PFk "AlgolHouse$Identity" q.1 q.2 := List.forall_mem_cons.mpr ⟨⟨List.mem_of_getElem? (i := 99) rfl, rfl, rfl, "AlgolHouse$Identity", lw_g (lw_at lw_m8 3 rfl) rfl, Or.inl rfl⟩, List.forall_mem_cons.mpr ⟨⟨List.mem_of_getElem? (i := 100) rfl, rfl, rfl, "AlgolHouse$Identity", lw_g (lw_at lw_m8 4 rfl) rfl, Or.inl rfl⟩, List.forall_mem_cons.mpr ⟨⟨List.mem_of_getElem? (i := 101) rfl, rfl, rfl, "AlgolHouse$Identity", lw_g (lw_at lw_m8 5 rfl) rfl, Or.inl rfl⟩, fun q h => by cases h⟩⟩⟩
theorem ow14_3 : ∀ q ∈ ([] : List (Nat × Nat)), q.2 ∈ sFs ∧ FLk "AlgolHouse$Identity" q.1 q.2 := fun q h => by cases h
theorem ow14_4 : ∀ q ∈ ([] : List (Nat × Nat)), TLk "AlgolHouse$Identity" q.1 q.2 ∧ q.2 % 4 = 2 := fun q h => by cases h
theorem ow14_5 : ∀ q ∈ ([] : List (Nat × Nat)), mdT q.2 = true ∧ NLk "AlgolHouse$Identity" q.1 q.2 := fun q h => by cases h
theorem ow14_6 : ∀ q ∈ ([] : List (Nat × Nat)), mdA q.2 = true ∧ ak q.2 = 2 ∧ ALk "AlgolHouse$Identity" q.1 q.2 := fun q h => by cases h
theorem ow14_7 : ∀ q ∈ ([] : List (Nat × Nat)), XLk "AlgolHouse$Identity" q.1 q.2 := fun q h => by cases h
theorem ow14_8 {s0 : State} (hN : NCs s0) : ∀ q ∈ ([] : List (Nat × Nat)), YLk s0 "AlgolHouse$Identity" q.1 q.2 := fun q h => by cases h
theorem ow14_9 : ∀ q ∈ ([] : List (Nat × Nat)), q.2 = ACN ∧ ACk "AlgolHouse$Identity" q.1 ∨ q.2 ≠ ACN ∧ SMk "AlgolHouse$Identity" q.1 q.2 := fun q h => by cases h
theorem ow14_10 : ∀ q ∈ ([(1, 127959266)] : List (Nat × Nat)), IMk "AlgolHouse$Identity" q.1 q.2 ∧ ∀ t, inT (q.2 / 16 % 128) (q.2 / 2048 % 128) t → inT 1 55 t := List.forall_mem_cons.mpr ⟨⟨⟨mok_X19_init, np_X19_init, by decide, rfl, im_X19_init, ⟨_, _, rfl⟩, Or.inl (lw_g (lw_at lw_m7 239 rfl) rfl)⟩, fun t ht => ⟨Nat.le_trans (by decide) ht.1, Nat.le_trans ht.2 (by decide)⟩⟩, fun q h => by cases h⟩
theorem ow14_11_0 : VMk "AlgolHouse$Identity" 21 15212613 := ⟨mok_X3_declare, by decide, fun t ht => by
  obtain rfl : t = 4 := Nat.le_antisymm (Nat.le_trans ht.2 (by decide)) (Nat.le_trans (by decide) ht.1)
  exact ⟨⟨by decide, by decide⟩, im_X3_declare, Or.inl ⟨np_X3_declare, lw_g (lw_at lw_m11 128 rfl) rfl, Or.inl (lw_g (lw_at lw_m11 198 rfl) rfl)⟩⟩⟩
theorem ow14_11_1 : VMk "AlgolHouse$Identity" 35 17047619 := ⟨mok_X3_strong, by decide, fun t ht => by
  obtain rfl : t = 4 := Nat.le_antisymm (Nat.le_trans ht.2 (by decide)) (Nat.le_trans (by decide) ht.1)
  exact ⟨⟨by decide, by decide⟩, im_X3_strong, Or.inl ⟨np_X3_strong, lw_g (lw_at lw_m12 134 rfl) rfl, Or.inl (lw_g (lw_at lw_m13 39 rfl) rfl)⟩⟩⟩
theorem ow14_11_2 : VMk "AlgolHouse$Identity" 44 26488930 := ⟨mok_X7_push, by decide, fun t ht => by
  obtain rfl : t = 6 := Nat.le_antisymm (Nat.le_trans ht.2 (by decide)) (Nat.le_trans (by decide) ht.1)
  exact ⟨⟨by decide, by decide⟩, im_X7_push, Or.inl ⟨np_X7_push, lw_g (lw_at lw_m15 124 rfl) rfl, Or.inl (lw_g (lw_at lw_m17 76 rfl) rfl)⟩⟩⟩
theorem ow14_11_3 : VMk "AlgolHouse$Identity" 69 29634659 := ⟨mok_X7_done, by decide, fun t ht => by
  obtain rfl : t = 6 := Nat.le_antisymm (Nat.le_trans ht.2 (by decide)) (Nat.le_trans (by decide) ht.1)
  exact ⟨⟨by decide, by decide⟩, im_X7_done, Or.inl ⟨np_X7_done, lw_g (lw_at lw_m16 80 rfl) rfl, Or.inl (lw_g (lw_at lw_m17 77 rfl) rfl)⟩⟩⟩
theorem ow14_11 : ∀ q ∈ ([(21, 15212613), (35, 17047619), (44, 26488930), (69, 29634659)] : List (Nat × Nat)), VMk "AlgolHouse$Identity" q.1 q.2 := List.forall_mem_cons.mpr ⟨ow14_11_0, List.forall_mem_cons.mpr ⟨ow14_11_1, List.forall_mem_cons.mpr ⟨ow14_11_2, List.forall_mem_cons.mpr ⟨ow14_11_3, fun q h => by cases h⟩⟩⟩⟩
theorem ow14_12_0 : PMk "AlgolHouse$Identity" 31 30 2 := ⟨by decide, fun t m h => by
  rcases dsp_30 h with ⟨rfl, rfl⟩
  · exact ⟨mok_X12_part, ⟨by decide, by decide⟩, im_X12_part, Or.inr ⟨⟨"AlgolHouse$Identity", "part", "(I)LAlgolHouse$Node;"⟩, "AlgolHouse$Node", by decide +kernel, lw_g (lw_at lw_m13 36 rfl) rfl, lw_g (lw_at lw_m13 37 rfl) rfl, Or.inl (lw_at lw_m10 110 rfl), ⟨by decide +kernel, by decide +kernel⟩, lw_g (lw_at lw_m13 38 rfl) rfl⟩⟩⟩
theorem ow14_12 : ∀ q ∈ ([(31, 30)] : List (Nat × Nat)), ∀ n, pN q.2 n → PMk "AlgolHouse$Identity" q.1 q.2 n := List.forall_mem_cons.mpr ⟨(fun n hn => by cases hn; exact ow14_12_0), fun q h => by cases h⟩
theorem ow14_13 : ∀ q ∈ ([] : List (Nat × Nat)), Cond.methodLink "AlgolHouse$Identity" q.1 Lib.objectInit ∈ lw_all := fun q h => by cases h
theorem ow14_14 : ∀ q ∈ ([] : List (Nat × Nat)), JMk "AlgolHouse$Identity" q.1 q.2 := fun q h => by cases h
theorem ow14_15 : ∀ q ∈ ([] : List (Nat × Nat)), exT q.2 ∧ NLk "AlgolHouse$Identity" q.1 q.2 := fun q h => by cases h
theorem ow14_16 : ∀ q ∈ ([] : List (Nat × Nat)), exT q.2 ∧ Cond.methodLink "AlgolHouse$Identity" q.1 ⟨cN q.2, "<init>", "()V"⟩ ∈ lw_all := fun q h => by cases h
def Om14 : Om := [[(7, 831396922), (13, 839785529), (17, 848174136), (27, 823140410), (39, 126027276), (50, 444992538), (54, 1520980130), (60, 621285404), (65, 436603930)], [(27, 823140410), (39, 126027276)], [(7, 831396922), (13, 839785529), (17, 848174136)], [], [], [], [], [], [], [], [(1, 127959266)], [(21, 15212613), (35, 17047619), (44, 26488930), (69, 29634659)], [(31, 30)], [], [], [], []]
def Ok14 : List (Nat × Int) := []
def Ol14 : List (Nat × Int) := []
theorem ow14 {s0 : State} (hN : NCs s0) : OwnOK s0 "AlgolHouse$Identity" Om14 Ok14 Ol14 := ⟨ow14_k, ow14_l, ow14_0, ow14_1, ow14_2, ow14_3, ow14_4, ow14_5, ow14_6, ow14_7, ow14_8 hN, ow14_9, ow14_10, ow14_11, ow14_12, ow14_13, ow14_14, ow14_15, ow14_16⟩
theorem ow15_k : ∀ q ∈ ([] : List (Nat × Int)), Cond.constant "AlgolHouse$If" q.1 (Int32.ofInt q.2) ∈ lw_all := fun q h => by cases h
theorem ow15_l : ∀ q ∈ ([] : List (Nat × Int)), Cond.constantLong "AlgolHouse$If" q.1 (Int64.ofInt q.2) ∈ lw_all := fun q h => by cases h
theorem ow15_0 : ∀ q ∈ ([(9, 748831790), (31, 126027276), (43, 436603930), (51, 1563055275), (57, 740443180), (64, 1571443881)] : List (Nat × Nat)), q.2 ∈ iFs ∧ FLk "AlgolHouse$If" q.1 q.2 := List.forall_mem_cons.mpr ⟨⟨List.mem_of_getElem? (i := 89) rfl, ⟨"AlgolHouse$If", Or.inl (lw_g (lw_at lw_m5 140 rfl) rfl), Or.inr (lw_g (lw_at lw_m5 141 rfl) rfl)⟩⟩, List.forall_mem_cons.mpr ⟨⟨List.mem_of_getElem? (i := 15) rfl, ⟨"AlgolHouse$Frame", Or.inr ⟨_, lw_at lw_m15 157 rfl⟩, Or.inl rfl⟩⟩, List.forall_mem_cons.mpr ⟨⟨List.mem_of_getElem? (i := 52) rfl, ⟨"AlgolHouse$Machine", Or.inr ⟨_, lw_at lw_m4 23 rfl⟩, Or.inl rfl⟩⟩, List.forall_mem_cons.mpr ⟨⟨List.mem_of_getElem? (i := 186) rfl, ⟨"AlgolHouse$Value", Or.inr ⟨_, lw_at lw_m16 133 rfl⟩, Or.inl rfl⟩⟩, List.forall_mem_cons.mpr ⟨⟨List.mem_of_getElem? (i := 88) rfl, ⟨"AlgolHouse$If", Or.inl (lw_g (lw_at lw_m5 122 rfl) rfl), Or.inr (lw_g (lw_at lw_m5 123 rfl) rfl)⟩⟩, List.forall_mem_cons.mpr ⟨⟨List.mem_of_getElem? (i := 187) rfl, ⟨"AlgolHouse$Value", Or.inr ⟨_, lw_at lw_m16 142 rfl⟩, Or.inl rfl⟩⟩, fun q h => by cases h⟩⟩⟩⟩⟩⟩
theorem ow15_1 : ∀ q ∈ ([(31, 126027276)] : List (Nat × Nat)), q.2 ∈ iFs ∧ PLk "AlgolHouse$If" q.1 q.2 := List.forall_mem_cons.mpr ⟨⟨List.mem_of_getElem? (i := 15) rfl, ⟨"AlgolHouse$Frame", Or.inr ⟨_, lw_at lw_m15 157 rfl⟩, Or.inl rfl⟩, rfl⟩, fun q h => by cases h⟩
theorem ow15_2 : ∀ q ∈ ([] : List (Nat × Nat)), q.2 ∈ iFs ∧ PFk "AlgolHouse$If" q.1 q.2 := fun q h => by cases h
theorem ow15_3 : ∀ q ∈ ([] : List (Nat × Nat)), q.2 ∈ sFs ∧ FLk "AlgolHouse$If" q.1 q.2 := fun q h => by cases h
theorem ow15_4 : ∀ q ∈ ([] : List (Nat × Nat)), TLk "AlgolHouse$If" q.1 q.2 ∧ q.2 % 4 = 2 := fun q h => by cases h
theorem ow15_5 : ∀ q ∈ ([] : List (Nat × Nat)), mdT q.2 = true ∧ NLk "AlgolHouse$If" q.1 q.2 := fun q h => by cases h
theorem ow15_6 : ∀ q ∈ ([] : List (Nat × Nat)), mdA q.2 = true ∧ ak q.2 = 2 ∧ ALk "AlgolHouse$If" q.1 q.2 := fun q h => by cases h
theorem ow15_7 : ∀ q ∈ ([] : List (Nat × Nat)), XLk "AlgolHouse$If" q.1 q.2 := fun q h => by cases h
theorem ow15_8 {s0 : State} (hN : NCs s0) : ∀ q ∈ ([] : List (Nat × Nat)), YLk s0 "AlgolHouse$If" q.1 q.2 := fun q h => by cases h
theorem ow15_9 : ∀ q ∈ ([] : List (Nat × Nat)), q.2 = ACN ∧ ACk "AlgolHouse$If" q.1 ∨ q.2 ≠ ACN ∧ SMk "AlgolHouse$If" q.1 q.2 := fun q h => by cases h
theorem ow15_10 : ∀ q ∈ ([(3, 121155890)] : List (Nat × Nat)), IMk "AlgolHouse$If" q.1 q.2 ∧ ∀ t, inT (q.2 / 16 % 128) (q.2 / 2048 % 128) t → inT 1 55 t := List.forall_mem_cons.mpr ⟨⟨⟨mok_X13_init, np_X13_init, by decide, rfl, im_X13_init, ⟨_, _, rfl⟩, Or.inl (lw_g (lw_at lw_m9 110 rfl) rfl)⟩, fun t ht => ⟨Nat.le_trans (by decide) ht.1, Nat.le_trans ht.2 (by decide)⟩⟩, fun q h => by cases h⟩
theorem ow15_11_0 : VMk "AlgolHouse$If" 15 165249793 := ⟨mok_J6_size, by decide, fun t ht => by
  obtain rfl : t = 48 := Nat.le_antisymm (Nat.le_trans ht.2 (by decide)) (Nat.le_trans (by decide) ht.1)
  exact ⟨⟨by decide, by decide⟩, im_J6_size, Or.inl ⟨np_J6_size, lw_g (lw_at lw_m4 167 rfl) rfl, Or.inl (lw_g (lw_at lw_m12 43 rfl) rfl)⟩⟩⟩
theorem ow15_11_1 : VMk "AlgolHouse$If" 25 17309764 := ⟨mok_X3_come, by decide, fun t ht => by
  obtain rfl : t = 4 := Nat.le_antisymm (Nat.le_trans ht.2 (by decide)) (Nat.le_trans (by decide) ht.1)
  exact ⟨⟨by decide, by decide⟩, im_X3_come, Or.inl ⟨np_X3_come, lw_g (lw_at lw_m13 1 rfl) rfl, Or.inl (lw_g (lw_at lw_m13 43 rfl) rfl)⟩⟩⟩
theorem ow15_11_2 : VMk "AlgolHouse$If" 37 26488930 := ⟨mok_X7_push, by decide, fun t ht => by
  obtain rfl : t = 6 := Nat.le_antisymm (Nat.le_trans ht.2 (by decide)) (Nat.le_trans (by decide) ht.1)
  exact ⟨⟨by decide, by decide⟩, im_X7_push, Or.inl ⟨np_X7_push, lw_g (lw_at lw_m15 124 rfl) rfl, Or.inl (lw_g (lw_at lw_m17 81 rfl) rfl)⟩⟩⟩
theorem ow15_11_3 : VMk "AlgolHouse$If" 47 29634659 := ⟨mok_X7_done, by decide, fun t ht => by
  obtain rfl : t = 6 := Nat.le_antisymm (Nat.le_trans ht.2 (by decide)) (Nat.le_trans (by decide) ht.1)
  exact ⟨⟨by decide, by decide⟩, im_X7_done, Or.inl ⟨np_X7_done, lw_g (lw_at lw_m16 80 rfl) rfl, Or.inl (lw_g (lw_at lw_m17 82 rfl) rfl)⟩⟩⟩
theorem ow15_11_4 : VMk "AlgolHouse$If" 60 27013220 := ⟨mok_X7_need, by decide, fun t ht => by
  obtain rfl : t = 6 := Nat.le_antisymm (Nat.le_trans ht.2 (by decide)) (Nat.le_trans (by decide) ht.1)
  exact ⟨⟨by decide, by decide⟩, im_X7_need, Or.inl ⟨np_X7_need, lw_g (lw_at lw_m15 132 rfl) rfl, Or.inl (lw_g (lw_at lw_m17 83 rfl) rfl)⟩⟩⟩
theorem ow15_11_5 : VMk "AlgolHouse$If" 68 30945377 := ⟨mok_X7_undefined, by decide, fun t ht => by
  obtain rfl : t = 6 := Nat.le_antisymm (Nat.le_trans ht.2 (by decide)) (Nat.le_trans (by decide) ht.1)
  exact ⟨⟨by decide, by decide⟩, im_X7_undefined, Or.inl ⟨np_X7_undefined, lw_g (lw_at lw_m16 114 rfl) rfl, Or.inl (lw_g (lw_at lw_m17 84 rfl) rfl)⟩⟩⟩
theorem ow15_11 : ∀ q ∈ ([(15, 165249793), (25, 17309764), (37, 26488930), (47, 29634659), (60, 27013220), (68, 30945377)] : List (Nat × Nat)), VMk "AlgolHouse$If" q.1 q.2 := List.forall_mem_cons.mpr ⟨ow15_11_0, List.forall_mem_cons.mpr ⟨ow15_11_1, List.forall_mem_cons.mpr ⟨ow15_11_2, List.forall_mem_cons.mpr ⟨ow15_11_3, List.forall_mem_cons.mpr ⟨ow15_11_4, List.forall_mem_cons.mpr ⟨ow15_11_5, fun q h => by cases h⟩⟩⟩⟩⟩⟩
theorem ow15_12_0 : PMk "AlgolHouse$If" 21 38 2 := ⟨by decide, fun t m h => by
  rcases dsp_38 h with ⟨rfl, rfl⟩
  · exact ⟨mok_X12_part, ⟨by decide, by decide⟩, im_X12_part, Or.inr ⟨⟨"AlgolHouse$If", "part", "(I)LAlgolHouse$Node;"⟩, "AlgolHouse$Node", by decide +kernel, lw_g (lw_at lw_m12 84 rfl) rfl, lw_g (lw_at lw_m12 85 rfl) rfl, Or.inl (lw_at lw_m10 110 rfl), ⟨by decide +kernel, by decide +kernel⟩, lw_g (lw_at lw_m12 86 rfl) rfl⟩⟩⟩
theorem ow15_12 : ∀ q ∈ ([(21, 38)] : List (Nat × Nat)), ∀ n, pN q.2 n → PMk "AlgolHouse$If" q.1 q.2 n := List.forall_mem_cons.mpr ⟨(fun n hn => by cases hn; exact ow15_12_0), fun q h => by cases h⟩
theorem ow15_13 : ∀ q ∈ ([] : List (Nat × Nat)), Cond.methodLink "AlgolHouse$If" q.1 Lib.objectInit ∈ lw_all := fun q h => by cases h
theorem ow15_14 : ∀ q ∈ ([] : List (Nat × Nat)), JMk "AlgolHouse$If" q.1 q.2 := fun q h => by cases h
theorem ow15_15 : ∀ q ∈ ([] : List (Nat × Nat)), exT q.2 ∧ NLk "AlgolHouse$If" q.1 q.2 := fun q h => by cases h
theorem ow15_16 : ∀ q ∈ ([] : List (Nat × Nat)), exT q.2 ∧ Cond.methodLink "AlgolHouse$If" q.1 ⟨cN q.2, "<init>", "()V"⟩ ∈ lw_all := fun q h => by cases h
def Om15 : Om := [[(9, 748831790), (31, 126027276), (43, 436603930), (51, 1563055275), (57, 740443180), (64, 1571443881)], [(31, 126027276)], [], [], [], [], [], [], [], [], [(3, 121155890)], [(15, 165249793), (25, 17309764), (37, 26488930), (47, 29634659), (60, 27013220), (68, 30945377)], [(21, 38)], [], [], [], []]
def Ok15 : List (Nat × Int) := []
def Ol15 : List (Nat × Int) := []
theorem ow15 {s0 : State} (hN : NCs s0) : OwnOK s0 "AlgolHouse$If" Om15 Ok15 Ol15 := ⟨ow15_k, ow15_l, ow15_0, ow15_1, ow15_2, ow15_3, ow15_4, ow15_5, ow15_6, ow15_7, ow15_8 hN, ow15_9, ow15_10, ow15_11, ow15_12, ow15_13, ow15_14, ow15_15, ow15_16⟩
theorem ow16_k : ∀ q ∈ ([] : List (Nat × Int)), Cond.constant "AlgolHouse$Is" q.1 (Int32.ofInt q.2) ∈ lw_all := fun q h => by cases h
theorem ow16_l : ∀ q ∈ ([] : List (Nat × Int)), Cond.constantLong "AlgolHouse$Is" q.1 (Int64.ofInt q.2) ∈ lw_all := fun q h => by cases h
theorem ow16_0 : ∀ q ∈ ([(9, 1041838695), (37, 285476882), (50, 134415886), (56, 1563055275), (61, 740443180), (69, 1579832490)] : List (Nat × Nat)), q.2 ∈ iFs ∧ FLk "AlgolHouse$Is" q.1 q.2 := List.forall_mem_cons.mpr ⟨⟨List.mem_of_getElem? (i := 124) rfl, ⟨"AlgolHouse$Is", Or.inl (lw_g (lw_at lw_m10 73 rfl) rfl), Or.inl rfl⟩⟩, List.forall_mem_cons.mpr ⟨⟨List.mem_of_getElem? (i := 34) rfl, ⟨"AlgolHouse$Judge", Or.inr ⟨_, lw_at lw_m3 149 rfl⟩, Or.inl rfl⟩⟩, List.forall_mem_cons.mpr ⟨⟨List.mem_of_getElem? (i := 16) rfl, ⟨"AlgolHouse$Frame", Or.inr ⟨_, lw_at lw_m15 166 rfl⟩, Or.inl rfl⟩⟩, List.forall_mem_cons.mpr ⟨⟨List.mem_of_getElem? (i := 186) rfl, ⟨"AlgolHouse$Value", Or.inr ⟨_, lw_at lw_m16 130 rfl⟩, Or.inl rfl⟩⟩, List.forall_mem_cons.mpr ⟨⟨List.mem_of_getElem? (i := 88) rfl, ⟨"AlgolHouse$Is", Or.inl (lw_g (lw_at lw_m5 113 rfl) rfl), Or.inr (lw_g (lw_at lw_m5 114 rfl) rfl)⟩⟩, List.forall_mem_cons.mpr ⟨⟨List.mem_of_getElem? (i := 188) rfl, ⟨"AlgolHouse$Value", Or.inr ⟨_, lw_at lw_m16 148 rfl⟩, Or.inl rfl⟩⟩, fun q h => by cases h⟩⟩⟩⟩⟩⟩
theorem ow16_1 : ∀ q ∈ ([(41, 757220398)] : List (Nat × Nat)), q.2 ∈ iFs ∧ PLk "AlgolHouse$Is" q.1 q.2 := List.forall_mem_cons.mpr ⟨⟨List.mem_of_getElem? (i := 90) rfl, ⟨"AlgolHouse$Is", Or.inl (lw_g (lw_at lw_m5 182 rfl) rfl), Or.inr (lw_g (lw_at lw_m5 183 rfl) rfl)⟩, rfl⟩, fun q h => by cases h⟩
theorem ow16_2 : ∀ q ∈ ([(9, 1041838695)] : List (Nat × Nat)), q.2 ∈ iFs ∧ PFk "AlgolHouse$Is" q.1 q.2 := List.forall_mem_cons.mpr ⟨⟨List.mem_of_getElem? (i := 124) rfl, rfl, rfl, "AlgolHouse$Is", lw_g (lw_at lw_m10 73 rfl) rfl, Or.inl rfl⟩, fun q h => by cases h⟩
theorem ow16_3 : ∀ q ∈ ([] : List (Nat × Nat)), q.2 ∈ sFs ∧ FLk "AlgolHouse$Is" q.1 q.2 := fun q h => by cases h
theorem ow16_4 : ∀ q ∈ ([] : List (Nat × Nat)), TLk "AlgolHouse$Is" q.1 q.2 ∧ q.2 % 4 = 2 := fun q h => by cases h
theorem ow16_5 : ∀ q ∈ ([] : List (Nat × Nat)), mdT q.2 = true ∧ NLk "AlgolHouse$Is" q.1 q.2 := fun q h => by cases h
theorem ow16_6 : ∀ q ∈ ([] : List (Nat × Nat)), mdA q.2 = true ∧ ak q.2 = 2 ∧ ALk "AlgolHouse$Is" q.1 q.2 := fun q h => by cases h
theorem ow16_7 : ∀ q ∈ ([] : List (Nat × Nat)), XLk "AlgolHouse$Is" q.1 q.2 := fun q h => by cases h
theorem ow16_8_0 {s0 : State} (hN : NCs s0) : YLk s0 "AlgolHouse$Is" 15 71487520 := ⟨"AlgolHouse$Skip", lw_g (lw_at lw_m14 4 rfl) rfl, fun t h1 h2 => by
  rcases (by omega : t = 11 ∨ t = 12 ∨ t = 13 ∨ t = 14 ∨ t = 15 ∨ t = 16 ∨ t = 17 ∨ t = 18 ∨ t = 19 ∨ t = 20 ∨ t = 21 ∨ t = 22 ∨ t = 23 ∨ t = 24 ∨ t = 25 ∨ t = 26 ∨ t = 27 ∨ t = 28 ∨ t = 29 ∨ t = 30 ∨ t = 31 ∨ t = 32 ∨ t = 33 ∨ t = 34) with rfl | rfl | rfl | rfl | rfl | rfl | rfl | rfl | rfl | rfl | rfl | rfl | rfl | rfl | rfl | rfl | rfl | rfl | rfl | rfl | rfl | rfl | rfl | rfl
  · exact ⟨⟨by omega, by omega⟩, fun z => absurd z (by omega), fun _ => hN _ (List.mem_of_getElem? (i := 69) rfl)⟩
  · exact ⟨⟨by omega, by omega⟩, fun z => absurd z (by omega), fun _ => hN _ (List.mem_of_getElem? (i := 70) rfl)⟩
  · exact ⟨⟨by omega, by omega⟩, fun z => absurd z (by omega), fun _ => hN _ (List.mem_of_getElem? (i := 71) rfl)⟩
  · exact ⟨⟨by omega, by omega⟩, fun z => absurd z (by omega), fun _ => hN _ (List.mem_of_getElem? (i := 72) rfl)⟩
  · exact ⟨⟨by omega, by omega⟩, fun z => absurd z (by omega), fun _ => hN _ (List.mem_of_getElem? (i := 73) rfl)⟩
  · exact ⟨⟨by omega, by omega⟩, fun z => absurd z (by omega), fun _ => hN _ (List.mem_of_getElem? (i := 74) rfl)⟩
  · exact ⟨⟨by omega, by omega⟩, fun z => absurd z (by omega), fun _ => hN _ (List.mem_of_getElem? (i := 75) rfl)⟩
  · exact ⟨⟨by omega, by omega⟩, fun z => absurd z (by omega), fun _ => hN _ (List.mem_of_getElem? (i := 76) rfl)⟩
  · exact ⟨⟨by omega, by omega⟩, fun z => absurd z (by omega), fun _ => hN _ (List.mem_of_getElem? (i := 77) rfl)⟩
  · exact ⟨⟨by omega, by omega⟩, fun z => absurd z (by omega), fun _ => hN _ (List.mem_of_getElem? (i := 78) rfl)⟩
  · exact ⟨⟨by omega, by omega⟩, fun z => absurd z (by omega), fun _ => hN _ (List.mem_of_getElem? (i := 79) rfl)⟩
  · exact ⟨⟨by omega, by omega⟩, fun z => absurd z (by omega), fun _ => hN _ (List.mem_of_getElem? (i := 80) rfl)⟩
  · exact ⟨⟨by omega, by omega⟩, fun z => absurd z (by omega), fun _ => hN _ (List.mem_of_getElem? (i := 81) rfl)⟩
  · exact ⟨⟨by omega, by omega⟩, fun z => absurd z (by omega), fun _ => hN _ (List.mem_of_getElem? (i := 82) rfl)⟩
  · exact ⟨⟨by omega, by omega⟩, fun z => absurd z (by omega), fun _ => hN _ (List.mem_of_getElem? (i := 83) rfl)⟩
  · exact ⟨⟨by omega, by omega⟩, fun z => absurd z (by omega), fun _ => hN _ (List.mem_of_getElem? (i := 84) rfl)⟩
  · exact ⟨⟨by omega, by omega⟩, fun z => absurd z (by omega), fun _ => hN _ (List.mem_of_getElem? (i := 85) rfl)⟩
  · exact ⟨⟨by omega, by omega⟩, fun z => absurd z (by omega), fun _ => hN _ (List.mem_of_getElem? (i := 86) rfl)⟩
  · exact ⟨⟨by omega, by omega⟩, fun z => absurd z (by omega), fun _ => hN _ (List.mem_of_getElem? (i := 87) rfl)⟩
  · exact ⟨⟨by omega, by omega⟩, fun z => absurd z (by omega), fun _ => hN _ (List.mem_of_getElem? (i := 88) rfl)⟩
  · exact ⟨⟨by omega, by omega⟩, fun z => absurd z (by omega), fun _ => hN _ (List.mem_of_getElem? (i := 89) rfl)⟩
  · exact ⟨⟨by omega, by omega⟩, fun _ => Or.inl rfl, fun z => absurd (by omega) z⟩
  · exact ⟨⟨by omega, by omega⟩, fun z => absurd z (by omega), fun _ => hN _ (List.mem_of_getElem? (i := 90) rfl)⟩
  · exact ⟨⟨by omega, by omega⟩, fun z => absurd z (by omega), fun _ => hN _ (List.mem_of_getElem? (i := 91) rfl)⟩⟩
theorem ow16_8_1 {s0 : State} (hN : NCs s0) : YLk s0 "AlgolHouse$Is" 17 71486875 := ⟨"AlgolHouse$Nil", lw_g (lw_at lw_m14 5 rfl) rfl, fun t h1 h2 => by
  rcases (by omega : t = 11 ∨ t = 12 ∨ t = 13 ∨ t = 14 ∨ t = 15 ∨ t = 16 ∨ t = 17 ∨ t = 18 ∨ t = 19 ∨ t = 20 ∨ t = 21 ∨ t = 22 ∨ t = 23 ∨ t = 24 ∨ t = 25 ∨ t = 26 ∨ t = 27 ∨ t = 28 ∨ t = 29 ∨ t = 30 ∨ t = 31 ∨ t = 32 ∨ t = 33 ∨ t = 34) with rfl | rfl | rfl | rfl | rfl | rfl | rfl | rfl | rfl | rfl | rfl | rfl | rfl | rfl | rfl | rfl | rfl | rfl | rfl | rfl | rfl | rfl | rfl | rfl
  · exact ⟨⟨by omega, by omega⟩, fun z => absurd z (by omega), fun _ => hN _ (List.mem_of_getElem? (i := 92) rfl)⟩
  · exact ⟨⟨by omega, by omega⟩, fun z => absurd z (by omega), fun _ => hN _ (List.mem_of_getElem? (i := 93) rfl)⟩
  · exact ⟨⟨by omega, by omega⟩, fun z => absurd z (by omega), fun _ => hN _ (List.mem_of_getElem? (i := 94) rfl)⟩
  · exact ⟨⟨by omega, by omega⟩, fun z => absurd z (by omega), fun _ => hN _ (List.mem_of_getElem? (i := 95) rfl)⟩
  · exact ⟨⟨by omega, by omega⟩, fun z => absurd z (by omega), fun _ => hN _ (List.mem_of_getElem? (i := 96) rfl)⟩
  · exact ⟨⟨by omega, by omega⟩, fun z => absurd z (by omega), fun _ => hN _ (List.mem_of_getElem? (i := 97) rfl)⟩
  · exact ⟨⟨by omega, by omega⟩, fun z => absurd z (by omega), fun _ => hN _ (List.mem_of_getElem? (i := 98) rfl)⟩
  · exact ⟨⟨by omega, by omega⟩, fun z => absurd z (by omega), fun _ => hN _ (List.mem_of_getElem? (i := 99) rfl)⟩
  · exact ⟨⟨by omega, by omega⟩, fun z => absurd z (by omega), fun _ => hN _ (List.mem_of_getElem? (i := 100) rfl)⟩
  · exact ⟨⟨by omega, by omega⟩, fun z => absurd z (by omega), fun _ => hN _ (List.mem_of_getElem? (i := 101) rfl)⟩
  · exact ⟨⟨by omega, by omega⟩, fun z => absurd z (by omega), fun _ => hN _ (List.mem_of_getElem? (i := 102) rfl)⟩
  · exact ⟨⟨by omega, by omega⟩, fun z => absurd z (by omega), fun _ => hN _ (List.mem_of_getElem? (i := 103) rfl)⟩
  · exact ⟨⟨by omega, by omega⟩, fun z => absurd z (by omega), fun _ => hN _ (List.mem_of_getElem? (i := 104) rfl)⟩
  · exact ⟨⟨by omega, by omega⟩, fun z => absurd z (by omega), fun _ => hN _ (List.mem_of_getElem? (i := 105) rfl)⟩
  · exact ⟨⟨by omega, by omega⟩, fun z => absurd z (by omega), fun _ => hN _ (List.mem_of_getElem? (i := 106) rfl)⟩
  · exact ⟨⟨by omega, by omega⟩, fun z => absurd z (by omega), fun _ => hN _ (List.mem_of_getElem? (i := 107) rfl)⟩
  · exact ⟨⟨by omega, by omega⟩, fun _ => Or.inl rfl, fun z => absurd (by omega) z⟩
  · exact ⟨⟨by omega, by omega⟩, fun z => absurd z (by omega), fun _ => hN _ (List.mem_of_getElem? (i := 108) rfl)⟩
  · exact ⟨⟨by omega, by omega⟩, fun z => absurd z (by omega), fun _ => hN _ (List.mem_of_getElem? (i := 109) rfl)⟩
  · exact ⟨⟨by omega, by omega⟩, fun z => absurd z (by omega), fun _ => hN _ (List.mem_of_getElem? (i := 110) rfl)⟩
  · exact ⟨⟨by omega, by omega⟩, fun z => absurd z (by omega), fun _ => hN _ (List.mem_of_getElem? (i := 111) rfl)⟩
  · exact ⟨⟨by omega, by omega⟩, fun z => absurd z (by omega), fun _ => hN _ (List.mem_of_getElem? (i := 112) rfl)⟩
  · exact ⟨⟨by omega, by omega⟩, fun z => absurd z (by omega), fun _ => hN _ (List.mem_of_getElem? (i := 113) rfl)⟩
  · exact ⟨⟨by omega, by omega⟩, fun z => absurd z (by omega), fun _ => hN _ (List.mem_of_getElem? (i := 114) rfl)⟩⟩
theorem ow16_8 {s0 : State} (hN : NCs s0) : ∀ q ∈ ([(15, 71487520), (17, 71486875)] : List (Nat × Nat)), YLk s0 "AlgolHouse$Is" q.1 q.2 := List.forall_mem_cons.mpr ⟨ow16_8_0 hN, List.forall_mem_cons.mpr ⟨ow16_8_1 hN, fun q h => by cases h⟩⟩
theorem ow16_9 : ∀ q ∈ ([(23, 155451393)] : List (Nat × Nat)), q.2 = ACN ∧ ACk "AlgolHouse$Is" q.1 ∨ q.2 ≠ ACN ∧ SMk "AlgolHouse$Is" q.1 q.2 := List.forall_mem_cons.mpr ⟨Or.inr ⟨by decide, mok_X36_isAny, np_X36_isAny, ⟨sm_X36_isAny, lw_g (lw_at lw_m1 63 rfl) rfl⟩, Or.inl (lw_g (lw_at lw_m14 1 rfl) rfl)⟩, fun q h => by cases h⟩
theorem ow16_10 : ∀ q ∈ ([(3, 118034610)] : List (Nat × Nat)), IMk "AlgolHouse$Is" q.1 q.2 ∧ ∀ t, inT (q.2 / 16 % 128) (q.2 / 2048 % 128) t → inT 1 55 t := List.forall_mem_cons.mpr ⟨⟨⟨mok_X12_init, np_X12_init, by decide, rfl, im_X12_init, ⟨_, _, rfl⟩, Or.inl (lw_g (lw_at lw_m10 72 rfl) rfl)⟩, fun t ht => ⟨Nat.le_trans (by decide) ht.1, Nat.le_trans ht.2 (by decide)⟩⟩, fun q h => by cases h⟩
theorem ow16_11_0 : VMk "AlgolHouse$Is" 27 15999042 := ⟨mok_X3_soft, by decide, fun t ht => by
  obtain rfl : t = 4 := Nat.le_antisymm (Nat.le_trans ht.2 (by decide)) (Nat.le_trans (by decide) ht.1)
  exact ⟨⟨by decide, by decide⟩, im_X3_soft, Or.inl ⟨np_X3_soft, lw_g (lw_at lw_m12 15 rfl) rfl, Or.inl (lw_g (lw_at lw_m14 6 rfl) rfl)⟩⟩⟩
theorem ow16_11_1 : VMk "AlgolHouse$Is" 33 17047619 := ⟨mok_X3_strong, by decide, fun t ht => by
  obtain rfl : t = 4 := Nat.le_antisymm (Nat.le_trans ht.2 (by decide)) (Nat.le_trans (by decide) ht.1)
  exact ⟨⟨by decide, by decide⟩, im_X3_strong, Or.inl ⟨np_X3_strong, lw_g (lw_at lw_m12 134 rfl) rfl, Or.inl (lw_g (lw_at lw_m14 7 rfl) rfl)⟩⟩⟩
theorem ow16_11_2 : VMk "AlgolHouse$Is" 44 27275364 := ⟨mok_X7_all, by decide, fun t ht => by
  obtain rfl : t = 6 := Nat.le_antisymm (Nat.le_trans ht.2 (by decide)) (Nat.le_trans (by decide) ht.1)
  exact ⟨⟨by decide, by decide⟩, im_X7_all, Or.inl ⟨np_X7_all, lw_g (lw_at lw_m15 233 rfl) rfl, Or.inl (lw_g (lw_at lw_m17 88 rfl) rfl)⟩⟩⟩
theorem ow16_11_3 : VMk "AlgolHouse$Is" 65 27013220 := ⟨mok_X7_need, by decide, fun t ht => by
  obtain rfl : t = 6 := Nat.le_antisymm (Nat.le_trans ht.2 (by decide)) (Nat.le_trans (by decide) ht.1)
  exact ⟨⟨by decide, by decide⟩, im_X7_need, Or.inl ⟨np_X7_need, lw_g (lw_at lw_m15 132 rfl) rfl, Or.inl (lw_g (lw_at lw_m17 89 rfl) rfl)⟩⟩⟩
theorem ow16_11_4 : VMk "AlgolHouse$Is" 72 32256098 := ⟨mok_X7_number, by decide, fun t ht => by
  obtain rfl : t = 6 := Nat.le_antisymm (Nat.le_trans ht.2 (by decide)) (Nat.le_trans (by decide) ht.1)
  exact ⟨⟨by decide, by decide⟩, im_X7_number, Or.inl ⟨np_X7_number, lw_g (lw_at lw_m17 8 rfl) rfl, Or.inl (lw_g (lw_at lw_m17 90 rfl) rfl)⟩⟩⟩
theorem ow16_11_5 : VMk "AlgolHouse$Is" 76 29634659 := ⟨mok_X7_done, by decide, fun t ht => by
  obtain rfl : t = 6 := Nat.le_antisymm (Nat.le_trans ht.2 (by decide)) (Nat.le_trans (by decide) ht.1)
  exact ⟨⟨by decide, by decide⟩, im_X7_done, Or.inl ⟨np_X7_done, lw_g (lw_at lw_m16 80 rfl) rfl, Or.inl (lw_g (lw_at lw_m17 91 rfl) rfl)⟩⟩⟩
theorem ow16_11 : ∀ q ∈ ([(27, 15999042), (33, 17047619), (44, 27275364), (65, 27013220), (72, 32256098), (76, 29634659)] : List (Nat × Nat)), VMk "AlgolHouse$Is" q.1 q.2 := List.forall_mem_cons.mpr ⟨ow16_11_0, List.forall_mem_cons.mpr ⟨ow16_11_1, List.forall_mem_cons.mpr ⟨ow16_11_2, List.forall_mem_cons.mpr ⟨ow16_11_3, List.forall_mem_cons.mpr ⟨ow16_11_4, List.forall_mem_cons.mpr ⟨ow16_11_5, fun q h => by cases h⟩⟩⟩⟩⟩⟩
theorem ow16_12_0 : PMk "AlgolHouse$Is" 19 44 2 := ⟨by decide, fun t m h => by
  rcases dsp_44 h with ⟨rfl, rfl⟩
  · exact ⟨mok_X12_part, ⟨by decide, by decide⟩, im_X12_part, Or.inr ⟨⟨"AlgolHouse$Is", "part", "(I)LAlgolHouse$Node;"⟩, "AlgolHouse$Node", by decide +kernel, lw_g (lw_at lw_m13 238 rfl) rfl, lw_g (lw_at lw_m13 239 rfl) rfl, Or.inl (lw_at lw_m10 110 rfl), ⟨by decide +kernel, by decide +kernel⟩, lw_g (lw_at lw_m14 0 rfl) rfl⟩⟩⟩
theorem ow16_12 : ∀ q ∈ ([(19, 44)] : List (Nat × Nat)), ∀ n, pN q.2 n → PMk "AlgolHouse$Is" q.1 q.2 n := List.forall_mem_cons.mpr ⟨(fun n hn => by cases hn; exact ow16_12_0), fun q h => by cases h⟩
theorem ow16_13 : ∀ q ∈ ([] : List (Nat × Nat)), Cond.methodLink "AlgolHouse$Is" q.1 Lib.objectInit ∈ lw_all := fun q h => by cases h
theorem ow16_14 : ∀ q ∈ ([] : List (Nat × Nat)), JMk "AlgolHouse$Is" q.1 q.2 := fun q h => by cases h
theorem ow16_15 : ∀ q ∈ ([] : List (Nat × Nat)), exT q.2 ∧ NLk "AlgolHouse$Is" q.1 q.2 := fun q h => by cases h
theorem ow16_16 : ∀ q ∈ ([] : List (Nat × Nat)), exT q.2 ∧ Cond.methodLink "AlgolHouse$Is" q.1 ⟨cN q.2, "<init>", "()V"⟩ ∈ lw_all := fun q h => by cases h
def Om16 : Om := [[(9, 1041838695), (37, 285476882), (50, 134415886), (56, 1563055275), (61, 740443180), (69, 1579832490)], [(41, 757220398)], [(9, 1041838695)], [], [], [], [], [], [(15, 71487520), (17, 71486875)], [(23, 155451393)], [(3, 118034610)], [(27, 15999042), (33, 17047619), (44, 27275364), (65, 27013220), (72, 32256098), (76, 29634659)], [(19, 44)], [], [], [], []]
def Ok16 : List (Nat × Int) := []
def Ol16 : List (Nat × Int) := []
theorem ow16 {s0 : State} (hN : NCs s0) : OwnOK s0 "AlgolHouse$Is" Om16 Ok16 Ol16 := ⟨ow16_k, ow16_l, ow16_0, ow16_1, ow16_2, ow16_3, ow16_4, ow16_5, ow16_6, ow16_7, ow16_8 hN, ow16_9, ow16_10, ow16_11, ow16_12, ow16_13, ow16_14, ow16_15, ow16_16⟩
theorem ow17_k : ∀ q ∈ ([] : List (Nat × Int)), Cond.constant "AlgolHouse$Judge" q.1 (Int32.ofInt q.2) ∈ lw_all := fun q h => by cases h
theorem ow17_l : ∀ q ∈ ([] : List (Nat × Int)), Cond.constantLong "AlgolHouse$Judge" q.1 (Int64.ofInt q.2) ∈ lw_all := fun q h => by cases h
theorem ow17_0 : ∀ q ∈ ([(12, 235145234), (21, 243533842), (40, 293865490), (48, 251922450), (52, 260311058), (83, 748831790), (109, 1529434790), (128, 1546212006), (137, 1167998074), (143, 1159609466), (155, 757220398), (160, 740443180), (188, 1394952854), (191, 638128676), (194, 671683110)] : List (Nat × Nat)), q.2 ∈ iFs ∧ FLk "AlgolHouse$Judge" q.1 q.2 := List.forall_mem_cons.mpr ⟨⟨List.mem_of_getElem? (i := 28) rfl, ⟨"AlgolHouse$Judge", Or.inl (lw_g (lw_at lw_m3 127 rfl) rfl), Or.inl rfl⟩⟩, List.forall_mem_cons.mpr ⟨⟨List.mem_of_getElem? (i := 29) rfl, ⟨"AlgolHouse$Judge", Or.inl (lw_g (lw_at lw_m3 130 rfl) rfl), Or.inl rfl⟩⟩, List.forall_mem_cons.mpr ⟨⟨List.mem_of_getElem? (i := 35) rfl, ⟨"AlgolHouse$Judge", Or.inl (lw_g (lw_at lw_m3 151 rfl) rfl), Or.inl rfl⟩⟩, List.forall_mem_cons.mpr ⟨⟨List.mem_of_getElem? (i := 30) rfl, ⟨"AlgolHouse$Judge", Or.inl (lw_g (lw_at lw_m3 134 rfl) rfl), Or.inl rfl⟩⟩, List.forall_mem_cons.mpr ⟨⟨List.mem_of_getElem? (i := 31) rfl, ⟨"AlgolHouse$Judge", Or.inl (lw_g (lw_at lw_m3 137 rfl) rfl), Or.inl rfl⟩⟩, List.forall_mem_cons.mpr ⟨⟨List.mem_of_getElem? (i := 89) rfl, ⟨"AlgolHouse$Node", Or.inl (lw_g (lw_at lw_m5 148 rfl) rfl), Or.inl rfl⟩⟩, List.forall_mem_cons.mpr ⟨⟨List.mem_of_getElem? (i := 182) rfl, ⟨"AlgolHouse$Scope", Or.inr ⟨_, lw_at lw_m11 105 rfl⟩, Or.inl rfl⟩⟩, List.forall_mem_cons.mpr ⟨⟨List.mem_of_getElem? (i := 184) rfl, ⟨"AlgolHouse$Scope", Or.inr ⟨_, lw_at lw_m11 109 rfl⟩, Or.inl rfl⟩⟩, List.forall_mem_cons.mpr ⟨⟨List.mem_of_getElem? (i := 139) rfl, ⟨"AlgolHouse$Routine", Or.inr ⟨_, lw_at lw_m7 44 rfl⟩, Or.inl rfl⟩⟩, List.forall_mem_cons.mpr ⟨⟨List.mem_of_getElem? (i := 138) rfl, ⟨"AlgolHouse$Routine", Or.inr ⟨_, lw_at lw_m7 42 rfl⟩, Or.inl rfl⟩⟩, List.forall_mem_cons.mpr ⟨⟨List.mem_of_getElem? (i := 90) rfl, ⟨"AlgolHouse$Node", Or.inl (lw_g (lw_at lw_m5 192 rfl) rfl), Or.inl rfl⟩⟩, List.forall_mem_cons.mpr ⟨⟨List.mem_of_getElem? (i := 88) rfl, ⟨"AlgolHouse$Node", Or.inl (lw_g (lw_at lw_m5 132 rfl) rfl), Or.inl rfl⟩⟩, List.forall_mem_cons.mpr ⟨⟨List.mem_of_getElem? (i := 166) rfl, ⟨"AlgolHouse$Path", Or.inr ⟨_, lw_at lw_m1 237 rfl⟩, Or.inl rfl⟩⟩, List.forall_mem_cons.mpr ⟨⟨List.mem_of_getElem? (i := 76) rfl, ⟨"AlgolHouse$Mode", Or.inr ⟨_, lw_at lw_m3 77 rfl⟩, Or.inl rfl⟩⟩, List.forall_mem_cons.mpr ⟨⟨List.mem_of_getElem? (i := 80) rfl, ⟨"AlgolHouse$Mode", Or.inr ⟨_, lw_at lw_m3 102 rfl⟩, Or.inl rfl⟩⟩, fun q h => by cases h⟩⟩⟩⟩⟩⟩⟩⟩⟩⟩⟩⟩⟩⟩⟩
theorem ow17_1 : ∀ q ∈ ([(48, 251922450), (52, 260311058), (125, 629674014)] : List (Nat × Nat)), q.2 ∈ iFs ∧ PLk "AlgolHouse$Judge" q.1 q.2 := List.forall_mem_cons.mpr ⟨⟨List.mem_of_getElem? (i := 30) rfl, ⟨"AlgolHouse$Judge", Or.inl (lw_g (lw_at lw_m3 134 rfl) rfl), Or.inl rfl⟩, rfl⟩, List.forall_mem_cons.mpr ⟨⟨List.mem_of_getElem? (i := 31) rfl, ⟨"AlgolHouse$Judge", Or.inl (lw_g (lw_at lw_m3 137 rfl) rfl), Or.inl rfl⟩, rfl⟩, List.forall_mem_cons.mpr ⟨⟨List.mem_of_getElem? (i := 75) rfl, ⟨"AlgolHouse$Meaning", Or.inl (lw_g (lw_at lw_m11 172 rfl) rfl), Or.inl rfl⟩, rfl⟩, fun q h => by cases h⟩⟩⟩
theorem ow17_2 : ∀ q ∈ ([(12, 235145234), (21, 243533842), (30, 268699666), (34, 277088274), (37, 285476882), (40, 293865490)] : List (Nat × Nat)), q.2 ∈ iFs ∧ PFk "AlgolHouse$Judge" q.1 q.2 := List.forall_mem_cons.mpr ⟨⟨List.mem_of_getElem? (i := 28) rfl, rfl, rfl, "AlgolHouse$Judge", lw_g (lw_at lw_m3 127 rfl) rfl, Or.inl rfl⟩, List.forall_mem_cons.mpr ⟨⟨List.mem_of_getElem? (i := 29) rfl, rfl, rfl, "AlgolHouse$Judge", lw_g (lw_at lw_m3 130 rfl) rfl, Or.inl rfl⟩, List.forall_mem_cons.mpr ⟨⟨List.mem_of_getElem? (i := 32) rfl, rfl, rfl, "AlgolHouse$Judge", lw_g (lw_at lw_m3 139 rfl) rfl, Or.inl rfl⟩, List.forall_mem_cons.mpr ⟨⟨List.mem_of_getElem? (i := 33) rfl, rfl, rfl, "AlgolHouse$Judge", lw_g (lw_at lw_m3 144 rfl) rfl, Or.inl rfl⟩, List.forall_mem_cons.mpr ⟨⟨List.mem_of_getElem? (i := 34) rfl, rfl, rfl, "AlgolHouse$Judge", lw_g (lw_at lw_m3 147 rfl) rfl, Or.inl rfl⟩, List.forall_mem_cons.mpr ⟨⟨List.mem_of_getElem? (i := 35) rfl, rfl, rfl, "AlgolHouse$Judge", lw_g (lw_at lw_m3 151 rfl) rfl, Or.inl rfl⟩, fun q h => by cases h⟩⟩⟩⟩⟩⟩
theorem ow17_3 : ∀ q ∈ ([] : List (Nat × Nat)), q.2 ∈ sFs ∧ FLk "AlgolHouse$Judge" q.1 q.2 := fun q h => by cases h
theorem ow17_4 : ∀ q ∈ ([] : List (Nat × Nat)), TLk "AlgolHouse$Judge" q.1 q.2 ∧ q.2 % 4 = 2 := fun q h => by cases h
theorem ow17_5 : ∀ q ∈ ([(9, 10), (18, 37), (25, 9), (43, 44), (56, 48), (104, 41), (120, 7)] : List (Nat × Nat)), mdT q.2 = true ∧ NLk "AlgolHouse$Judge" q.1 q.2 := List.forall_mem_cons.mpr ⟨⟨rfl, lw_g (lw_at lw_m1 180 rfl) rfl, lw_g (lw_at lw_m1 181 rfl) rfl, lw_g (lw_at lw_m1 8 rfl) rfl⟩, List.forall_mem_cons.mpr ⟨⟨rfl, lw_g (lw_at lw_m1 225 rfl) rfl, lw_g (lw_at lw_m1 226 rfl) rfl, lw_g (lw_at lw_m1 12 rfl) rfl⟩, List.forall_mem_cons.mpr ⟨⟨rfl, lw_g (lw_at lw_m2 5 rfl) rfl, lw_g (lw_at lw_m2 6 rfl) rfl, lw_g (lw_at lw_m1 13 rfl) rfl⟩, List.forall_mem_cons.mpr ⟨⟨rfl, lw_g (lw_at lw_m11 141 rfl) rfl, lw_g (lw_at lw_m3 187 rfl) rfl, lw_g (lw_at lw_m1 27 rfl) rfl⟩, List.forall_mem_cons.mpr ⟨⟨rfl, lw_g (lw_at lw_m11 56 rfl) rfl, lw_g (lw_at lw_m1 187 rfl) rfl, lw_g (lw_at lw_m1 11 rfl) rfl⟩, List.forall_mem_cons.mpr ⟨⟨rfl, lw_g (lw_at lw_m11 94 rfl) rfl, lw_g (lw_at lw_m11 95 rfl) rfl, lw_g (lw_at lw_m1 67 rfl) rfl⟩, List.forall_mem_cons.mpr ⟨⟨rfl, lw_g (lw_at lw_m11 143 rfl) rfl, lw_g (lw_at lw_m11 144 rfl) rfl, lw_g (lw_at lw_m1 68 rfl) rfl⟩, fun q h => by cases h⟩⟩⟩⟩⟩⟩⟩
theorem ow17_6 : ∀ q ∈ ([] : List (Nat × Nat)), mdA q.2 = true ∧ ak q.2 = 2 ∧ ALk "AlgolHouse$Judge" q.1 q.2 := fun q h => by cases h
theorem ow17_7_0 : XLk "AlgolHouse$Judge" 64 4363 := (Or.inl ⟨"AlgolHouse$Node", lw_g (lw_at lw_m12 2 rfl) rfl, fun t h1 h2 => by
  rcases (by omega : t = 11 ∨ t = 12 ∨ t = 13 ∨ t = 14 ∨ t = 15 ∨ t = 16 ∨ t = 17 ∨ t = 18 ∨ t = 19 ∨ t = 20 ∨ t = 21 ∨ t = 22 ∨ t = 23 ∨ t = 24 ∨ t = 25 ∨ t = 26 ∨ t = 27 ∨ t = 28 ∨ t = 29 ∨ t = 30 ∨ t = 31 ∨ t = 32 ∨ t = 33 ∨ t = 34) with rfl | rfl | rfl | rfl | rfl | rfl | rfl | rfl | rfl | rfl | rfl | rfl | rfl | rfl | rfl | rfl | rfl | rfl | rfl | rfl | rfl | rfl | rfl | rfl
  · exact ⟨⟨by omega, by omega⟩, Or.inr (lw_at lw_m25 144 rfl)⟩
  · exact ⟨⟨by omega, by omega⟩, Or.inr (lw_at lw_m25 145 rfl)⟩
  · exact ⟨⟨by omega, by omega⟩, Or.inr (lw_at lw_m25 147 rfl)⟩
  · exact ⟨⟨by omega, by omega⟩, Or.inr (lw_at lw_m25 152 rfl)⟩
  · exact ⟨⟨by omega, by omega⟩, Or.inr (lw_at lw_m25 157 rfl)⟩
  · exact ⟨⟨by omega, by omega⟩, Or.inr (lw_at lw_m25 166 rfl)⟩
  · exact ⟨⟨by omega, by omega⟩, Or.inr (lw_at lw_m25 148 rfl)⟩
  · exact ⟨⟨by omega, by omega⟩, Or.inr (lw_at lw_m25 149 rfl)⟩
  · exact ⟨⟨by omega, by omega⟩, Or.inr (lw_at lw_m25 146 rfl)⟩
  · exact ⟨⟨by omega, by omega⟩, Or.inr (lw_at lw_m25 153 rfl)⟩
  · exact ⟨⟨by omega, by omega⟩, Or.inr (lw_at lw_m25 162 rfl)⟩
  · exact ⟨⟨by omega, by omega⟩, Or.inr (lw_at lw_m25 167 rfl)⟩
  · exact ⟨⟨by omega, by omega⟩, Or.inr (lw_at lw_m25 150 rfl)⟩
  · exact ⟨⟨by omega, by omega⟩, Or.inr (lw_at lw_m25 151 rfl)⟩
  · exact ⟨⟨by omega, by omega⟩, Or.inr (lw_at lw_m25 154 rfl)⟩
  · exact ⟨⟨by omega, by omega⟩, Or.inr (lw_at lw_m25 155 rfl)⟩
  · exact ⟨⟨by omega, by omega⟩, Or.inr (lw_at lw_m25 156 rfl)⟩
  · exact ⟨⟨by omega, by omega⟩, Or.inr (lw_at lw_m25 158 rfl)⟩
  · exact ⟨⟨by omega, by omega⟩, Or.inr (lw_at lw_m25 159 rfl)⟩
  · exact ⟨⟨by omega, by omega⟩, Or.inr (lw_at lw_m25 160 rfl)⟩
  · exact ⟨⟨by omega, by omega⟩, Or.inr (lw_at lw_m25 161 rfl)⟩
  · exact ⟨⟨by omega, by omega⟩, Or.inr (lw_at lw_m25 163 rfl)⟩
  · exact ⟨⟨by omega, by omega⟩, Or.inr (lw_at lw_m25 164 rfl)⟩
  · exact ⟨⟨by omega, by omega⟩, Or.inr (lw_at lw_m25 165 rfl)⟩⟩)
theorem ow17_7_1 : XLk "AlgolHouse$Judge" 77 8385 := Or.inr ⟨rfl, lw_g (lw_at lw_m12 3 rfl) rfl⟩
theorem ow17_7 : ∀ q ∈ ([(64, 4363), (77, 8385)] : List (Nat × Nat)), XLk "AlgolHouse$Judge" q.1 q.2 := List.forall_mem_cons.mpr ⟨ow17_7_0, List.forall_mem_cons.mpr ⟨ow17_7_1, fun q h => by cases h⟩⟩
theorem ow17_8 {s0 : State} (hN : NCs s0) : ∀ q ∈ ([] : List (Nat × Nat)), YLk s0 "AlgolHouse$Judge" q.1 q.2 := fun q h => by cases h
theorem ow17_9 : ∀ q ∈ ([] : List (Nat × Nat)), q.2 = ACN ∧ ACk "AlgolHouse$Judge" q.1 ∨ q.2 ≠ ACN ∧ SMk "AlgolHouse$Judge" q.1 q.2 := fun q h => by cases h
theorem ow17_10 : ∀ q ∈ ([(11, 18632865), (20, 22882897), (27, 24397970), (45, 36004547), (58, 164725505), (106, 160254611), (122, 160972916)] : List (Nat × Nat)), IMk "AlgolHouse$Judge" q.1 q.2 ∧ ∀ t, inT (q.2 / 16 % 128) (q.2 / 2048 % 128) t → inT 1 55 t := List.forall_mem_cons.mpr ⟨⟨⟨mok_X4_init, np_X4_init, by decide, rfl, im_X4_init, ⟨_, _, rfl⟩, Or.inr ⟨_, lw_at lw_m1 182 rfl⟩⟩, fun t ht => ⟨Nat.le_trans (by decide) ht.1, Nat.le_trans ht.2 (by decide)⟩⟩, List.forall_mem_cons.mpr ⟨⟨⟨mok_X5_init, np_X5_init, by decide, rfl, im_X5_init, ⟨_, _, rfl⟩, Or.inr ⟨_, lw_at lw_m1 227 rfl⟩⟩, fun t ht => ⟨Nat.le_trans (by decide) ht.1, Nat.le_trans ht.2 (by decide)⟩⟩, List.forall_mem_cons.mpr ⟨⟨⟨mok_X6_init, np_X6_init, by decide, rfl, im_X6_init, ⟨_, _, rfl⟩, Or.inl (lw_g (lw_at lw_m2 7 rfl) rfl)⟩, fun t ht => ⟨Nat.le_trans (by decide) ht.1, Nat.le_trans ht.2 (by decide)⟩⟩, List.forall_mem_cons.mpr ⟨⟨⟨mok_X8_init, np_X8_init, by decide, rfl, im_X8_init, ⟨_, _, rfl⟩, Or.inl (lw_g (lw_at lw_m11 142 rfl) rfl)⟩, fun t ht => ⟨Nat.le_trans (by decide) ht.1, Nat.le_trans ht.2 (by decide)⟩⟩, List.forall_mem_cons.mpr ⟨⟨⟨mok_J6_init, np_J6_init, by decide, rfl, im_J6_init, ⟨_, _, rfl⟩, Or.inl (lw_g (lw_at lw_m11 57 rfl) rfl)⟩, fun t ht => ⟨Nat.le_trans (by decide) ht.1, Nat.le_trans ht.2 (by decide)⟩⟩, List.forall_mem_cons.mpr ⟨⟨⟨mok_X40_init, np_X40_init, by decide, rfl, im_X40_init, ⟨_, _, rfl⟩, Or.inl (lw_g (lw_at lw_m11 96 rfl) rfl)⟩, fun t ht => ⟨Nat.le_trans (by decide) ht.1, Nat.le_trans ht.2 (by decide)⟩⟩, List.forall_mem_cons.mpr ⟨⟨⟨mok_X41_init, np_X41_init, by decide, rfl, im_X41_init, ⟨_, _, rfl⟩, Or.inl (lw_g (lw_at lw_m11 145 rfl) rfl)⟩, fun t ht => ⟨Nat.le_trans (by decide) ht.1, Nat.le_trans ht.2 (by decide)⟩⟩, fun q h => by cases h⟩⟩⟩⟩⟩⟩⟩
theorem ow17_11_0 : VMk "AlgolHouse$Judge" 59 165774082 := ⟨mok_J6_add, by decide, fun t ht => by
  obtain rfl : t = 48 := Nat.le_antisymm (Nat.le_trans ht.2 (by decide)) (Nat.le_trans (by decide) ht.1)
  exact ⟨⟨by decide, by decide⟩, im_J6_add, Or.inl ⟨np_J6_add, lw_g (lw_at lw_m6 44 rfl) rfl, Or.inl (lw_g (lw_at lw_m11 58 rfl) rfl)⟩⟩⟩
theorem ow17_11_1 : VMk "AlgolHouse$Judge" 69 165249793 := ⟨mok_J6_size, by decide, fun t ht => by
  obtain rfl : t = 48 := Nat.le_antisymm (Nat.le_trans ht.2 (by decide)) (Nat.le_trans (by decide) ht.1)
  exact ⟨⟨by decide, by decide⟩, im_J6_size, Or.inl ⟨np_J6_size, lw_g (lw_at lw_m4 167 rfl) rfl, Or.inl (lw_g (lw_at lw_m12 0 rfl) rfl)⟩⟩⟩
theorem ow17_11_2 : VMk "AlgolHouse$Judge" 73 166822658 := ⟨mok_J6_get, by decide, fun t ht => by
  obtain rfl : t = 48 := Nat.le_antisymm (Nat.le_trans ht.2 (by decide)) (Nat.le_trans (by decide) ht.1)
  exact ⟨⟨by decide, by decide⟩, im_J6_get, Or.inl ⟨np_J6_get, lw_g (lw_at lw_m7 79 rfl) rfl, Or.inl (lw_g (lw_at lw_m12 1 rfl) rfl)⟩⟩⟩
theorem ow17_11_3 : VMk "AlgolHouse$Judge" 90 168133378 := ⟨mok_J6_remove, by decide, fun t ht => by
  obtain rfl : t = 48 := Nat.le_antisymm (Nat.le_trans ht.2 (by decide)) (Nat.le_trans (by decide) ht.1)
  exact ⟨⟨by decide, by decide⟩, im_J6_remove, Or.inl ⟨np_J6_remove, lw_g (lw_at lw_m8 144 rfl) rfl, Or.inl (lw_g (lw_at lw_m14 56 rfl) rfl)⟩⟩⟩
theorem ow17_11_4 : VMk "AlgolHouse$Judge" 96 118558898 := ⟨mok_X12_part, by decide, fun t ht => by
  rcases tg_11_34 (Nat.le_trans (by decide) ht.1) (Nat.le_trans ht.2 (by decide)) with rfl | rfl | rfl | rfl | rfl | rfl | rfl | rfl | rfl | rfl | rfl | rfl | rfl | rfl | rfl | rfl | rfl | rfl | rfl | rfl | rfl | rfl | rfl | rfl
  · exact ⟨⟨by decide, by decide⟩, im_X12_part, Or.inl ⟨np_X12_part, lw_g (lw_at lw_m25 119 rfl) rfl, Or.inl (lw_g (lw_at lw_m14 98 rfl) rfl)⟩⟩
  · exact ⟨⟨by decide, by decide⟩, im_X12_part, Or.inl ⟨np_X12_part, lw_g (lw_at lw_m25 120 rfl) rfl, Or.inl (lw_g (lw_at lw_m14 98 rfl) rfl)⟩⟩
  · exact ⟨⟨by decide, by decide⟩, im_X12_part, Or.inl ⟨np_X12_part, lw_g (lw_at lw_m25 122 rfl) rfl, Or.inl (lw_g (lw_at lw_m14 98 rfl) rfl)⟩⟩
  · exact ⟨⟨by decide, by decide⟩, im_X12_part, Or.inl ⟨np_X12_part, lw_g (lw_at lw_m25 127 rfl) rfl, Or.inl (lw_g (lw_at lw_m14 98 rfl) rfl)⟩⟩
  · exact ⟨⟨by decide, by decide⟩, im_X12_part, Or.inl ⟨np_X12_part, lw_g (lw_at lw_m25 132 rfl) rfl, Or.inl (lw_g (lw_at lw_m14 98 rfl) rfl)⟩⟩
  · exact ⟨⟨by decide, by decide⟩, im_X12_part, Or.inl ⟨np_X12_part, lw_g (lw_at lw_m25 141 rfl) rfl, Or.inl (lw_g (lw_at lw_m14 98 rfl) rfl)⟩⟩
  · exact ⟨⟨by decide, by decide⟩, im_X12_part, Or.inl ⟨np_X12_part, lw_g (lw_at lw_m25 123 rfl) rfl, Or.inl (lw_g (lw_at lw_m14 98 rfl) rfl)⟩⟩
  · exact ⟨⟨by decide, by decide⟩, im_X12_part, Or.inl ⟨np_X12_part, lw_g (lw_at lw_m25 124 rfl) rfl, Or.inl (lw_g (lw_at lw_m14 98 rfl) rfl)⟩⟩
  · exact ⟨⟨by decide, by decide⟩, im_X12_part, Or.inl ⟨np_X12_part, lw_g (lw_at lw_m25 121 rfl) rfl, Or.inl (lw_g (lw_at lw_m14 98 rfl) rfl)⟩⟩
  · exact ⟨⟨by decide, by decide⟩, im_X12_part, Or.inl ⟨np_X12_part, lw_g (lw_at lw_m25 128 rfl) rfl, Or.inl (lw_g (lw_at lw_m14 98 rfl) rfl)⟩⟩
  · exact ⟨⟨by decide, by decide⟩, im_X12_part, Or.inl ⟨np_X12_part, lw_g (lw_at lw_m25 137 rfl) rfl, Or.inl (lw_g (lw_at lw_m14 98 rfl) rfl)⟩⟩
  · exact ⟨⟨by decide, by decide⟩, im_X12_part, Or.inl ⟨np_X12_part, lw_g (lw_at lw_m25 142 rfl) rfl, Or.inl (lw_g (lw_at lw_m14 98 rfl) rfl)⟩⟩
  · exact ⟨⟨by decide, by decide⟩, im_X12_part, Or.inl ⟨np_X12_part, lw_g (lw_at lw_m25 125 rfl) rfl, Or.inl (lw_g (lw_at lw_m14 98 rfl) rfl)⟩⟩
  · exact ⟨⟨by decide, by decide⟩, im_X12_part, Or.inl ⟨np_X12_part, lw_g (lw_at lw_m25 126 rfl) rfl, Or.inl (lw_g (lw_at lw_m14 98 rfl) rfl)⟩⟩
  · exact ⟨⟨by decide, by decide⟩, im_X12_part, Or.inl ⟨np_X12_part, lw_g (lw_at lw_m25 129 rfl) rfl, Or.inl (lw_g (lw_at lw_m14 98 rfl) rfl)⟩⟩
  · exact ⟨⟨by decide, by decide⟩, im_X12_part, Or.inl ⟨np_X12_part, lw_g (lw_at lw_m25 130 rfl) rfl, Or.inl (lw_g (lw_at lw_m14 98 rfl) rfl)⟩⟩
  · exact ⟨⟨by decide, by decide⟩, im_X12_part, Or.inl ⟨np_X12_part, lw_g (lw_at lw_m25 131 rfl) rfl, Or.inl (lw_g (lw_at lw_m14 98 rfl) rfl)⟩⟩
  · exact ⟨⟨by decide, by decide⟩, im_X12_part, Or.inl ⟨np_X12_part, lw_g (lw_at lw_m25 133 rfl) rfl, Or.inl (lw_g (lw_at lw_m14 98 rfl) rfl)⟩⟩
  · exact ⟨⟨by decide, by decide⟩, im_X12_part, Or.inl ⟨np_X12_part, lw_g (lw_at lw_m25 134 rfl) rfl, Or.inl (lw_g (lw_at lw_m14 98 rfl) rfl)⟩⟩
  · exact ⟨⟨by decide, by decide⟩, im_X12_part, Or.inl ⟨np_X12_part, lw_g (lw_at lw_m25 135 rfl) rfl, Or.inl (lw_g (lw_at lw_m14 98 rfl) rfl)⟩⟩
  · exact ⟨⟨by decide, by decide⟩, im_X12_part, Or.inl ⟨np_X12_part, lw_g (lw_at lw_m25 136 rfl) rfl, Or.inl (lw_g (lw_at lw_m14 98 rfl) rfl)⟩⟩
  · exact ⟨⟨by decide, by decide⟩, im_X12_part, Or.inl ⟨np_X12_part, lw_g (lw_at lw_m25 138 rfl) rfl, Or.inl (lw_g (lw_at lw_m14 98 rfl) rfl)⟩⟩
  · exact ⟨⟨by decide, by decide⟩, im_X12_part, Or.inl ⟨np_X12_part, lw_g (lw_at lw_m25 139 rfl) rfl, Or.inl (lw_g (lw_at lw_m14 98 rfl) rfl)⟩⟩
  · exact ⟨⟨by decide, by decide⟩, im_X12_part, Or.inl ⟨np_X12_part, lw_g (lw_at lw_m25 140 rfl) rfl, Or.inl (lw_g (lw_at lw_m14 98 rfl) rfl)⟩⟩⟩
theorem ow17_11_5 : VMk "AlgolHouse$Judge" 100 17047619 := ⟨mok_X3_strong, by decide, fun t ht => by
  obtain rfl : t = 4 := Nat.le_antisymm (Nat.le_trans ht.2 (by decide)) (Nat.le_trans (by decide) ht.1)
  exact ⟨⟨by decide, by decide⟩, im_X3_strong, Or.inl ⟨np_X3_strong, lw_g (lw_at lw_m12 134 rfl) rfl, Or.inl (lw_g (lw_at lw_m12 146 rfl) rfl)⟩⟩⟩
theorem ow17_11_6 : VMk "AlgolHouse$Judge" 112 160516754 := ⟨mok_X40_find, by decide, fun t ht => by
  obtain rfl : t = 41 := Nat.le_antisymm (Nat.le_trans ht.2 (by decide)) (Nat.le_trans (by decide) ht.1)
  exact ⟨⟨by decide, by decide⟩, im_X40_find, Or.inl ⟨np_X40_find, lw_g (lw_at lw_m11 132 rfl) rfl, Or.inl (lw_g (lw_at lw_m11 130 rfl) rfl)⟩⟩⟩
theorem ow17_11_7 : VMk "AlgolHouse$Judge" 116 15474756 := ⟨mok_X3_need, by decide, fun t ht => by
  obtain rfl : t = 4 := Nat.le_antisymm (Nat.le_trans ht.2 (by decide)) (Nat.le_trans (by decide) ht.1)
  exact ⟨⟨by decide, by decide⟩, im_X3_need, Or.inl ⟨np_X3_need, lw_g (lw_at lw_m11 139 rfl) rfl, Or.inl (lw_g (lw_at lw_m11 137 rfl) rfl)⟩⟩⟩
theorem ow17_11_8 : VMk "AlgolHouse$Judge" 131 126677474 := ⟨mok_X17_has, by decide, fun t ht => by
  obtain rfl : t = 30 := Nat.le_antisymm (Nat.le_trans ht.2 (by decide)) (Nat.le_trans (by decide) ht.1)
  exact ⟨⟨by decide, by decide⟩, im_X17_has, Or.inl ⟨np_X17_has, lw_g (lw_at lw_m11 234 rfl) rfl, Or.inl (lw_g (lw_at lw_m11 232 rfl) rfl)⟩⟩⟩
theorem ow17_11_9 : VMk "AlgolHouse$Judge" 140 167346946 := ⟨mok_J6_contains, by decide, fun t ht => by
  obtain rfl : t = 48 := Nat.le_antisymm (Nat.le_trans ht.2 (by decide)) (Nat.le_trans (by decide) ht.1)
  exact ⟨⟨by decide, by decide⟩, im_J6_contains, Or.inl ⟨np_J6_contains, lw_g (lw_at lw_m7 114 rfl) rfl, Or.inl (lw_g (lw_at lw_m11 236 rfl) rfl)⟩⟩⟩
theorem ow17_11_10 : VMk "AlgolHouse$Judge" 156 16523330 := ⟨mok_X3_leader, by decide, fun t ht => by
  obtain rfl : t = 4 := Nat.le_antisymm (Nat.le_trans ht.2 (by decide)) (Nat.le_trans (by decide) ht.1)
  exact ⟨⟨by decide, by decide⟩, im_X3_leader, Or.inl ⟨np_X3_leader, lw_g (lw_ms _ (List.mem_map.mpr ⟨_, List.mem_of_getElem? (i := 81) rfl, rfl⟩)) rfl, Or.inl (lw_g (lw_at lw_m12 21 rfl) rfl)⟩⟩⟩
theorem ow17_11_11 : VMk "AlgolHouse$Judge" 164 16785475 := ⟨mok_X3_others, by decide, fun t ht => by
  obtain rfl : t = 4 := Nat.le_antisymm (Nat.le_trans ht.2 (by decide)) (Nat.le_trans (by decide) ht.1)
  exact ⟨⟨by decide, by decide⟩, im_X3_others, Or.inl ⟨np_X3_others, lw_g (lw_ms _ (List.mem_map.mpr ⟨_, List.mem_of_getElem? (i := 82) rfl, rfl⟩)) rfl, Or.inl (lw_g (lw_at lw_m12 110 rfl) rfl)⟩⟩⟩
theorem ow17_11_12 : VMk "AlgolHouse$Judge" 168 16261186 := ⟨mok_X3_lead, by decide, fun t ht => by
  obtain rfl : t = 4 := Nat.le_antisymm (Nat.le_trans ht.2 (by decide)) (Nat.le_trans (by decide) ht.1)
  exact ⟨⟨by decide, by decide⟩, im_X3_lead, Or.inl ⟨np_X3_lead, lw_g (lw_at lw_m12 19 rfl) rfl, Or.inl (lw_g (lw_at lw_m12 17 rfl) rfl)⟩⟩⟩
theorem ow17_11_13 : VMk "AlgolHouse$Judge" 172 23407186 := ⟨mok_X5_begin, by decide, fun t ht => by
  obtain rfl : t = 37 := Nat.le_antisymm (Nat.le_trans ht.2 (by decide)) (Nat.le_trans (by decide) ht.1)
  exact ⟨⟨by decide, by decide⟩, im_X5_begin, Or.inl ⟨np_X5_begin, lw_g (lw_at lw_m12 174 rfl) rfl, Or.inl (lw_g (lw_at lw_m12 229 rfl) rfl)⟩⟩⟩
theorem ow17_11_14 : VMk "AlgolHouse$Judge" 176 17571907 := ⟨mok_X3_isWanted, by decide, fun t ht => by
  obtain rfl : t = 4 := Nat.le_antisymm (Nat.le_trans ht.2 (by decide)) (Nat.le_trans (by decide) ht.1)
  exact ⟨⟨by decide, by decide⟩, im_X3_isWanted, Or.inl ⟨np_X3_isWanted, lw_g (lw_ms _ (List.mem_map.mpr ⟨_, List.mem_of_getElem? (i := 85) rfl, rfl⟩)) rfl, Or.inl (lw_g (lw_at lw_m13 3 rfl) rfl)⟩⟩⟩
theorem ow17_11_15 : VMk "AlgolHouse$Judge" 180 24193618 := ⟨mok_X5_goes, by decide, fun t ht => by
  obtain rfl : t = 37 := Nat.le_antisymm (Nat.le_trans ht.2 (by decide)) (Nat.le_trans (by decide) ht.1)
  exact ⟨⟨by decide, by decide⟩, im_X5_goes, Or.inl ⟨np_X5_goes, lw_g (lw_at lw_m12 195 rfl) rfl, Or.inl (lw_g (lw_at lw_m12 230 rfl) rfl)⟩⟩⟩
theorem ow17_11_16 : VMk "AlgolHouse$Judge" 184 119869618 := ⟨mok_X12_keep, by decide, fun t ht => by
  rcases tg_11_34 (Nat.le_trans (by decide) ht.1) (Nat.le_trans ht.2 (by decide)) with rfl | rfl | rfl | rfl | rfl | rfl | rfl | rfl | rfl | rfl | rfl | rfl | rfl | rfl | rfl | rfl | rfl | rfl | rfl | rfl | rfl | rfl | rfl | rfl
  · exact ⟨⟨by decide, by decide⟩, im_X12_keep, Or.inl ⟨np_X12_keep, lw_g (lw_at lw_m12 203 rfl) rfl, Or.inl (lw_g (lw_at lw_m12 231 rfl) rfl)⟩⟩
  · exact ⟨⟨by decide, by decide⟩, im_X12_keep, Or.inl ⟨np_X12_keep, lw_g (lw_at lw_m12 204 rfl) rfl, Or.inl (lw_g (lw_at lw_m12 231 rfl) rfl)⟩⟩
  · exact ⟨⟨by decide, by decide⟩, im_X12_keep, Or.inl ⟨np_X12_keep, lw_g (lw_at lw_m12 206 rfl) rfl, Or.inl (lw_g (lw_at lw_m12 231 rfl) rfl)⟩⟩
  · exact ⟨⟨by decide, by decide⟩, im_X12_keep, Or.inl ⟨np_X12_keep, lw_g (lw_at lw_m12 211 rfl) rfl, Or.inl (lw_g (lw_at lw_m12 231 rfl) rfl)⟩⟩
  · exact ⟨⟨by decide, by decide⟩, im_X12_keep, Or.inl ⟨np_X12_keep, lw_g (lw_at lw_m12 216 rfl) rfl, Or.inl (lw_g (lw_at lw_m12 231 rfl) rfl)⟩⟩
  · exact ⟨⟨by decide, by decide⟩, im_X12_keep, Or.inl ⟨np_X12_keep, lw_g (lw_at lw_m12 225 rfl) rfl, Or.inl (lw_g (lw_at lw_m12 231 rfl) rfl)⟩⟩
  · exact ⟨⟨by decide, by decide⟩, im_X12_keep, Or.inl ⟨np_X12_keep, lw_g (lw_at lw_m12 207 rfl) rfl, Or.inl (lw_g (lw_at lw_m12 231 rfl) rfl)⟩⟩
  · exact ⟨⟨by decide, by decide⟩, im_X12_keep, Or.inl ⟨np_X12_keep, lw_g (lw_at lw_m12 208 rfl) rfl, Or.inl (lw_g (lw_at lw_m12 231 rfl) rfl)⟩⟩
  · exact ⟨⟨by decide, by decide⟩, im_X12_keep, Or.inl ⟨np_X12_keep, lw_g (lw_at lw_m12 205 rfl) rfl, Or.inl (lw_g (lw_at lw_m12 231 rfl) rfl)⟩⟩
  · exact ⟨⟨by decide, by decide⟩, im_X12_keep, Or.inl ⟨np_X12_keep, lw_g (lw_at lw_m12 212 rfl) rfl, Or.inl (lw_g (lw_at lw_m12 231 rfl) rfl)⟩⟩
  · exact ⟨⟨by decide, by decide⟩, im_X12_keep, Or.inl ⟨np_X12_keep, lw_g (lw_at lw_m12 221 rfl) rfl, Or.inl (lw_g (lw_at lw_m12 231 rfl) rfl)⟩⟩
  · exact ⟨⟨by decide, by decide⟩, im_X12_keep, Or.inl ⟨np_X12_keep, lw_g (lw_at lw_m12 226 rfl) rfl, Or.inl (lw_g (lw_at lw_m12 231 rfl) rfl)⟩⟩
  · exact ⟨⟨by decide, by decide⟩, im_X12_keep, Or.inl ⟨np_X12_keep, lw_g (lw_at lw_m12 209 rfl) rfl, Or.inl (lw_g (lw_at lw_m12 231 rfl) rfl)⟩⟩
  · exact ⟨⟨by decide, by decide⟩, im_X12_keep, Or.inl ⟨np_X12_keep, lw_g (lw_at lw_m12 210 rfl) rfl, Or.inl (lw_g (lw_at lw_m12 231 rfl) rfl)⟩⟩
  · exact ⟨⟨by decide, by decide⟩, im_X12_keep, Or.inl ⟨np_X12_keep, lw_g (lw_at lw_m12 213 rfl) rfl, Or.inl (lw_g (lw_at lw_m12 231 rfl) rfl)⟩⟩
  · exact ⟨⟨by decide, by decide⟩, im_X12_keep, Or.inl ⟨np_X12_keep, lw_g (lw_at lw_m12 214 rfl) rfl, Or.inl (lw_g (lw_at lw_m12 231 rfl) rfl)⟩⟩
  · exact ⟨⟨by decide, by decide⟩, im_X12_keep, Or.inl ⟨np_X12_keep, lw_g (lw_at lw_m12 215 rfl) rfl, Or.inl (lw_g (lw_at lw_m12 231 rfl) rfl)⟩⟩
  · exact ⟨⟨by decide, by decide⟩, im_X12_keep, Or.inl ⟨np_X12_keep, lw_g (lw_at lw_m12 217 rfl) rfl, Or.inl (lw_g (lw_at lw_m12 231 rfl) rfl)⟩⟩
  · exact ⟨⟨by decide, by decide⟩, im_X12_keep, Or.inl ⟨np_X12_keep, lw_g (lw_at lw_m12 218 rfl) rfl, Or.inl (lw_g (lw_at lw_m12 231 rfl) rfl)⟩⟩
  · exact ⟨⟨by decide, by decide⟩, im_X12_keep, Or.inl ⟨np_X12_keep, lw_g (lw_at lw_m12 219 rfl) rfl, Or.inl (lw_g (lw_at lw_m12 231 rfl) rfl)⟩⟩
  · exact ⟨⟨by decide, by decide⟩, im_X12_keep, Or.inl ⟨np_X12_keep, lw_g (lw_at lw_m12 220 rfl) rfl, Or.inl (lw_g (lw_at lw_m12 231 rfl) rfl)⟩⟩
  · exact ⟨⟨by decide, by decide⟩, im_X12_keep, Or.inl ⟨np_X12_keep, lw_g (lw_at lw_m12 222 rfl) rfl, Or.inl (lw_g (lw_at lw_m12 231 rfl) rfl)⟩⟩
  · exact ⟨⟨by decide, by decide⟩, im_X12_keep, Or.inl ⟨np_X12_keep, lw_g (lw_at lw_m12 223 rfl) rfl, Or.inl (lw_g (lw_at lw_m12 231 rfl) rfl)⟩⟩
  · exact ⟨⟨by decide, by decide⟩, im_X12_keep, Or.inl ⟨np_X12_keep, lw_g (lw_at lw_m12 224 rfl) rfl, Or.inl (lw_g (lw_at lw_m12 231 rfl) rfl)⟩⟩⟩
theorem ow17_11_17 : VMk "AlgolHouse$Judge" 197 25446546 := ⟨mok_X6_isPlain, by decide, fun t ht => by
  obtain rfl : t = 9 := Nat.le_antisymm (Nat.le_trans ht.2 (by decide)) (Nat.le_trans (by decide) ht.1)
  exact ⟨⟨by decide, by decide⟩, im_X6_isPlain, Or.inl ⟨np_X6_isPlain, lw_g (lw_at lw_m12 140 rfl) rfl, Or.inl (lw_g (lw_at lw_m13 7 rfl) rfl)⟩⟩⟩
theorem ow17_11_18 : VMk "AlgolHouse$Judge" 201 25184401 := ⟨mok_X6_isCall, by decide, fun t ht => by
  obtain rfl : t = 9 := Nat.le_antisymm (Nat.le_trans ht.2 (by decide)) (Nat.le_trans (by decide) ht.1)
  exact ⟨⟨by decide, by decide⟩, im_X6_isCall, Or.inl ⟨np_X6_isCall, lw_g (lw_at lw_m11 49 rfl) rfl, Or.inl (lw_g (lw_at lw_m13 8 rfl) rfl)⟩⟩⟩
theorem ow17_11_19 : VMk "AlgolHouse$Judge" 205 24922257 := ⟨mok_X6_real, by decide, fun t ht => by
  obtain rfl : t = 9 := Nat.le_antisymm (Nat.le_trans ht.2 (by decide)) (Nat.le_trans (by decide) ht.1)
  exact ⟨⟨by decide, by decide⟩, im_X6_real, Or.inl ⟨np_X6_real, lw_g (lw_at lw_m11 4 rfl) rfl, Or.inl (lw_g (lw_at lw_m13 178 rfl) rfl)⟩⟩⟩
theorem ow17_11_20 : VMk "AlgolHouse$Judge" 209 23669332 := ⟨mok_X5_firm, by decide, fun t ht => by
  obtain rfl : t = 37 := Nat.le_antisymm (Nat.le_trans ht.2 (by decide)) (Nat.le_trans (by decide) ht.1)
  exact ⟨⟨by decide, by decide⟩, im_X5_firm, Or.inl ⟨np_X5_firm, lw_g (lw_at lw_m12 178 rfl) rfl, Or.inl (lw_g (lw_at lw_m13 179 rfl) rfl)⟩⟩⟩
theorem ow17_11_21 : VMk "AlgolHouse$Judge" 213 18096196 := ⟨mok_X3_firm, by decide, fun t ht => by
  obtain rfl : t = 4 := Nat.le_antisymm (Nat.le_trans ht.2 (by decide)) (Nat.le_trans (by decide) ht.1)
  exact ⟨⟨by decide, by decide⟩, im_X3_firm, Or.inl ⟨np_X3_firm, lw_g (lw_at lw_m13 176 rfl) rfl, Or.inl (lw_g (lw_at lw_m13 185 rfl) rfl)⟩⟩⟩
theorem ow17_11 : ∀ q ∈ ([(59, 165774082), (69, 165249793), (73, 166822658), (90, 168133378), (96, 118558898), (100, 17047619), (112, 160516754), (116, 15474756), (131, 126677474), (140, 167346946), (156, 16523330), (164, 16785475), (168, 16261186), (172, 23407186), (176, 17571907), (180, 24193618), (184, 119869618), (197, 25446546), (201, 25184401), (205, 24922257), (209, 23669332), (213, 18096196)] : List (Nat × Nat)), VMk "AlgolHouse$Judge" q.1 q.2 := List.forall_mem_cons.mpr ⟨ow17_11_0, List.forall_mem_cons.mpr ⟨ow17_11_1, List.forall_mem_cons.mpr ⟨ow17_11_2, List.forall_mem_cons.mpr ⟨ow17_11_3, List.forall_mem_cons.mpr ⟨ow17_11_4, List.forall_mem_cons.mpr ⟨ow17_11_5, List.forall_mem_cons.mpr ⟨ow17_11_6, List.forall_mem_cons.mpr ⟨ow17_11_7, List.forall_mem_cons.mpr ⟨ow17_11_8, List.forall_mem_cons.mpr ⟨ow17_11_9, List.forall_mem_cons.mpr ⟨ow17_11_10, List.forall_mem_cons.mpr ⟨ow17_11_11, List.forall_mem_cons.mpr ⟨ow17_11_12, List.forall_mem_cons.mpr ⟨ow17_11_13, List.forall_mem_cons.mpr ⟨ow17_11_14, List.forall_mem_cons.mpr ⟨ow17_11_15, List.forall_mem_cons.mpr ⟨ow17_11_16, List.forall_mem_cons.mpr ⟨ow17_11_17, List.forall_mem_cons.mpr ⟨ow17_11_18, List.forall_mem_cons.mpr ⟨ow17_11_19, List.forall_mem_cons.mpr ⟨ow17_11_20, List.forall_mem_cons.mpr ⟨ow17_11_21, fun q h => by cases h⟩⟩⟩⟩⟩⟩⟩⟩⟩⟩⟩⟩⟩⟩⟩⟩⟩⟩⟩⟩⟩⟩
theorem ow17_12_0 : PMk "AlgolHouse$Judge" 63 1 2 := ⟨by decide, fun t m h => by
  rcases dsp_1 h with ⟨rfl, rfl⟩ | ⟨rfl, rfl⟩ | ⟨rfl, rfl⟩ | ⟨rfl, rfl⟩ | ⟨rfl, rfl⟩ | ⟨rfl, rfl⟩ | ⟨rfl, rfl⟩ | ⟨rfl, rfl⟩ | ⟨rfl, rfl⟩ | ⟨rfl, rfl⟩ | ⟨rfl, rfl⟩ | ⟨rfl, rfl⟩ | ⟨rfl, rfl⟩ | ⟨rfl, rfl⟩ | ⟨rfl, rfl⟩ | ⟨rfl, rfl⟩ | ⟨rfl, rfl⟩ | ⟨rfl, rfl⟩ | ⟨rfl, rfl⟩ | ⟨rfl, rfl⟩ | ⟨rfl, rfl⟩ | ⟨rfl, rfl⟩ | ⟨rfl, rfl⟩ | ⟨rfl, rfl⟩
  · exact ⟨mok_X12_enter, ⟨by decide, by decide⟩, im_X12_enter, Or.inl ⟨by decide +kernel, lw_g (lw_at lw_m11 62 rfl) rfl, Or.inl (lw_g (lw_at lw_m11 59 rfl) rfl)⟩⟩
  · exact ⟨mok_X12_enter, ⟨by decide, by decide⟩, im_X12_enter, Or.inl ⟨by decide +kernel, lw_g (lw_at lw_m11 63 rfl) rfl, Or.inl (lw_g (lw_at lw_m11 59 rfl) rfl)⟩⟩
  · exact ⟨mok_X12_enter, ⟨by decide, by decide⟩, im_X12_enter, Or.inl ⟨by decide +kernel, lw_g (lw_at lw_m11 65 rfl) rfl, Or.inl (lw_g (lw_at lw_m11 59 rfl) rfl)⟩⟩
  · exact ⟨mok_X12_enter, ⟨by decide, by decide⟩, im_X12_enter, Or.inl ⟨by decide +kernel, lw_g (lw_at lw_m11 70 rfl) rfl, Or.inl (lw_g (lw_at lw_m11 59 rfl) rfl)⟩⟩
  · exact ⟨mok_X12_enter, ⟨by decide, by decide⟩, im_X12_enter, Or.inl ⟨by decide +kernel, lw_g (lw_at lw_m11 77 rfl) rfl, Or.inl (lw_g (lw_at lw_m11 59 rfl) rfl)⟩⟩
  · exact ⟨mok_X12_enter, ⟨by decide, by decide⟩, im_X12_enter, Or.inl ⟨by decide +kernel, lw_g (lw_at lw_m11 237 rfl) rfl, Or.inl (lw_g (lw_at lw_m11 59 rfl) rfl)⟩⟩
  · exact ⟨mok_X12_enter, ⟨by decide, by decide⟩, im_X12_enter, Or.inl ⟨by decide +kernel, lw_g (lw_at lw_m11 66 rfl) rfl, Or.inl (lw_g (lw_at lw_m11 59 rfl) rfl)⟩⟩
  · exact ⟨mok_X12_enter, ⟨by decide, by decide⟩, im_X12_enter, Or.inl ⟨by decide +kernel, lw_g (lw_at lw_m11 67 rfl) rfl, Or.inl (lw_g (lw_at lw_m11 59 rfl) rfl)⟩⟩
  · exact ⟨mok_X12_enter, ⟨by decide, by decide⟩, im_X12_enter, Or.inl ⟨by decide +kernel, lw_g (lw_at lw_m11 64 rfl) rfl, Or.inl (lw_g (lw_at lw_m11 59 rfl) rfl)⟩⟩
  · exact ⟨mok_X12_enter, ⟨by decide, by decide⟩, im_X12_enter, Or.inl ⟨by decide +kernel, lw_g (lw_at lw_m11 71 rfl) rfl, Or.inl (lw_g (lw_at lw_m11 59 rfl) rfl)⟩⟩
  · exact ⟨mok_X14_enter, ⟨by decide, by decide⟩, im_X14_enter, Or.inr ⟨⟨"AlgolHouse$Node", "enter", "(LAlgolHouse$Judge;)V"⟩, "AlgolHouse$Node", by decide +kernel, lw_g (lw_at lw_m11 59 rfl) rfl, lw_g (lw_at lw_m11 61 rfl) rfl, Or.inr ⟨lw_g (lw_at lw_m11 60 rfl) rfl, _, _, _, lw_g (lw_at lw_m11 239 rfl) rfl⟩, ⟨by decide +kernel, by decide +kernel⟩, lw_g (lw_at lw_m11 185 rfl) rfl⟩⟩
  · exact ⟨mok_X12_enter, ⟨by decide, by decide⟩, im_X12_enter, Or.inl ⟨by decide +kernel, lw_g (lw_at lw_m11 238 rfl) rfl, Or.inl (lw_g (lw_at lw_m11 59 rfl) rfl)⟩⟩
  · exact ⟨mok_X12_enter, ⟨by decide, by decide⟩, im_X12_enter, Or.inl ⟨by decide +kernel, lw_g (lw_at lw_m11 68 rfl) rfl, Or.inl (lw_g (lw_at lw_m11 59 rfl) rfl)⟩⟩
  · exact ⟨mok_X12_enter, ⟨by decide, by decide⟩, im_X12_enter, Or.inl ⟨by decide +kernel, lw_g (lw_at lw_m11 69 rfl) rfl, Or.inl (lw_g (lw_at lw_m11 59 rfl) rfl)⟩⟩
  · exact ⟨mok_X12_enter, ⟨by decide, by decide⟩, im_X12_enter, Or.inl ⟨by decide +kernel, lw_g (lw_at lw_m11 72 rfl) rfl, Or.inl (lw_g (lw_at lw_m11 59 rfl) rfl)⟩⟩
  · exact ⟨mok_X34_enter, ⟨by decide, by decide⟩, im_X34_enter, Or.inr ⟨⟨"AlgolHouse$Node", "enter", "(LAlgolHouse$Judge;)V"⟩, "AlgolHouse$Node", by decide +kernel, lw_g (lw_at lw_m11 59 rfl) rfl, lw_g (lw_at lw_m11 61 rfl) rfl, Or.inr ⟨lw_g (lw_at lw_m11 60 rfl) rfl, _, _, _, lw_g (lw_at lw_m11 239 rfl) rfl⟩, ⟨by decide +kernel, by decide +kernel⟩, lw_g (lw_at lw_m11 73 rfl) rfl⟩⟩
  · exact ⟨mok_X12_enter, ⟨by decide, by decide⟩, im_X12_enter, Or.inl ⟨by decide +kernel, lw_g (lw_at lw_m11 76 rfl) rfl, Or.inl (lw_g (lw_at lw_m11 59 rfl) rfl)⟩⟩
  · exact ⟨mok_X28_enter, ⟨by decide, by decide⟩, im_X28_enter, Or.inr ⟨⟨"AlgolHouse$Node", "enter", "(LAlgolHouse$Judge;)V"⟩, "AlgolHouse$Node", by decide +kernel, lw_g (lw_at lw_m11 59 rfl) rfl, lw_g (lw_at lw_m11 61 rfl) rfl, Or.inr ⟨lw_g (lw_at lw_m11 60 rfl) rfl, _, _, _, lw_g (lw_at lw_m11 239 rfl) rfl⟩, ⟨by decide +kernel, by decide +kernel⟩, lw_g (lw_at lw_m11 78 rfl) rfl⟩⟩
  · exact ⟨mok_X12_enter, ⟨by decide, by decide⟩, im_X12_enter, Or.inl ⟨by decide +kernel, lw_g (lw_at lw_m11 81 rfl) rfl, Or.inl (lw_g (lw_at lw_m11 59 rfl) rfl)⟩⟩
  · exact ⟨mok_X17_enter, ⟨by decide, by decide⟩, im_X17_enter, Or.inr ⟨⟨"AlgolHouse$Node", "enter", "(LAlgolHouse$Judge;)V"⟩, "AlgolHouse$Node", by decide +kernel, lw_g (lw_at lw_m11 59 rfl) rfl, lw_g (lw_at lw_m11 61 rfl) rfl, Or.inr ⟨lw_g (lw_at lw_m11 60 rfl) rfl, _, _, _, lw_g (lw_at lw_m11 239 rfl) rfl⟩, ⟨by decide +kernel, by decide +kernel⟩, lw_g (lw_at lw_m11 82 rfl) rfl⟩⟩
  · exact ⟨mok_X12_enter, ⟨by decide, by decide⟩, im_X12_enter, Or.inl ⟨by decide +kernel, lw_g (lw_at lw_m11 184 rfl) rfl, Or.inl (lw_g (lw_at lw_m11 59 rfl) rfl)⟩⟩
  · exact ⟨mok_X12_enter, ⟨by decide, by decide⟩, im_X12_enter, Or.inl ⟨by decide +kernel, lw_g (lw_at lw_m11 221 rfl) rfl, Or.inl (lw_g (lw_at lw_m11 59 rfl) rfl)⟩⟩
  · exact ⟨mok_X12_enter, ⟨by decide, by decide⟩, im_X12_enter, Or.inl ⟨by decide +kernel, lw_g (lw_at lw_m11 222 rfl) rfl, Or.inl (lw_g (lw_at lw_m11 59 rfl) rfl)⟩⟩
  · exact ⟨mok_X29_enter, ⟨by decide, by decide⟩, im_X29_enter, Or.inr ⟨⟨"AlgolHouse$Node", "enter", "(LAlgolHouse$Judge;)V"⟩, "AlgolHouse$Node", by decide +kernel, lw_g (lw_at lw_m11 59 rfl) rfl, lw_g (lw_at lw_m11 61 rfl) rfl, Or.inr ⟨lw_g (lw_at lw_m11 60 rfl) rfl, _, _, _, lw_g (lw_at lw_m11 239 rfl) rfl⟩, ⟨by decide +kernel, by decide +kernel⟩, lw_g (lw_at lw_m11 223 rfl) rfl⟩⟩⟩
theorem ow17_12_1 : PMk "AlgolHouse$Judge" 79 2 3 := ⟨by decide, fun t m h => by
  rcases dsp_2 h with ⟨rfl, rfl⟩ | ⟨rfl, rfl⟩ | ⟨rfl, rfl⟩ | ⟨rfl, rfl⟩ | ⟨rfl, rfl⟩ | ⟨rfl, rfl⟩ | ⟨rfl, rfl⟩ | ⟨rfl, rfl⟩ | ⟨rfl, rfl⟩ | ⟨rfl, rfl⟩ | ⟨rfl, rfl⟩ | ⟨rfl, rfl⟩ | ⟨rfl, rfl⟩ | ⟨rfl, rfl⟩ | ⟨rfl, rfl⟩ | ⟨rfl, rfl⟩ | ⟨rfl, rfl⟩ | ⟨rfl, rfl⟩ | ⟨rfl, rfl⟩ | ⟨rfl, rfl⟩ | ⟨rfl, rfl⟩ | ⟨rfl, rfl⟩ | ⟨rfl, rfl⟩ | ⟨rfl, rfl⟩
  · exact ⟨mok_X35_behind, ⟨by decide, by decide⟩, im_X35_behind, Or.inr ⟨⟨"AlgolHouse$Node", "behind", "(LAlgolHouse$Judge;I)V"⟩, "AlgolHouse$Node", by decide +kernel, lw_g (lw_at lw_m12 4 rfl) rfl, lw_g (lw_at lw_m12 6 rfl) rfl, Or.inr ⟨lw_g (lw_at lw_m12 5 rfl) rfl, _, _, _, lw_g (lw_at lw_m13 111 rfl) rfl⟩, ⟨by decide +kernel, by decide +kernel⟩, lw_g (lw_at lw_m12 7 rfl) rfl⟩⟩
  · exact ⟨mok_X22_behind, ⟨by decide, by decide⟩, im_X22_behind, Or.inr ⟨⟨"AlgolHouse$Node", "behind", "(LAlgolHouse$Judge;I)V"⟩, "AlgolHouse$Node", by decide +kernel, lw_g (lw_at lw_m12 4 rfl) rfl, lw_g (lw_at lw_m12 6 rfl) rfl, Or.inr ⟨lw_g (lw_at lw_m12 5 rfl) rfl, _, _, _, lw_g (lw_at lw_m13 111 rfl) rfl⟩, ⟨by decide +kernel, by decide +kernel⟩, lw_g (lw_at lw_m12 233 rfl) rfl⟩⟩
  · exact ⟨mok_X12_behind, ⟨by decide, by decide⟩, im_X12_behind, Or.inl ⟨by decide +kernel, lw_g (lw_at lw_m13 13 rfl) rfl, Or.inl (lw_g (lw_at lw_m12 4 rfl) rfl)⟩⟩
  · exact ⟨mok_X20_behind, ⟨by decide, by decide⟩, im_X20_behind, Or.inr ⟨⟨"AlgolHouse$Node", "behind", "(LAlgolHouse$Judge;I)V"⟩, "AlgolHouse$Node", by decide +kernel, lw_g (lw_at lw_m12 4 rfl) rfl, lw_g (lw_at lw_m12 6 rfl) rfl, Or.inr ⟨lw_g (lw_at lw_m12 5 rfl) rfl, _, _, _, lw_g (lw_at lw_m13 111 rfl) rfl⟩, ⟨by decide +kernel, by decide +kernel⟩, lw_g (lw_at lw_m13 33 rfl) rfl⟩⟩
  · exact ⟨mok_X12_behind, ⟨by decide, by decide⟩, im_X12_behind, Or.inl ⟨by decide +kernel, lw_g (lw_at lw_m13 65 rfl) rfl, Or.inl (lw_g (lw_at lw_m12 4 rfl) rfl)⟩⟩
  · exact ⟨mok_X39_behind, ⟨by decide, by decide⟩, im_X39_behind, Or.inr ⟨⟨"AlgolHouse$Node", "behind", "(LAlgolHouse$Judge;I)V"⟩, "AlgolHouse$Node", by decide +kernel, lw_g (lw_at lw_m12 4 rfl) rfl, lw_g (lw_at lw_m12 6 rfl) rfl, Or.inr ⟨lw_g (lw_at lw_m12 5 rfl) rfl, _, _, _, lw_g (lw_at lw_m13 111 rfl) rfl⟩, ⟨by decide +kernel, by decide +kernel⟩, lw_g (lw_at lw_m13 94 rfl) rfl⟩⟩
  · exact ⟨mok_X12_behind, ⟨by decide, by decide⟩, im_X12_behind, Or.inl ⟨by decide +kernel, lw_g (lw_at lw_m13 14 rfl) rfl, Or.inl (lw_g (lw_at lw_m12 4 rfl) rfl)⟩⟩
  · exact ⟨mok_X12_behind, ⟨by decide, by decide⟩, im_X12_behind, Or.inl ⟨by decide +kernel, lw_g (lw_at lw_m13 15 rfl) rfl, Or.inl (lw_g (lw_at lw_m12 4 rfl) rfl)⟩⟩
  · exact ⟨mok_X32_behind, ⟨by decide, by decide⟩, im_X32_behind, Or.inr ⟨⟨"AlgolHouse$Node", "behind", "(LAlgolHouse$Judge;I)V"⟩, "AlgolHouse$Node", by decide +kernel, lw_g (lw_at lw_m12 4 rfl) rfl, lw_g (lw_at lw_m12 6 rfl) rfl, Or.inr ⟨lw_g (lw_at lw_m12 5 rfl) rfl, _, _, _, lw_g (lw_at lw_m13 111 rfl) rfl⟩, ⟨by decide +kernel, by decide +kernel⟩, lw_g (lw_at lw_m13 9 rfl) rfl⟩⟩
  · exact ⟨mok_X30_behind, ⟨by decide, by decide⟩, im_X30_behind, Or.inr ⟨⟨"AlgolHouse$Node", "behind", "(LAlgolHouse$Judge;I)V"⟩, "AlgolHouse$Node", by decide +kernel, lw_g (lw_at lw_m12 4 rfl) rfl, lw_g (lw_at lw_m12 6 rfl) rfl, Or.inr ⟨lw_g (lw_at lw_m12 5 rfl) rfl, _, _, _, lw_g (lw_at lw_m13 111 rfl) rfl⟩, ⟨by decide +kernel, by decide +kernel⟩, lw_g (lw_at lw_m13 40 rfl) rfl⟩⟩
  · exact ⟨mok_X14_behind, ⟨by decide, by decide⟩, im_X14_behind, Or.inr ⟨⟨"AlgolHouse$Node", "behind", "(LAlgolHouse$Judge;I)V"⟩, "AlgolHouse$Node", by decide +kernel, lw_g (lw_at lw_m12 4 rfl) rfl, lw_g (lw_at lw_m12 6 rfl) rfl, Or.inr ⟨lw_g (lw_at lw_m12 5 rfl) rfl, _, _, _, lw_g (lw_at lw_m13 111 rfl) rfl⟩, ⟨by decide +kernel, by decide +kernel⟩, lw_g (lw_at lw_m13 80 rfl) rfl⟩⟩
  · exact ⟨mok_X31_behind, ⟨by decide, by decide⟩, im_X31_behind, Or.inr ⟨⟨"AlgolHouse$Node", "behind", "(LAlgolHouse$Judge;I)V"⟩, "AlgolHouse$Node", by decide +kernel, lw_g (lw_at lw_m12 4 rfl) rfl, lw_g (lw_at lw_m12 6 rfl) rfl, Or.inr ⟨lw_g (lw_at lw_m12 5 rfl) rfl, _, _, _, lw_g (lw_at lw_m13 111 rfl) rfl⟩, ⟨by decide +kernel, by decide +kernel⟩, lw_g (lw_at lw_m13 102 rfl) rfl⟩⟩
  · exact ⟨mok_X24_behind, ⟨by decide, by decide⟩, im_X24_behind, Or.inr ⟨⟨"AlgolHouse$Node", "behind", "(LAlgolHouse$Judge;I)V"⟩, "AlgolHouse$Node", by decide +kernel, lw_g (lw_at lw_m12 4 rfl) rfl, lw_g (lw_at lw_m12 6 rfl) rfl, Or.inr ⟨lw_g (lw_at lw_m12 5 rfl) rfl, _, _, _, lw_g (lw_at lw_m13 111 rfl) rfl⟩, ⟨by decide +kernel, by decide +kernel⟩, lw_g (lw_at lw_m13 16 rfl) rfl⟩⟩
  · exact ⟨mok_X27_behind, ⟨by decide, by decide⟩, im_X27_behind, Or.inr ⟨⟨"AlgolHouse$Node", "behind", "(LAlgolHouse$Judge;I)V"⟩, "AlgolHouse$Node", by decide +kernel, lw_g (lw_at lw_m12 4 rfl) rfl, lw_g (lw_at lw_m12 6 rfl) rfl, Or.inr ⟨lw_g (lw_at lw_m12 5 rfl) rfl, _, _, _, lw_g (lw_at lw_m13 111 rfl) rfl⟩, ⟨by decide +kernel, by decide +kernel⟩, lw_g (lw_at lw_m13 23 rfl) rfl⟩⟩
  · exact ⟨mok_X12_behind, ⟨by decide, by decide⟩, im_X12_behind, Or.inl ⟨by decide +kernel, lw_g (lw_at lw_m13 44 rfl) rfl, Or.inl (lw_g (lw_at lw_m12 4 rfl) rfl)⟩⟩
  · exact ⟨mok_X34_behind, ⟨by decide, by decide⟩, im_X34_behind, Or.inr ⟨⟨"AlgolHouse$Node", "behind", "(LAlgolHouse$Judge;I)V"⟩, "AlgolHouse$Node", by decide +kernel, lw_g (lw_at lw_m12 4 rfl) rfl, lw_g (lw_at lw_m12 6 rfl) rfl, Or.inr ⟨lw_g (lw_at lw_m12 5 rfl) rfl, _, _, _, lw_g (lw_at lw_m13 111 rfl) rfl⟩, ⟨by decide +kernel, by decide +kernel⟩, lw_g (lw_at lw_m13 45 rfl) rfl⟩⟩
  · exact ⟨mok_X12_behind, ⟨by decide, by decide⟩, im_X12_behind, Or.inl ⟨by decide +kernel, lw_g (lw_at lw_m13 64 rfl) rfl, Or.inl (lw_g (lw_at lw_m12 4 rfl) rfl)⟩⟩
  · exact ⟨mok_X12_behind, ⟨by decide, by decide⟩, im_X12_behind, Or.inl ⟨by decide +kernel, lw_g (lw_at lw_m13 66 rfl) rfl, Or.inl (lw_g (lw_at lw_m12 4 rfl) rfl)⟩⟩
  · exact ⟨mok_X12_behind, ⟨by decide, by decide⟩, im_X12_behind, Or.inl ⟨by decide +kernel, lw_g (lw_at lw_m13 67 rfl) rfl, Or.inl (lw_g (lw_at lw_m12 4 rfl) rfl)⟩⟩
  · exact ⟨mok_X17_behind, ⟨by decide, by decide⟩, im_X17_behind, Or.inr ⟨⟨"AlgolHouse$Node", "behind", "(LAlgolHouse$Judge;I)V"⟩, "AlgolHouse$Node", by decide +kernel, lw_g (lw_at lw_m12 4 rfl) rfl, lw_g (lw_at lw_m12 6 rfl) rfl, Or.inr ⟨lw_g (lw_at lw_m12 5 rfl) rfl, _, _, _, lw_g (lw_at lw_m13 111 rfl) rfl⟩, ⟨by decide +kernel, by decide +kernel⟩, lw_g (lw_at lw_m13 68 rfl) rfl⟩⟩
  · exact ⟨mok_X12_behind, ⟨by decide, by decide⟩, im_X12_behind, Or.inl ⟨by decide +kernel, lw_g (lw_at lw_m13 79 rfl) rfl, Or.inl (lw_g (lw_at lw_m12 4 rfl) rfl)⟩⟩
  · exact ⟨mok_X12_behind, ⟨by decide, by decide⟩, im_X12_behind, Or.inl ⟨by decide +kernel, lw_g (lw_at lw_m13 84 rfl) rfl, Or.inl (lw_g (lw_at lw_m12 4 rfl) rfl)⟩⟩
  · exact ⟨mok_X23_behind, ⟨by decide, by decide⟩, im_X23_behind, Or.inr ⟨⟨"AlgolHouse$Node", "behind", "(LAlgolHouse$Judge;I)V"⟩, "AlgolHouse$Node", by decide +kernel, lw_g (lw_at lw_m12 4 rfl) rfl, lw_g (lw_at lw_m12 6 rfl) rfl, Or.inr ⟨lw_g (lw_at lw_m12 5 rfl) rfl, _, _, _, lw_g (lw_at lw_m13 111 rfl) rfl⟩, ⟨by decide +kernel, by decide +kernel⟩, lw_g (lw_at lw_m13 85 rfl) rfl⟩⟩
  · exact ⟨mok_X12_behind, ⟨by decide, by decide⟩, im_X12_behind, Or.inl ⟨by decide +kernel, lw_g (lw_at lw_m13 93 rfl) rfl, Or.inl (lw_g (lw_at lw_m12 4 rfl) rfl)⟩⟩⟩
theorem ow17_12_2 : PMk "AlgolHouse$Judge" 87 3 2 := ⟨by decide, fun t m h => by
  rcases dsp_3 h with ⟨rfl, rfl⟩ | ⟨rfl, rfl⟩ | ⟨rfl, rfl⟩ | ⟨rfl, rfl⟩ | ⟨rfl, rfl⟩ | ⟨rfl, rfl⟩ | ⟨rfl, rfl⟩ | ⟨rfl, rfl⟩ | ⟨rfl, rfl⟩ | ⟨rfl, rfl⟩ | ⟨rfl, rfl⟩ | ⟨rfl, rfl⟩ | ⟨rfl, rfl⟩ | ⟨rfl, rfl⟩ | ⟨rfl, rfl⟩ | ⟨rfl, rfl⟩ | ⟨rfl, rfl⟩ | ⟨rfl, rfl⟩ | ⟨rfl, rfl⟩ | ⟨rfl, rfl⟩ | ⟨rfl, rfl⟩ | ⟨rfl, rfl⟩ | ⟨rfl, rfl⟩ | ⟨rfl, rfl⟩
  · exact ⟨mok_X12_judged, ⟨by decide, by decide⟩, im_X12_judged, Or.inl ⟨by decide +kernel, lw_g (lw_at lw_m13 115 rfl) rfl, Or.inl (lw_g (lw_at lw_m13 112 rfl) rfl)⟩⟩
  · exact ⟨mok_X22_judged, ⟨by decide, by decide⟩, im_X22_judged, Or.inr ⟨⟨"AlgolHouse$Node", "judged", "(LAlgolHouse$Judge;)V"⟩, "AlgolHouse$Node", by decide +kernel, lw_g (lw_at lw_m13 112 rfl) rfl, lw_g (lw_at lw_m13 114 rfl) rfl, Or.inr ⟨lw_g (lw_at lw_m13 113 rfl) rfl, _, _, _, lw_g (lw_at lw_m14 55 rfl) rfl⟩, ⟨by decide +kernel, by decide +kernel⟩, lw_g (lw_at lw_m13 116 rfl) rfl⟩⟩
  · exact ⟨mok_X21_judged, ⟨by decide, by decide⟩, im_X21_judged, Or.inr ⟨⟨"AlgolHouse$Node", "judged", "(LAlgolHouse$Judge;)V"⟩, "AlgolHouse$Node", by decide +kernel, lw_g (lw_at lw_m13 112 rfl) rfl, lw_g (lw_at lw_m13 114 rfl) rfl, Or.inr ⟨lw_g (lw_at lw_m13 113 rfl) rfl, _, _, _, lw_g (lw_at lw_m14 55 rfl) rfl⟩, ⟨by decide +kernel, by decide +kernel⟩, lw_g (lw_at lw_m13 139 rfl) rfl⟩⟩
  · exact ⟨mok_X12_judged, ⟨by decide, by decide⟩, im_X12_judged, Or.inl ⟨by decide +kernel, lw_g (lw_at lw_m13 233 rfl) rfl, Or.inl (lw_g (lw_at lw_m13 112 rfl) rfl)⟩⟩
  · exact ⟨mok_X12_judged, ⟨by decide, by decide⟩, im_X12_judged, Or.inl ⟨by decide +kernel, lw_g (lw_at lw_m14 13 rfl) rfl, Or.inl (lw_g (lw_at lw_m13 112 rfl) rfl)⟩⟩
  · exact ⟨mok_X12_judged, ⟨by decide, by decide⟩, im_X12_judged, Or.inl ⟨by decide +kernel, lw_g (lw_at lw_m14 53 rfl) rfl, Or.inl (lw_g (lw_at lw_m13 112 rfl) rfl)⟩⟩
  · exact ⟨mok_X12_judged, ⟨by decide, by decide⟩, im_X12_judged, Or.inl ⟨by decide +kernel, lw_g (lw_at lw_m13 146 rfl) rfl, Or.inl (lw_g (lw_at lw_m13 112 rfl) rfl)⟩⟩
  · exact ⟨mok_X25_judged, ⟨by decide, by decide⟩, im_X25_judged, Or.inr ⟨⟨"AlgolHouse$Node", "judged", "(LAlgolHouse$Judge;)V"⟩, "AlgolHouse$Node", by decide +kernel, lw_g (lw_at lw_m13 112 rfl) rfl, lw_g (lw_at lw_m13 114 rfl) rfl, Or.inr ⟨lw_g (lw_at lw_m13 113 rfl) rfl, _, _, _, lw_g (lw_at lw_m14 55 rfl) rfl⟩, ⟨by decide +kernel, by decide +kernel⟩, lw_g (lw_at lw_m13 147 rfl) rfl⟩⟩
  · exact ⟨mok_X13_judged, ⟨by decide, by decide⟩, im_X13_judged, Or.inr ⟨⟨"AlgolHouse$Node", "judged", "(LAlgolHouse$Judge;)V"⟩, "AlgolHouse$Node", by decide +kernel, lw_g (lw_at lw_m13 112 rfl) rfl, lw_g (lw_at lw_m13 114 rfl) rfl, Or.inr ⟨lw_g (lw_at lw_m13 113 rfl) rfl, _, _, _, lw_g (lw_at lw_m14 55 rfl) rfl⟩, ⟨by decide +kernel, by decide +kernel⟩, lw_g (lw_at lw_m13 124 rfl) rfl⟩⟩
  · exact ⟨mok_X13_judged, ⟨by decide, by decide⟩, im_X13_judged, Or.inr ⟨⟨"AlgolHouse$Node", "judged", "(LAlgolHouse$Judge;)V"⟩, "AlgolHouse$Node", by decide +kernel, lw_g (lw_at lw_m13 112 rfl) rfl, lw_g (lw_at lw_m13 114 rfl) rfl, Or.inr ⟨lw_g (lw_at lw_m13 113 rfl) rfl, _, _, _, lw_g (lw_at lw_m14 55 rfl) rfl⟩, ⟨by decide +kernel, by decide +kernel⟩, lw_g (lw_at lw_m13 234 rfl) rfl⟩⟩
  · exact ⟨mok_X13_judged, ⟨by decide, by decide⟩, im_X13_judged, Or.inr ⟨⟨"AlgolHouse$Node", "judged", "(LAlgolHouse$Judge;)V"⟩, "AlgolHouse$Node", by decide +kernel, lw_g (lw_at lw_m13 112 rfl) rfl, lw_g (lw_at lw_m13 114 rfl) rfl, Or.inr ⟨lw_g (lw_at lw_m13 113 rfl) rfl, _, _, _, lw_g (lw_at lw_m14 55 rfl) rfl⟩, ⟨by decide +kernel, by decide +kernel⟩, lw_g (lw_at lw_m14 39 rfl) rfl⟩⟩
  · exact ⟨mok_X13_judged, ⟨by decide, by decide⟩, im_X13_judged, Or.inr ⟨⟨"AlgolHouse$Node", "judged", "(LAlgolHouse$Judge;)V"⟩, "AlgolHouse$Node", by decide +kernel, lw_g (lw_at lw_m13 112 rfl) rfl, lw_g (lw_at lw_m13 114 rfl) rfl, Or.inr ⟨lw_g (lw_at lw_m13 113 rfl) rfl, _, _, _, lw_g (lw_at lw_m14 55 rfl) rfl⟩, ⟨by decide +kernel, by decide +kernel⟩, lw_g (lw_at lw_m14 54 rfl) rfl⟩⟩
  · exact ⟨mok_X24_judged, ⟨by decide, by decide⟩, im_X24_judged, Or.inr ⟨⟨"AlgolHouse$Node", "judged", "(LAlgolHouse$Judge;)V"⟩, "AlgolHouse$Node", by decide +kernel, lw_g (lw_at lw_m13 112 rfl) rfl, lw_g (lw_at lw_m13 114 rfl) rfl, Or.inr ⟨lw_g (lw_at lw_m13 113 rfl) rfl, _, _, _, lw_g (lw_at lw_m14 55 rfl) rfl⟩, ⟨by decide +kernel, by decide +kernel⟩, lw_g (lw_at lw_m13 154 rfl) rfl⟩⟩
  · exact ⟨mok_X27_judged, ⟨by decide, by decide⟩, im_X27_judged, Or.inr ⟨⟨"AlgolHouse$Node", "judged", "(LAlgolHouse$Judge;)V"⟩, "AlgolHouse$Node", by decide +kernel, lw_g (lw_at lw_m13 112 rfl) rfl, lw_g (lw_at lw_m13 114 rfl) rfl, Or.inr ⟨lw_g (lw_at lw_m13 113 rfl) rfl, _, _, _, lw_g (lw_at lw_m14 55 rfl) rfl⟩, ⟨by decide +kernel, by decide +kernel⟩, lw_g (lw_at lw_m13 228 rfl) rfl⟩⟩
  · exact ⟨mok_X36_judged, ⟨by decide, by decide⟩, im_X36_judged, Or.inr ⟨⟨"AlgolHouse$Node", "judged", "(LAlgolHouse$Judge;)V"⟩, "AlgolHouse$Node", by decide +kernel, lw_g (lw_at lw_m13 112 rfl) rfl, lw_g (lw_at lw_m13 114 rfl) rfl, Or.inr ⟨lw_g (lw_at lw_m13 113 rfl) rfl, _, _, _, lw_g (lw_at lw_m14 55 rfl) rfl⟩, ⟨by decide +kernel, by decide +kernel⟩, lw_g (lw_at lw_m13 235 rfl) rfl⟩⟩
  · exact ⟨mok_X34_judged, ⟨by decide, by decide⟩, im_X34_judged, Or.inr ⟨⟨"AlgolHouse$Node", "judged", "(LAlgolHouse$Judge;)V"⟩, "AlgolHouse$Node", by decide +kernel, lw_g (lw_at lw_m13 112 rfl) rfl, lw_g (lw_at lw_m13 114 rfl) rfl, Or.inr ⟨lw_g (lw_at lw_m13 113 rfl) rfl, _, _, _, lw_g (lw_at lw_m14 55 rfl) rfl⟩, ⟨by decide +kernel, by decide +kernel⟩, lw_g (lw_at lw_m14 8 rfl) rfl⟩⟩
  · exact ⟨mok_X12_judged, ⟨by decide, by decide⟩, im_X12_judged, Or.inl ⟨by decide +kernel, lw_g (lw_at lw_m14 12 rfl) rfl, Or.inl (lw_g (lw_at lw_m13 112 rfl) rfl)⟩⟩
  · exact ⟨mok_X12_judged, ⟨by decide, by decide⟩, im_X12_judged, Or.inl ⟨by decide +kernel, lw_g (lw_at lw_m14 14 rfl) rfl, Or.inl (lw_g (lw_at lw_m13 112 rfl) rfl)⟩⟩
  · exact ⟨mok_X33_judged, ⟨by decide, by decide⟩, im_X33_judged, Or.inr ⟨⟨"AlgolHouse$Node", "judged", "(LAlgolHouse$Judge;)V"⟩, "AlgolHouse$Node", by decide +kernel, lw_g (lw_at lw_m13 112 rfl) rfl, lw_g (lw_at lw_m13 114 rfl) rfl, Or.inr ⟨lw_g (lw_at lw_m13 113 rfl) rfl, _, _, _, lw_g (lw_at lw_m14 55 rfl) rfl⟩, ⟨by decide +kernel, by decide +kernel⟩, lw_g (lw_at lw_m14 15 rfl) rfl⟩⟩
  · exact ⟨mok_X12_judged, ⟨by decide, by decide⟩, im_X12_judged, Or.inl ⟨by decide +kernel, lw_g (lw_at lw_m14 26 rfl) rfl, Or.inl (lw_g (lw_at lw_m13 112 rfl) rfl)⟩⟩
  · exact ⟨mok_X26_judged, ⟨by decide, by decide⟩, im_X26_judged, Or.inr ⟨⟨"AlgolHouse$Node", "judged", "(LAlgolHouse$Judge;)V"⟩, "AlgolHouse$Node", by decide +kernel, lw_g (lw_at lw_m13 112 rfl) rfl, lw_g (lw_at lw_m13 114 rfl) rfl, Or.inr ⟨lw_g (lw_at lw_m13 113 rfl) rfl, _, _, _, lw_g (lw_at lw_m14 55 rfl) rfl⟩, ⟨by decide +kernel, by decide +kernel⟩, lw_g (lw_at lw_m14 27 rfl) rfl⟩⟩
  · exact ⟨mok_X12_judged, ⟨by decide, by decide⟩, im_X12_judged, Or.inl ⟨by decide +kernel, lw_g (lw_at lw_m14 40 rfl) rfl, Or.inl (lw_g (lw_at lw_m13 112 rfl) rfl)⟩⟩
  · exact ⟨mok_X23_judged, ⟨by decide, by decide⟩, im_X23_judged, Or.inr ⟨⟨"AlgolHouse$Node", "judged", "(LAlgolHouse$Judge;)V"⟩, "AlgolHouse$Node", by decide +kernel, lw_g (lw_at lw_m13 112 rfl) rfl, lw_g (lw_at lw_m13 114 rfl) rfl, Or.inr ⟨lw_g (lw_at lw_m13 113 rfl) rfl, _, _, _, lw_g (lw_at lw_m14 55 rfl) rfl⟩, ⟨by decide +kernel, by decide +kernel⟩, lw_g (lw_at lw_m14 41 rfl) rfl⟩⟩
  · exact ⟨mok_X12_judged, ⟨by decide, by decide⟩, im_X12_judged, Or.inl ⟨by decide +kernel, lw_g (lw_at lw_m14 52 rfl) rfl, Or.inl (lw_g (lw_at lw_m13 112 rfl) rfl)⟩⟩⟩
theorem ow17_12_3 : PMk "AlgolHouse$Judge" 93 4 3 := ⟨by decide, fun t m h => by
  rcases dsp_4 h with ⟨rfl, rfl⟩ | ⟨rfl, rfl⟩ | ⟨rfl, rfl⟩ | ⟨rfl, rfl⟩ | ⟨rfl, rfl⟩ | ⟨rfl, rfl⟩ | ⟨rfl, rfl⟩ | ⟨rfl, rfl⟩ | ⟨rfl, rfl⟩ | ⟨rfl, rfl⟩ | ⟨rfl, rfl⟩ | ⟨rfl, rfl⟩ | ⟨rfl, rfl⟩ | ⟨rfl, rfl⟩ | ⟨rfl, rfl⟩ | ⟨rfl, rfl⟩ | ⟨rfl, rfl⟩ | ⟨rfl, rfl⟩ | ⟨rfl, rfl⟩ | ⟨rfl, rfl⟩ | ⟨rfl, rfl⟩ | ⟨rfl, rfl⟩ | ⟨rfl, rfl⟩ | ⟨rfl, rfl⟩
  · exact ⟨mok_X12_before, ⟨by decide, by decide⟩, im_X12_before, Or.inl ⟨by decide +kernel, lw_g (lw_at lw_m14 60 rfl) rfl, Or.inl (lw_g (lw_at lw_m14 57 rfl) rfl)⟩⟩
  · exact ⟨mok_X12_before, ⟨by decide, by decide⟩, im_X12_before, Or.inl ⟨by decide +kernel, lw_g (lw_at lw_m14 61 rfl) rfl, Or.inl (lw_g (lw_at lw_m14 57 rfl) rfl)⟩⟩
  · exact ⟨mok_X12_before, ⟨by decide, by decide⟩, im_X12_before, Or.inl ⟨by decide +kernel, lw_g (lw_at lw_m14 63 rfl) rfl, Or.inl (lw_g (lw_at lw_m14 57 rfl) rfl)⟩⟩
  · exact ⟨mok_X12_before, ⟨by decide, by decide⟩, im_X12_before, Or.inl ⟨by decide +kernel, lw_g (lw_at lw_m14 68 rfl) rfl, Or.inl (lw_g (lw_at lw_m14 57 rfl) rfl)⟩⟩
  · exact ⟨mok_X12_before, ⟨by decide, by decide⟩, im_X12_before, Or.inl ⟨by decide +kernel, lw_g (lw_at lw_m14 77 rfl) rfl, Or.inl (lw_g (lw_at lw_m14 57 rfl) rfl)⟩⟩
  · exact ⟨mok_X12_before, ⟨by decide, by decide⟩, im_X12_before, Or.inl ⟨by decide +kernel, lw_g (lw_at lw_m14 86 rfl) rfl, Or.inl (lw_g (lw_at lw_m14 57 rfl) rfl)⟩⟩
  · exact ⟨mok_X12_before, ⟨by decide, by decide⟩, im_X12_before, Or.inl ⟨by decide +kernel, lw_g (lw_at lw_m14 64 rfl) rfl, Or.inl (lw_g (lw_at lw_m14 57 rfl) rfl)⟩⟩
  · exact ⟨mok_X12_before, ⟨by decide, by decide⟩, im_X12_before, Or.inl ⟨by decide +kernel, lw_g (lw_at lw_m14 65 rfl) rfl, Or.inl (lw_g (lw_at lw_m14 57 rfl) rfl)⟩⟩
  · exact ⟨mok_X12_before, ⟨by decide, by decide⟩, im_X12_before, Or.inl ⟨by decide +kernel, lw_g (lw_at lw_m14 62 rfl) rfl, Or.inl (lw_g (lw_at lw_m14 57 rfl) rfl)⟩⟩
  · exact ⟨mok_X12_before, ⟨by decide, by decide⟩, im_X12_before, Or.inl ⟨by decide +kernel, lw_g (lw_at lw_m14 69 rfl) rfl, Or.inl (lw_g (lw_at lw_m14 57 rfl) rfl)⟩⟩
  · exact ⟨mok_X12_before, ⟨by decide, by decide⟩, im_X12_before, Or.inl ⟨by decide +kernel, lw_g (lw_at lw_m14 82 rfl) rfl, Or.inl (lw_g (lw_at lw_m14 57 rfl) rfl)⟩⟩
  · exact ⟨mok_X31_before, ⟨by decide, by decide⟩, im_X31_before, Or.inr ⟨⟨"AlgolHouse$Node", "before", "(LAlgolHouse$Judge;I)V"⟩, "AlgolHouse$Node", by decide +kernel, lw_g (lw_at lw_m14 57 rfl) rfl, lw_g (lw_at lw_m14 59 rfl) rfl, Or.inr ⟨lw_g (lw_at lw_m14 58 rfl) rfl, _, _, _, lw_g (lw_at lw_m14 97 rfl) rfl⟩, ⟨by decide +kernel, by decide +kernel⟩, lw_g (lw_at lw_m14 87 rfl) rfl⟩⟩
  · exact ⟨mok_X12_before, ⟨by decide, by decide⟩, im_X12_before, Or.inl ⟨by decide +kernel, lw_g (lw_at lw_m14 66 rfl) rfl, Or.inl (lw_g (lw_at lw_m14 57 rfl) rfl)⟩⟩
  · exact ⟨mok_X12_before, ⟨by decide, by decide⟩, im_X12_before, Or.inl ⟨by decide +kernel, lw_g (lw_at lw_m14 67 rfl) rfl, Or.inl (lw_g (lw_at lw_m14 57 rfl) rfl)⟩⟩
  · exact ⟨mok_X12_before, ⟨by decide, by decide⟩, im_X12_before, Or.inl ⟨by decide +kernel, lw_g (lw_at lw_m14 70 rfl) rfl, Or.inl (lw_g (lw_at lw_m14 57 rfl) rfl)⟩⟩
  · exact ⟨mok_X34_before, ⟨by decide, by decide⟩, im_X34_before, Or.inr ⟨⟨"AlgolHouse$Node", "before", "(LAlgolHouse$Judge;I)V"⟩, "AlgolHouse$Node", by decide +kernel, lw_g (lw_at lw_m14 57 rfl) rfl, lw_g (lw_at lw_m14 59 rfl) rfl, Or.inr ⟨lw_g (lw_at lw_m14 58 rfl) rfl, _, _, _, lw_g (lw_at lw_m14 97 rfl) rfl⟩, ⟨by decide +kernel, by decide +kernel⟩, lw_g (lw_at lw_m14 71 rfl) rfl⟩⟩
  · exact ⟨mok_X12_before, ⟨by decide, by decide⟩, im_X12_before, Or.inl ⟨by decide +kernel, lw_g (lw_at lw_m14 76 rfl) rfl, Or.inl (lw_g (lw_at lw_m14 57 rfl) rfl)⟩⟩
  · exact ⟨mok_X12_before, ⟨by decide, by decide⟩, im_X12_before, Or.inl ⟨by decide +kernel, lw_g (lw_at lw_m14 78 rfl) rfl, Or.inl (lw_g (lw_at lw_m14 57 rfl) rfl)⟩⟩
  · exact ⟨mok_X12_before, ⟨by decide, by decide⟩, im_X12_before, Or.inl ⟨by decide +kernel, lw_g (lw_at lw_m14 79 rfl) rfl, Or.inl (lw_g (lw_at lw_m14 57 rfl) rfl)⟩⟩
  · exact ⟨mok_X12_before, ⟨by decide, by decide⟩, im_X12_before, Or.inl ⟨by decide +kernel, lw_g (lw_at lw_m14 80 rfl) rfl, Or.inl (lw_g (lw_at lw_m14 57 rfl) rfl)⟩⟩
  · exact ⟨mok_X12_before, ⟨by decide, by decide⟩, im_X12_before, Or.inl ⟨by decide +kernel, lw_g (lw_at lw_m14 81 rfl) rfl, Or.inl (lw_g (lw_at lw_m14 57 rfl) rfl)⟩⟩
  · exact ⟨mok_X12_before, ⟨by decide, by decide⟩, im_X12_before, Or.inl ⟨by decide +kernel, lw_g (lw_at lw_m14 83 rfl) rfl, Or.inl (lw_g (lw_at lw_m14 57 rfl) rfl)⟩⟩
  · exact ⟨mok_X12_before, ⟨by decide, by decide⟩, im_X12_before, Or.inl ⟨by decide +kernel, lw_g (lw_at lw_m14 84 rfl) rfl, Or.inl (lw_g (lw_at lw_m14 57 rfl) rfl)⟩⟩
  · exact ⟨mok_X12_before, ⟨by decide, by decide⟩, im_X12_before, Or.inl ⟨by decide +kernel, lw_g (lw_at lw_m14 85 rfl) rfl, Or.inl (lw_g (lw_at lw_m14 57 rfl) rfl)⟩⟩⟩
theorem ow17_12_4 : PMk "AlgolHouse$Judge" 145 5 1 := ⟨by decide, fun t m h => by
  rcases dsp_5 h with ⟨rfl, rfl⟩ | ⟨rfl, rfl⟩ | ⟨rfl, rfl⟩ | ⟨rfl, rfl⟩ | ⟨rfl, rfl⟩ | ⟨rfl, rfl⟩ | ⟨rfl, rfl⟩ | ⟨rfl, rfl⟩ | ⟨rfl, rfl⟩ | ⟨rfl, rfl⟩ | ⟨rfl, rfl⟩ | ⟨rfl, rfl⟩ | ⟨rfl, rfl⟩ | ⟨rfl, rfl⟩ | ⟨rfl, rfl⟩ | ⟨rfl, rfl⟩ | ⟨rfl, rfl⟩ | ⟨rfl, rfl⟩ | ⟨rfl, rfl⟩ | ⟨rfl, rfl⟩ | ⟨rfl, rfl⟩ | ⟨rfl, rfl⟩ | ⟨rfl, rfl⟩ | ⟨rfl, rfl⟩
  · exact ⟨mok_X12_ends, ⟨by decide, by decide⟩, im_X12_ends, Or.inl ⟨by decide +kernel, lw_g (lw_at lw_m12 28 rfl) rfl, Or.inl (lw_g (lw_at lw_m12 25 rfl) rfl)⟩⟩
  · exact ⟨mok_X12_ends, ⟨by decide, by decide⟩, im_X12_ends, Or.inl ⟨by decide +kernel, lw_g (lw_at lw_m12 29 rfl) rfl, Or.inl (lw_g (lw_at lw_m12 25 rfl) rfl)⟩⟩
  · exact ⟨mok_X12_ends, ⟨by decide, by decide⟩, im_X12_ends, Or.inl ⟨by decide +kernel, lw_g (lw_at lw_m12 34 rfl) rfl, Or.inl (lw_g (lw_at lw_m12 25 rfl) rfl)⟩⟩
  · exact ⟨mok_X12_ends, ⟨by decide, by decide⟩, im_X12_ends, Or.inl ⟨by decide +kernel, lw_g (lw_at lw_m12 39 rfl) rfl, Or.inl (lw_g (lw_at lw_m12 25 rfl) rfl)⟩⟩
  · exact ⟨mok_X12_ends, ⟨by decide, by decide⟩, im_X12_ends, Or.inl ⟨by decide +kernel, lw_g (lw_at lw_m12 47 rfl) rfl, Or.inl (lw_g (lw_at lw_m12 25 rfl) rfl)⟩⟩
  · exact ⟨mok_X12_ends, ⟨by decide, by decide⟩, im_X12_ends, Or.inl ⟨by decide +kernel, lw_g (lw_at lw_m12 58 rfl) rfl, Or.inl (lw_g (lw_at lw_m12 25 rfl) rfl)⟩⟩
  · exact ⟨mok_X12_ends, ⟨by decide, by decide⟩, im_X12_ends, Or.inl ⟨by decide +kernel, lw_g (lw_at lw_m12 35 rfl) rfl, Or.inl (lw_g (lw_at lw_m12 25 rfl) rfl)⟩⟩
  · exact ⟨mok_X12_ends, ⟨by decide, by decide⟩, im_X12_ends, Or.inl ⟨by decide +kernel, lw_g (lw_at lw_m12 36 rfl) rfl, Or.inl (lw_g (lw_at lw_m12 25 rfl) rfl)⟩⟩
  · exact ⟨mok_X32_ends, ⟨by decide, by decide⟩, im_X32_ends, Or.inr ⟨⟨"AlgolHouse$Node", "ends", "()I"⟩, "AlgolHouse$Node", by decide +kernel, lw_g (lw_at lw_m12 25 rfl) rfl, lw_g (lw_at lw_m12 27 rfl) rfl, Or.inr ⟨lw_g (lw_at lw_m12 26 rfl) rfl, _, _, _, lw_g (lw_at lw_m12 63 rfl) rfl⟩, ⟨by decide +kernel, by decide +kernel⟩, lw_g (lw_at lw_m12 30 rfl) rfl⟩⟩
  · exact ⟨mok_X30_ends, ⟨by decide, by decide⟩, im_X30_ends, Or.inr ⟨⟨"AlgolHouse$Node", "ends", "()I"⟩, "AlgolHouse$Node", by decide +kernel, lw_g (lw_at lw_m12 25 rfl) rfl, lw_g (lw_at lw_m12 27 rfl) rfl, Or.inr ⟨lw_g (lw_at lw_m12 26 rfl) rfl, _, _, _, lw_g (lw_at lw_m12 63 rfl) rfl⟩, ⟨by decide +kernel, by decide +kernel⟩, lw_g (lw_at lw_m12 40 rfl) rfl⟩⟩
  · exact ⟨mok_X14_ends, ⟨by decide, by decide⟩, im_X14_ends, Or.inr ⟨⟨"AlgolHouse$Node", "ends", "()I"⟩, "AlgolHouse$Node", by decide +kernel, lw_g (lw_at lw_m12 25 rfl) rfl, lw_g (lw_at lw_m12 27 rfl) rfl, Or.inr ⟨lw_g (lw_at lw_m12 26 rfl) rfl, _, _, _, lw_g (lw_at lw_m12 63 rfl) rfl⟩, ⟨by decide +kernel, by decide +kernel⟩, lw_g (lw_at lw_m12 52 rfl) rfl⟩⟩
  · exact ⟨mok_X31_ends, ⟨by decide, by decide⟩, im_X31_ends, Or.inr ⟨⟨"AlgolHouse$Node", "ends", "()I"⟩, "AlgolHouse$Node", by decide +kernel, lw_g (lw_at lw_m12 25 rfl) rfl, lw_g (lw_at lw_m12 27 rfl) rfl, Or.inr ⟨lw_g (lw_at lw_m12 26 rfl) rfl, _, _, _, lw_g (lw_at lw_m12 63 rfl) rfl⟩, ⟨by decide +kernel, by decide +kernel⟩, lw_g (lw_at lw_m12 59 rfl) rfl⟩⟩
  · exact ⟨mok_X12_ends, ⟨by decide, by decide⟩, im_X12_ends, Or.inl ⟨by decide +kernel, lw_g (lw_at lw_m12 37 rfl) rfl, Or.inl (lw_g (lw_at lw_m12 25 rfl) rfl)⟩⟩
  · exact ⟨mok_X12_ends, ⟨by decide, by decide⟩, im_X12_ends, Or.inl ⟨by decide +kernel, lw_g (lw_at lw_m12 38 rfl) rfl, Or.inl (lw_g (lw_at lw_m12 25 rfl) rfl)⟩⟩
  · exact ⟨mok_X12_ends, ⟨by decide, by decide⟩, im_X12_ends, Or.inl ⟨by decide +kernel, lw_g (lw_at lw_m12 44 rfl) rfl, Or.inl (lw_g (lw_at lw_m12 25 rfl) rfl)⟩⟩
  · exact ⟨mok_X12_ends, ⟨by decide, by decide⟩, im_X12_ends, Or.inl ⟨by decide +kernel, lw_g (lw_at lw_m12 45 rfl) rfl, Or.inl (lw_g (lw_at lw_m12 25 rfl) rfl)⟩⟩
  · exact ⟨mok_X12_ends, ⟨by decide, by decide⟩, im_X12_ends, Or.inl ⟨by decide +kernel, lw_g (lw_at lw_m12 46 rfl) rfl, Or.inl (lw_g (lw_at lw_m12 25 rfl) rfl)⟩⟩
  · exact ⟨mok_X12_ends, ⟨by decide, by decide⟩, im_X12_ends, Or.inl ⟨by decide +kernel, lw_g (lw_at lw_m12 48 rfl) rfl, Or.inl (lw_g (lw_at lw_m12 25 rfl) rfl)⟩⟩
  · exact ⟨mok_X12_ends, ⟨by decide, by decide⟩, im_X12_ends, Or.inl ⟨by decide +kernel, lw_g (lw_at lw_m12 49 rfl) rfl, Or.inl (lw_g (lw_at lw_m12 25 rfl) rfl)⟩⟩
  · exact ⟨mok_X12_ends, ⟨by decide, by decide⟩, im_X12_ends, Or.inl ⟨by decide +kernel, lw_g (lw_at lw_m12 50 rfl) rfl, Or.inl (lw_g (lw_at lw_m12 25 rfl) rfl)⟩⟩
  · exact ⟨mok_X12_ends, ⟨by decide, by decide⟩, im_X12_ends, Or.inl ⟨by decide +kernel, lw_g (lw_at lw_m12 51 rfl) rfl, Or.inl (lw_g (lw_at lw_m12 25 rfl) rfl)⟩⟩
  · exact ⟨mok_X12_ends, ⟨by decide, by decide⟩, im_X12_ends, Or.inl ⟨by decide +kernel, lw_g (lw_at lw_m12 55 rfl) rfl, Or.inl (lw_g (lw_at lw_m12 25 rfl) rfl)⟩⟩
  · exact ⟨mok_X12_ends, ⟨by decide, by decide⟩, im_X12_ends, Or.inl ⟨by decide +kernel, lw_g (lw_at lw_m12 56 rfl) rfl, Or.inl (lw_g (lw_at lw_m12 25 rfl) rfl)⟩⟩
  · exact ⟨mok_X12_ends, ⟨by decide, by decide⟩, im_X12_ends, Or.inl ⟨by decide +kernel, lw_g (lw_at lw_m12 57 rfl) rfl, Or.inl (lw_g (lw_at lw_m12 25 rfl) rfl)⟩⟩⟩
theorem ow17_12_5 : PMk "AlgolHouse$Judge" 148 7 3 := ⟨by decide, fun t m h => by
  rcases dsp_7 h with ⟨rfl, rfl⟩ | ⟨rfl, rfl⟩ | ⟨rfl, rfl⟩ | ⟨rfl, rfl⟩ | ⟨rfl, rfl⟩ | ⟨rfl, rfl⟩ | ⟨rfl, rfl⟩ | ⟨rfl, rfl⟩ | ⟨rfl, rfl⟩ | ⟨rfl, rfl⟩ | ⟨rfl, rfl⟩ | ⟨rfl, rfl⟩ | ⟨rfl, rfl⟩ | ⟨rfl, rfl⟩ | ⟨rfl, rfl⟩ | ⟨rfl, rfl⟩ | ⟨rfl, rfl⟩ | ⟨rfl, rfl⟩ | ⟨rfl, rfl⟩ | ⟨rfl, rfl⟩ | ⟨rfl, rfl⟩ | ⟨rfl, rfl⟩ | ⟨rfl, rfl⟩ | ⟨rfl, rfl⟩
  · exact ⟨mok_X12_comes, ⟨by decide, by decide⟩, im_X12_comes, Or.inl ⟨by decide +kernel, lw_g (lw_at lw_m12 117 rfl) rfl, Or.inl (lw_g (lw_at lw_m12 114 rfl) rfl)⟩⟩
  · exact ⟨mok_X12_comes, ⟨by decide, by decide⟩, im_X12_comes, Or.inl ⟨by decide +kernel, lw_g (lw_at lw_m12 118 rfl) rfl, Or.inl (lw_g (lw_at lw_m12 114 rfl) rfl)⟩⟩
  · exact ⟨mok_X12_comes, ⟨by decide, by decide⟩, im_X12_comes, Or.inl ⟨by decide +kernel, lw_g (lw_at lw_m12 120 rfl) rfl, Or.inl (lw_g (lw_at lw_m12 114 rfl) rfl)⟩⟩
  · exact ⟨mok_X12_comes, ⟨by decide, by decide⟩, im_X12_comes, Or.inl ⟨by decide +kernel, lw_g (lw_at lw_m12 150 rfl) rfl, Or.inl (lw_g (lw_at lw_m12 114 rfl) rfl)⟩⟩
  · exact ⟨mok_X12_comes, ⟨by decide, by decide⟩, im_X12_comes, Or.inl ⟨by decide +kernel, lw_g (lw_at lw_m12 155 rfl) rfl, Or.inl (lw_g (lw_at lw_m12 114 rfl) rfl)⟩⟩
  · exact ⟨mok_X12_comes, ⟨by decide, by decide⟩, im_X12_comes, Or.inl ⟨by decide +kernel, lw_g (lw_at lw_m12 164 rfl) rfl, Or.inl (lw_g (lw_at lw_m12 114 rfl) rfl)⟩⟩
  · exact ⟨mok_X16_comes, ⟨by decide, by decide⟩, im_X16_comes, Or.inr ⟨⟨"AlgolHouse$Node", "comes", "(LAlgolHouse$Judge;LAlgolHouse$Mode;)V"⟩, "AlgolHouse$Node", by decide +kernel, lw_g (lw_at lw_m12 114 rfl) rfl, lw_g (lw_at lw_m12 116 rfl) rfl, Or.inr ⟨lw_g (lw_at lw_m12 115 rfl) rfl, _, _, _, lw_g (lw_at lw_m12 166 rfl) rfl⟩, ⟨by decide +kernel, by decide +kernel⟩, lw_g (lw_at lw_m12 121 rfl) rfl⟩⟩
  · exact ⟨mok_X12_comes, ⟨by decide, by decide⟩, im_X12_comes, Or.inl ⟨by decide +kernel, lw_g (lw_at lw_m12 147 rfl) rfl, Or.inl (lw_g (lw_at lw_m12 114 rfl) rfl)⟩⟩
  · exact ⟨mok_X12_comes, ⟨by decide, by decide⟩, im_X12_comes, Or.inl ⟨by decide +kernel, lw_g (lw_at lw_m12 119 rfl) rfl, Or.inl (lw_g (lw_at lw_m12 114 rfl) rfl)⟩⟩
  · exact ⟨mok_X12_comes, ⟨by decide, by decide⟩, im_X12_comes, Or.inl ⟨by decide +kernel, lw_g (lw_at lw_m12 151 rfl) rfl, Or.inl (lw_g (lw_at lw_m12 114 rfl) rfl)⟩⟩
  · exact ⟨mok_X12_comes, ⟨by decide, by decide⟩, im_X12_comes, Or.inl ⟨by decide +kernel, lw_g (lw_at lw_m12 160 rfl) rfl, Or.inl (lw_g (lw_at lw_m12 114 rfl) rfl)⟩⟩
  · exact ⟨mok_X12_comes, ⟨by decide, by decide⟩, im_X12_comes, Or.inl ⟨by decide +kernel, lw_g (lw_at lw_m12 165 rfl) rfl, Or.inl (lw_g (lw_at lw_m12 114 rfl) rfl)⟩⟩
  · exact ⟨mok_X12_comes, ⟨by decide, by decide⟩, im_X12_comes, Or.inl ⟨by decide +kernel, lw_g (lw_at lw_m12 148 rfl) rfl, Or.inl (lw_g (lw_at lw_m12 114 rfl) rfl)⟩⟩
  · exact ⟨mok_X12_comes, ⟨by decide, by decide⟩, im_X12_comes, Or.inl ⟨by decide +kernel, lw_g (lw_at lw_m12 149 rfl) rfl, Or.inl (lw_g (lw_at lw_m12 114 rfl) rfl)⟩⟩
  · exact ⟨mok_X12_comes, ⟨by decide, by decide⟩, im_X12_comes, Or.inl ⟨by decide +kernel, lw_g (lw_at lw_m12 152 rfl) rfl, Or.inl (lw_g (lw_at lw_m12 114 rfl) rfl)⟩⟩
  · exact ⟨mok_X12_comes, ⟨by decide, by decide⟩, im_X12_comes, Or.inl ⟨by decide +kernel, lw_g (lw_at lw_m12 153 rfl) rfl, Or.inl (lw_g (lw_at lw_m12 114 rfl) rfl)⟩⟩
  · exact ⟨mok_X37_comes, ⟨by decide, by decide⟩, im_X37_comes, Or.inr ⟨⟨"AlgolHouse$Node", "comes", "(LAlgolHouse$Judge;LAlgolHouse$Mode;)V"⟩, "AlgolHouse$Node", by decide +kernel, lw_g (lw_at lw_m12 114 rfl) rfl, lw_g (lw_at lw_m12 116 rfl) rfl, Or.inr ⟨lw_g (lw_at lw_m12 115 rfl) rfl, _, _, _, lw_g (lw_at lw_m12 166 rfl) rfl⟩, ⟨by decide +kernel, by decide +kernel⟩, lw_g (lw_at lw_m12 154 rfl) rfl⟩⟩
  · exact ⟨mok_X12_comes, ⟨by decide, by decide⟩, im_X12_comes, Or.inl ⟨by decide +kernel, lw_g (lw_at lw_m12 156 rfl) rfl, Or.inl (lw_g (lw_at lw_m12 114 rfl) rfl)⟩⟩
  · exact ⟨mok_X12_comes, ⟨by decide, by decide⟩, im_X12_comes, Or.inl ⟨by decide +kernel, lw_g (lw_at lw_m12 157 rfl) rfl, Or.inl (lw_g (lw_at lw_m12 114 rfl) rfl)⟩⟩
  · exact ⟨mok_X12_comes, ⟨by decide, by decide⟩, im_X12_comes, Or.inl ⟨by decide +kernel, lw_g (lw_at lw_m12 158 rfl) rfl, Or.inl (lw_g (lw_at lw_m12 114 rfl) rfl)⟩⟩
  · exact ⟨mok_X12_comes, ⟨by decide, by decide⟩, im_X12_comes, Or.inl ⟨by decide +kernel, lw_g (lw_at lw_m12 159 rfl) rfl, Or.inl (lw_g (lw_at lw_m12 114 rfl) rfl)⟩⟩
  · exact ⟨mok_X15_comes, ⟨by decide, by decide⟩, im_X15_comes, Or.inr ⟨⟨"AlgolHouse$Node", "comes", "(LAlgolHouse$Judge;LAlgolHouse$Mode;)V"⟩, "AlgolHouse$Node", by decide +kernel, lw_g (lw_at lw_m12 114 rfl) rfl, lw_g (lw_at lw_m12 116 rfl) rfl, Or.inr ⟨lw_g (lw_at lw_m12 115 rfl) rfl, _, _, _, lw_g (lw_at lw_m12 166 rfl) rfl⟩, ⟨by decide +kernel, by decide +kernel⟩, lw_g (lw_at lw_m12 161 rfl) rfl⟩⟩
  · exact ⟨mok_X12_comes, ⟨by decide, by decide⟩, im_X12_comes, Or.inl ⟨by decide +kernel, lw_g (lw_at lw_m12 162 rfl) rfl, Or.inl (lw_g (lw_at lw_m12 114 rfl) rfl)⟩⟩
  · exact ⟨mok_X12_comes, ⟨by decide, by decide⟩, im_X12_comes, Or.inl ⟨by decide +kernel, lw_g (lw_at lw_m12 163 rfl) rfl, Or.inl (lw_g (lw_at lw_m12 114 rfl) rfl)⟩⟩⟩
theorem ow17_12_6 : PMk "AlgolHouse$Judge" 152 6 2 := ⟨by decide, fun t m h => by
  rcases dsp_6 h with ⟨rfl, rfl⟩ | ⟨rfl, rfl⟩ | ⟨rfl, rfl⟩ | ⟨rfl, rfl⟩ | ⟨rfl, rfl⟩ | ⟨rfl, rfl⟩ | ⟨rfl, rfl⟩ | ⟨rfl, rfl⟩ | ⟨rfl, rfl⟩ | ⟨rfl, rfl⟩ | ⟨rfl, rfl⟩ | ⟨rfl, rfl⟩ | ⟨rfl, rfl⟩ | ⟨rfl, rfl⟩ | ⟨rfl, rfl⟩ | ⟨rfl, rfl⟩ | ⟨rfl, rfl⟩ | ⟨rfl, rfl⟩ | ⟨rfl, rfl⟩ | ⟨rfl, rfl⟩ | ⟨rfl, rfl⟩ | ⟨rfl, rfl⟩ | ⟨rfl, rfl⟩ | ⟨rfl, rfl⟩
  · exact ⟨mok_X12_end, ⟨by decide, by decide⟩, im_X12_end, Or.inl ⟨by decide +kernel, lw_g (lw_at lw_m12 67 rfl) rfl, Or.inl (lw_g (lw_at lw_m12 64 rfl) rfl)⟩⟩
  · exact ⟨mok_X12_end, ⟨by decide, by decide⟩, im_X12_end, Or.inl ⟨by decide +kernel, lw_g (lw_at lw_m12 68 rfl) rfl, Or.inl (lw_g (lw_at lw_m12 64 rfl) rfl)⟩⟩
  · exact ⟨mok_X12_end, ⟨by decide, by decide⟩, im_X12_end, Or.inl ⟨by decide +kernel, lw_g (lw_at lw_m12 75 rfl) rfl, Or.inl (lw_g (lw_at lw_m12 64 rfl) rfl)⟩⟩
  · exact ⟨mok_X12_end, ⟨by decide, by decide⟩, im_X12_end, Or.inl ⟨by decide +kernel, lw_g (lw_at lw_m12 80 rfl) rfl, Or.inl (lw_g (lw_at lw_m12 64 rfl) rfl)⟩⟩
  · exact ⟨mok_X12_end, ⟨by decide, by decide⟩, im_X12_end, Or.inl ⟨by decide +kernel, lw_g (lw_at lw_m12 90 rfl) rfl, Or.inl (lw_g (lw_at lw_m12 64 rfl) rfl)⟩⟩
  · exact ⟨mok_X12_end, ⟨by decide, by decide⟩, im_X12_end, Or.inl ⟨by decide +kernel, lw_g (lw_at lw_m12 101 rfl) rfl, Or.inl (lw_g (lw_at lw_m12 64 rfl) rfl)⟩⟩
  · exact ⟨mok_X12_end, ⟨by decide, by decide⟩, im_X12_end, Or.inl ⟨by decide +kernel, lw_g (lw_at lw_m12 76 rfl) rfl, Or.inl (lw_g (lw_at lw_m12 64 rfl) rfl)⟩⟩
  · exact ⟨mok_X12_end, ⟨by decide, by decide⟩, im_X12_end, Or.inl ⟨by decide +kernel, lw_g (lw_at lw_m12 77 rfl) rfl, Or.inl (lw_g (lw_at lw_m12 64 rfl) rfl)⟩⟩
  · exact ⟨mok_X32_end, ⟨by decide, by decide⟩, im_X32_end, Or.inr ⟨⟨"AlgolHouse$Node", "end", "(I)LAlgolHouse$Node;"⟩, "AlgolHouse$Node", by decide +kernel, lw_g (lw_at lw_m12 64 rfl) rfl, lw_g (lw_at lw_m12 66 rfl) rfl, Or.inr ⟨lw_g (lw_at lw_m12 65 rfl) rfl, _, _, _, lw_g (lw_at lw_m12 108 rfl) rfl⟩, ⟨by decide +kernel, by decide +kernel⟩, lw_g (lw_at lw_m12 69 rfl) rfl⟩⟩
  · exact ⟨mok_X30_end, ⟨by decide, by decide⟩, im_X30_end, Or.inr ⟨⟨"AlgolHouse$Node", "end", "(I)LAlgolHouse$Node;"⟩, "AlgolHouse$Node", by decide +kernel, lw_g (lw_at lw_m12 64 rfl) rfl, lw_g (lw_at lw_m12 66 rfl) rfl, Or.inr ⟨lw_g (lw_at lw_m12 65 rfl) rfl, _, _, _, lw_g (lw_at lw_m12 108 rfl) rfl⟩, ⟨by decide +kernel, by decide +kernel⟩, lw_g (lw_at lw_m12 81 rfl) rfl⟩⟩
  · exact ⟨mok_X14_end, ⟨by decide, by decide⟩, im_X14_end, Or.inr ⟨⟨"AlgolHouse$Node", "end", "(I)LAlgolHouse$Node;"⟩, "AlgolHouse$Node", by decide +kernel, lw_g (lw_at lw_m12 64 rfl) rfl, lw_g (lw_at lw_m12 66 rfl) rfl, Or.inr ⟨lw_g (lw_at lw_m12 65 rfl) rfl, _, _, _, lw_g (lw_at lw_m12 108 rfl) rfl⟩, ⟨by decide +kernel, by decide +kernel⟩, lw_g (lw_at lw_m12 95 rfl) rfl⟩⟩
  · exact ⟨mok_X31_end, ⟨by decide, by decide⟩, im_X31_end, Or.inr ⟨⟨"AlgolHouse$Node", "end", "(I)LAlgolHouse$Node;"⟩, "AlgolHouse$Node", by decide +kernel, lw_g (lw_at lw_m12 64 rfl) rfl, lw_g (lw_at lw_m12 66 rfl) rfl, Or.inr ⟨lw_g (lw_at lw_m12 65 rfl) rfl, _, _, _, lw_g (lw_at lw_m12 108 rfl) rfl⟩, ⟨by decide +kernel, by decide +kernel⟩, lw_g (lw_at lw_m12 102 rfl) rfl⟩⟩
  · exact ⟨mok_X12_end, ⟨by decide, by decide⟩, im_X12_end, Or.inl ⟨by decide +kernel, lw_g (lw_at lw_m12 78 rfl) rfl, Or.inl (lw_g (lw_at lw_m12 64 rfl) rfl)⟩⟩
  · exact ⟨mok_X12_end, ⟨by decide, by decide⟩, im_X12_end, Or.inl ⟨by decide +kernel, lw_g (lw_at lw_m12 79 rfl) rfl, Or.inl (lw_g (lw_at lw_m12 64 rfl) rfl)⟩⟩
  · exact ⟨mok_X12_end, ⟨by decide, by decide⟩, im_X12_end, Or.inl ⟨by decide +kernel, lw_g (lw_at lw_m12 87 rfl) rfl, Or.inl (lw_g (lw_at lw_m12 64 rfl) rfl)⟩⟩
  · exact ⟨mok_X12_end, ⟨by decide, by decide⟩, im_X12_end, Or.inl ⟨by decide +kernel, lw_g (lw_at lw_m12 88 rfl) rfl, Or.inl (lw_g (lw_at lw_m12 64 rfl) rfl)⟩⟩
  · exact ⟨mok_X12_end, ⟨by decide, by decide⟩, im_X12_end, Or.inl ⟨by decide +kernel, lw_g (lw_at lw_m12 89 rfl) rfl, Or.inl (lw_g (lw_at lw_m12 64 rfl) rfl)⟩⟩
  · exact ⟨mok_X12_end, ⟨by decide, by decide⟩, im_X12_end, Or.inl ⟨by decide +kernel, lw_g (lw_at lw_m12 91 rfl) rfl, Or.inl (lw_g (lw_at lw_m12 64 rfl) rfl)⟩⟩
  · exact ⟨mok_X12_end, ⟨by decide, by decide⟩, im_X12_end, Or.inl ⟨by decide +kernel, lw_g (lw_at lw_m12 92 rfl) rfl, Or.inl (lw_g (lw_at lw_m12 64 rfl) rfl)⟩⟩
  · exact ⟨mok_X12_end, ⟨by decide, by decide⟩, im_X12_end, Or.inl ⟨by decide +kernel, lw_g (lw_at lw_m12 93 rfl) rfl, Or.inl (lw_g (lw_at lw_m12 64 rfl) rfl)⟩⟩
  · exact ⟨mok_X12_end, ⟨by decide, by decide⟩, im_X12_end, Or.inl ⟨by decide +kernel, lw_g (lw_at lw_m12 94 rfl) rfl, Or.inl (lw_g (lw_at lw_m12 64 rfl) rfl)⟩⟩
  · exact ⟨mok_X12_end, ⟨by decide, by decide⟩, im_X12_end, Or.inl ⟨by decide +kernel, lw_g (lw_at lw_m12 98 rfl) rfl, Or.inl (lw_g (lw_at lw_m12 64 rfl) rfl)⟩⟩
  · exact ⟨mok_X12_end, ⟨by decide, by decide⟩, im_X12_end, Or.inl ⟨by decide +kernel, lw_g (lw_at lw_m12 99 rfl) rfl, Or.inl (lw_g (lw_at lw_m12 64 rfl) rfl)⟩⟩
  · exact ⟨mok_X12_end, ⟨by decide, by decide⟩, im_X12_end, Or.inl ⟨by decide +kernel, lw_g (lw_at lw_m12 100 rfl) rfl, Or.inl (lw_g (lw_at lw_m12 64 rfl) rfl)⟩⟩⟩
theorem ow17_12 : ∀ q ∈ ([(63, 1), (79, 2), (87, 3), (93, 4), (145, 5), (148, 7), (152, 6)] : List (Nat × Nat)), ∀ n, pN q.2 n → PMk "AlgolHouse$Judge" q.1 q.2 n := List.forall_mem_cons.mpr ⟨(fun n hn => by cases hn; exact ow17_12_0), List.forall_mem_cons.mpr ⟨(fun n hn => by cases hn; exact ow17_12_1), List.forall_mem_cons.mpr ⟨(fun n hn => by cases hn; exact ow17_12_2), List.forall_mem_cons.mpr ⟨(fun n hn => by cases hn; exact ow17_12_3), List.forall_mem_cons.mpr ⟨(fun n hn => by cases hn; exact ow17_12_4), List.forall_mem_cons.mpr ⟨(fun n hn => by cases hn; exact ow17_12_5), List.forall_mem_cons.mpr ⟨(fun n hn => by cases hn; exact ow17_12_6), fun q h => by cases h⟩⟩⟩⟩⟩⟩⟩
theorem ow17_13 : ∀ q ∈ ([(3, 0)] : List (Nat × Nat)), Cond.methodLink "AlgolHouse$Judge" q.1 Lib.objectInit ∈ lw_all := List.forall_mem_cons.mpr ⟨lw_g (lw_at lw_m1 179 rfl) rfl, fun q h => by cases h⟩
theorem ow17_14 : ∀ q ∈ ([] : List (Nat × Nat)), JMk "AlgolHouse$Judge" q.1 q.2 := fun q h => by cases h
theorem ow17_15 : ∀ q ∈ ([] : List (Nat × Nat)), exT q.2 ∧ NLk "AlgolHouse$Judge" q.1 q.2 := fun q h => by cases h
theorem ow17_16 : ∀ q ∈ ([] : List (Nat × Nat)), exT q.2 ∧ Cond.methodLink "AlgolHouse$Judge" q.1 ⟨cN q.2, "<init>", "()V"⟩ ∈ lw_all := fun q h => by cases h
def Om17 : Om := [[(12, 235145234), (21, 243533842), (40, 293865490), (48, 251922450), (52, 260311058), (83, 748831790), (109, 1529434790), (128, 1546212006), (137, 1167998074), (143, 1159609466), (155, 757220398), (160, 740443180), (188, 1394952854), (191, 638128676), (194, 671683110)], [(48, 251922450), (52, 260311058), (125, 629674014)], [(12, 235145234), (21, 243533842), (30, 268699666), (34, 277088274), (37, 285476882), (40, 293865490)], [], [], [(9, 10), (18, 37), (25, 9), (43, 44), (56, 48), (104, 41), (120, 7)], [], [(64, 4363), (77, 8385)], [], [], [(11, 18632865), (20, 22882897), (27, 24397970), (45, 36004547), (58, 164725505), (106, 160254611), (122, 160972916)], [(59, 165774082), (69, 165249793), (73, 166822658), (90, 168133378), (96, 118558898), (100, 17047619), (112, 160516754), (116, 15474756), (131, 126677474), (140, 167346946), (156, 16523330), (164, 16785475), (168, 16261186), (172, 23407186), (176, 17571907), (180, 24193618), (184, 119869618), (197, 25446546), (201, 25184401), (205, 24922257), (209, 23669332), (213, 18096196)], [(63, 1), (79, 2), (87, 3), (93, 4), (145, 5), (148, 7), (152, 6)], [(3, 0)], [], [], []]
def Ok17 : List (Nat × Int) := []
def Ol17 : List (Nat × Int) := []
theorem ow17 {s0 : State} (hN : NCs s0) : OwnOK s0 "AlgolHouse$Judge" Om17 Ok17 Ol17 := ⟨ow17_k, ow17_l, ow17_0, ow17_1, ow17_2, ow17_3, ow17_4, ow17_5, ow17_6, ow17_7, ow17_8 hN, ow17_9, ow17_10, ow17_11, ow17_12, ow17_13, ow17_14, ow17_15, ow17_16⟩
theorem ow18_k : ∀ q ∈ ([] : List (Nat × Int)), Cond.constant "AlgolHouse$Lexer" q.1 (Int32.ofInt q.2) ∈ lw_all := fun q h => by cases h
theorem ow18_l : ∀ q ∈ ([(94, 10), (96, 48), (100, 2147483647)] : List (Nat × Int)), Cond.constantLong "AlgolHouse$Lexer" q.1 (Int64.ofInt q.2) ∈ lw_all := List.forall_mem_cons.mpr ⟨lw_g (lw_at lw_m5 8 rfl) rfl, List.forall_mem_cons.mpr ⟨lw_g (lw_at lw_m5 9 rfl) rfl, List.forall_mem_cons.mpr ⟨lw_g (lw_at lw_m5 10 rfl) rfl, fun q h => by cases h⟩⟩⟩
theorem ow18_0 : ∀ q ∈ ([(9, 302320150), (17, 319097366), (21, 327485974), (25, 335874582), (40, 310708756), (44, 361040404), (47, 352651798), (51, 344263188)] : List (Nat × Nat)), q.2 ∈ iFs ∧ FLk "AlgolHouse$Lexer" q.1 q.2 := List.forall_mem_cons.mpr ⟨⟨List.mem_of_getElem? (i := 36) rfl, ⟨"AlgolHouse$Lexer", Or.inl (lw_g (lw_at lw_m1 142 rfl) rfl), Or.inl rfl⟩⟩, List.forall_mem_cons.mpr ⟨⟨List.mem_of_getElem? (i := 38) rfl, ⟨"AlgolHouse$Lexer", Or.inl (lw_g (lw_at lw_m1 144 rfl) rfl), Or.inl rfl⟩⟩, List.forall_mem_cons.mpr ⟨⟨List.mem_of_getElem? (i := 39) rfl, ⟨"AlgolHouse$Lexer", Or.inl (lw_g (lw_at lw_m1 146 rfl) rfl), Or.inl rfl⟩⟩, List.forall_mem_cons.mpr ⟨⟨List.mem_of_getElem? (i := 40) rfl, ⟨"AlgolHouse$Lexer", Or.inl (lw_g (lw_at lw_m1 148 rfl) rfl), Or.inl rfl⟩⟩, List.forall_mem_cons.mpr ⟨⟨List.mem_of_getElem? (i := 37) rfl, ⟨"AlgolHouse$Lexer", Or.inl (lw_g (lw_at lw_m1 143 rfl) rfl), Or.inl rfl⟩⟩, List.forall_mem_cons.mpr ⟨⟨List.mem_of_getElem? (i := 43) rfl, ⟨"AlgolHouse$Lexer", Or.inl (lw_g (lw_at lw_m1 153 rfl) rfl), Or.inl rfl⟩⟩, List.forall_mem_cons.mpr ⟨⟨List.mem_of_getElem? (i := 42) rfl, ⟨"AlgolHouse$Lexer", Or.inl (lw_g (lw_at lw_m1 152 rfl) rfl), Or.inl rfl⟩⟩, List.forall_mem_cons.mpr ⟨⟨List.mem_of_getElem? (i := 41) rfl, ⟨"AlgolHouse$Lexer", Or.inl (lw_g (lw_at lw_m1 150 rfl) rfl), Or.inl rfl⟩⟩, fun q h => by cases h⟩⟩⟩⟩⟩⟩⟩⟩
theorem ow18_1 : ∀ q ∈ ([(40, 310708756), (44, 361040404), (47, 352651798), (51, 344263188)] : List (Nat × Nat)), q.2 ∈ iFs ∧ PLk "AlgolHouse$Lexer" q.1 q.2 := List.forall_mem_cons.mpr ⟨⟨List.mem_of_getElem? (i := 37) rfl, ⟨"AlgolHouse$Lexer", Or.inl (lw_g (lw_at lw_m1 143 rfl) rfl), Or.inl rfl⟩, rfl⟩, List.forall_mem_cons.mpr ⟨⟨List.mem_of_getElem? (i := 43) rfl, ⟨"AlgolHouse$Lexer", Or.inl (lw_g (lw_at lw_m1 153 rfl) rfl), Or.inl rfl⟩, rfl⟩, List.forall_mem_cons.mpr ⟨⟨List.mem_of_getElem? (i := 42) rfl, ⟨"AlgolHouse$Lexer", Or.inl (lw_g (lw_at lw_m1 152 rfl) rfl), Or.inl rfl⟩, rfl⟩, List.forall_mem_cons.mpr ⟨⟨List.mem_of_getElem? (i := 41) rfl, ⟨"AlgolHouse$Lexer", Or.inl (lw_g (lw_at lw_m1 150 rfl) rfl), Or.inl rfl⟩, rfl⟩, fun q h => by cases h⟩⟩⟩⟩
theorem ow18_2 : ∀ q ∈ ([(9, 302320150), (17, 319097366), (21, 327485974), (25, 335874582)] : List (Nat × Nat)), q.2 ∈ iFs ∧ PFk "AlgolHouse$Lexer" q.1 q.2 := List.forall_mem_cons.mpr ⟨⟨List.mem_of_getElem? (i := 36) rfl, rfl, rfl, "AlgolHouse$Lexer", lw_g (lw_at lw_m1 142 rfl) rfl, Or.inl rfl⟩, List.forall_mem_cons.mpr ⟨⟨List.mem_of_getElem? (i := 38) rfl, rfl, rfl, "AlgolHouse$Lexer", lw_g (lw_at lw_m1 144 rfl) rfl, Or.inl rfl⟩, List.forall_mem_cons.mpr ⟨⟨List.mem_of_getElem? (i := 39) rfl, rfl, rfl, "AlgolHouse$Lexer", lw_g (lw_at lw_m1 146 rfl) rfl, Or.inl rfl⟩, List.forall_mem_cons.mpr ⟨⟨List.mem_of_getElem? (i := 40) rfl, rfl, rfl, "AlgolHouse$Lexer", lw_g (lw_at lw_m1 148 rfl) rfl, Or.inl rfl⟩, fun q h => by cases h⟩⟩⟩⟩
theorem ow18_3 : ∀ q ∈ ([(61, 3598712834), (65, 3607101442), (85, 3615490050), (88, 3623878658), (91, 3632267266), (102, 3640655874), (105, 3649044482), (108, 3657433090)] : List (Nat × Nat)), q.2 ∈ sFs ∧ FLk "AlgolHouse$Lexer" q.1 q.2 := List.forall_mem_cons.mpr ⟨⟨List.mem_of_getElem? (i := 0) rfl, ⟨"AlgolHouse$Token", Or.inl (lw_g (lw_at lw_m4 225 rfl) rfl), Or.inl rfl⟩⟩, List.forall_mem_cons.mpr ⟨⟨List.mem_of_getElem? (i := 1) rfl, ⟨"AlgolHouse$Token", Or.inl (lw_g (lw_at lw_m4 223 rfl) rfl), Or.inl rfl⟩⟩, List.forall_mem_cons.mpr ⟨⟨List.mem_of_getElem? (i := 2) rfl, ⟨"AlgolHouse$Token", Or.inl (lw_g (lw_at lw_m4 234 rfl) rfl), Or.inl rfl⟩⟩, List.forall_mem_cons.mpr ⟨⟨List.mem_of_getElem? (i := 3) rfl, ⟨"AlgolHouse$Token", Or.inl (lw_g (lw_at lw_m4 236 rfl) rfl), Or.inl rfl⟩⟩, List.forall_mem_cons.mpr ⟨⟨List.mem_of_getElem? (i := 4) rfl, ⟨"AlgolHouse$Token", Or.inl (lw_g (lw_at lw_m5 2 rfl) rfl), Or.inl rfl⟩⟩, List.forall_mem_cons.mpr ⟨⟨List.mem_of_getElem? (i := 5) rfl, ⟨"AlgolHouse$Token", Or.inl (lw_g (lw_at lw_m5 11 rfl) rfl), Or.inl rfl⟩⟩, List.forall_mem_cons.mpr ⟨⟨List.mem_of_getElem? (i := 6) rfl, ⟨"AlgolHouse$Token", Or.inl (lw_g (lw_at lw_m5 17 rfl) rfl), Or.inl rfl⟩⟩, List.forall_mem_cons.mpr ⟨⟨List.mem_of_getElem? (i := 7) rfl, ⟨"AlgolHouse$Token", Or.inl (lw_g (lw_at lw_m5 19 rfl) rfl), Or.inl rfl⟩⟩, fun q h => by cases h⟩⟩⟩⟩⟩⟩⟩⟩
theorem ow18_4 : ∀ q ∈ ([(28, 3590324226)] : List (Nat × Nat)), TLk "AlgolHouse$Lexer" q.1 q.2 ∧ q.2 % 4 = 2 := List.forall_mem_cons.mpr ⟨⟨List.mem_of_getElem? (i := 0) rfl, rfl⟩, fun q h => by cases h⟩
theorem ow18_5 : ∀ q ∈ ([] : List (Nat × Nat)), mdT q.2 = true ∧ NLk "AlgolHouse$Lexer" q.1 q.2 := fun q h => by cases h
theorem ow18_6 : ∀ q ∈ ([(15, 73)] : List (Nat × Nat)), mdA q.2 = true ∧ ak q.2 = 2 ∧ ALk "AlgolHouse$Lexer" q.1 q.2 := List.forall_mem_cons.mpr ⟨⟨rfl, rfl, "AlgolHouse$Token", rfl, lw_g (lw_at lw_m1 91 rfl) rfl, lw_at lw_m1 92 rfl⟩, fun q h => by cases h⟩
theorem ow18_7 : ∀ q ∈ ([] : List (Nat × Nat)), XLk "AlgolHouse$Lexer" q.1 q.2 := fun q h => by cases h
theorem ow18_8 {s0 : State} (hN : NCs s0) : ∀ q ∈ ([] : List (Nat × Nat)), YLk s0 "AlgolHouse$Lexer" q.1 q.2 := fun q h => by cases h
theorem ow18_9 : ∀ q ∈ ([(68, 12845059)] : List (Nat × Nat)), q.2 = ACN ∧ ACk "AlgolHouse$Lexer" q.1 ∨ q.2 ≠ ACN ∧ SMk "AlgolHouse$Lexer" q.1 q.2 := List.forall_mem_cons.mpr ⟨Or.inr ⟨by decide, mok_X2_isIn, np_X2_isIn, ⟨sm_X2_isIn, lw_g (lw_at lw_m1 2 rfl) rfl⟩, Or.inl (lw_g (lw_at lw_m4 227 rfl) rfl)⟩, fun q h => by cases h⟩
theorem ow18_10 : ∀ q ∈ ([] : List (Nat × Nat)), IMk "AlgolHouse$Lexer" q.1 q.2 ∧ ∀ t, inT (q.2 / 16 % 128) (q.2 / 2048 % 128) t → inT 1 55 t := fun q h => by cases h
theorem ow18_11_0 : VMk "AlgolHouse$Lexer" 30 173124433 := ⟨mok_J0_length, by decide, fun t ht => by
  obtain rfl : t = 53 := Nat.le_antisymm (Nat.le_trans ht.2 (by decide)) (Nat.le_trans (by decide) ht.1)
  exact ⟨⟨by decide, by decide⟩, im_J0_length, Or.inl ⟨np_J0_length, lw_g (lw_at lw_m1 96 rfl) rfl, Or.inl (lw_g (lw_at lw_m1 94 rfl) rfl)⟩⟩⟩
theorem ow18_11_1 : VMk "AlgolHouse$Lexer" 36 173648722 := ⟨mok_J0_charAt, by decide, fun t ht => by
  obtain rfl : t = 53 := Nat.le_antisymm (Nat.le_trans ht.2 (by decide)) (Nat.le_trans (by decide) ht.1)
  exact ⟨⟨by decide, by decide⟩, im_J0_charAt, Or.inl ⟨np_J0_charAt, lw_g (lw_at lw_m1 106 rfl) rfl, Or.inl (lw_g (lw_at lw_m1 104 rfl) rfl)⟩⟩⟩
theorem ow18_11_2 : VMk "AlgolHouse$Lexer" 54 12331090 := ⟨mok_X2_at, by decide, fun t ht => by
  obtain rfl : t = 5 := Nat.le_antisymm (Nat.le_trans ht.2 (by decide)) (Nat.le_trans (by decide) ht.1)
  exact ⟨⟨by decide, by decide⟩, im_X2_at, Or.inl ⟨np_X2_at, lw_g (lw_ms _ (List.mem_map.mpr ⟨_, List.mem_of_getElem? (i := 1) rfl, rfl⟩)) rfl, Or.inl (lw_g (lw_at lw_m4 215 rfl) rfl)⟩⟩⟩
theorem ow18_11_3 : VMk "AlgolHouse$Lexer" 58 12593234 := ⟨mok_X2_token, by decide, fun t ht => by
  obtain rfl : t = 5 := Nat.le_antisymm (Nat.le_trans ht.2 (by decide)) (Nat.le_trans (by decide) ht.1)
  exact ⟨⟨by decide, by decide⟩, im_X2_token, Or.inl ⟨np_X2_token, lw_g (lw_ms _ (List.mem_map.mpr ⟨_, List.mem_of_getElem? (i := 2) rfl, rfl⟩)) rfl, Or.inl (lw_g (lw_at lw_m4 219 rfl) rfl)⟩⟩⟩
theorem ow18_11_4 : VMk "AlgolHouse$Lexer" 72 13117522 := ⟨mok_X2_bold, by decide, fun t ht => by
  obtain rfl : t = 5 := Nat.le_antisymm (Nat.le_trans ht.2 (by decide)) (Nat.le_trans (by decide) ht.1)
  exact ⟨⟨by decide, by decide⟩, im_X2_bold, Or.inl ⟨np_X2_bold, lw_g (lw_ms _ (List.mem_map.mpr ⟨_, List.mem_of_getElem? (i := 3) rfl, rfl⟩)) rfl, Or.inl (lw_g (lw_at lw_m4 230 rfl) rfl)⟩⟩⟩
theorem ow18_11_5 : VMk "AlgolHouse$Lexer" 75 13379666 := ⟨mok_X2_tag, by decide, fun t ht => by
  obtain rfl : t = 5 := Nat.le_antisymm (Nat.le_trans ht.2 (by decide)) (Nat.le_trans (by decide) ht.1)
  exact ⟨⟨by decide, by decide⟩, im_X2_tag, Or.inl ⟨np_X2_tag, lw_g (lw_ms _ (List.mem_map.mpr ⟨_, List.mem_of_getElem? (i := 4) rfl, rfl⟩)) rfl, Or.inl (lw_g (lw_at lw_m4 238 rfl) rfl)⟩⟩⟩
theorem ow18_11_6 : VMk "AlgolHouse$Lexer" 78 13641810 := ⟨mok_X2_number, by decide, fun t ht => by
  obtain rfl : t = 5 := Nat.le_antisymm (Nat.le_trans ht.2 (by decide)) (Nat.le_trans (by decide) ht.1)
  exact ⟨⟨by decide, by decide⟩, im_X2_number, Or.inl ⟨np_X2_number, lw_g (lw_ms _ (List.mem_map.mpr ⟨_, List.mem_of_getElem? (i := 5) rfl, rfl⟩)) rfl, Or.inl (lw_g (lw_at lw_m5 4 rfl) rfl)⟩⟩⟩
theorem ow18_11_7 : VMk "AlgolHouse$Lexer" 81 13903955 := ⟨mok_X2_sign, by decide, fun t ht => by
  obtain rfl : t = 5 := Nat.le_antisymm (Nat.le_trans ht.2 (by decide)) (Nat.le_trans (by decide) ht.1)
  exact ⟨⟨by decide, by decide⟩, im_X2_sign, Or.inl ⟨np_X2_sign, lw_g (lw_ms _ (List.mem_map.mpr ⟨_, List.mem_of_getElem? (i := 6) rfl, rfl⟩)) rfl, Or.inl (lw_g (lw_at lw_m5 13 rfl) rfl)⟩⟩⟩
theorem ow18_11 : ∀ q ∈ ([(30, 173124433), (36, 173648722), (54, 12331090), (58, 12593234), (72, 13117522), (75, 13379666), (78, 13641810), (81, 13903955)] : List (Nat × Nat)), VMk "AlgolHouse$Lexer" q.1 q.2 := List.forall_mem_cons.mpr ⟨ow18_11_0, List.forall_mem_cons.mpr ⟨ow18_11_1, List.forall_mem_cons.mpr ⟨ow18_11_2, List.forall_mem_cons.mpr ⟨ow18_11_3, List.forall_mem_cons.mpr ⟨ow18_11_4, List.forall_mem_cons.mpr ⟨ow18_11_5, List.forall_mem_cons.mpr ⟨ow18_11_6, List.forall_mem_cons.mpr ⟨ow18_11_7, fun q h => by cases h⟩⟩⟩⟩⟩⟩⟩⟩
theorem ow18_12 : ∀ q ∈ ([] : List (Nat × Nat)), ∀ n, pN q.2 n → PMk "AlgolHouse$Lexer" q.1 q.2 n := fun q h => by cases h
theorem ow18_13 : ∀ q ∈ ([(3, 0)] : List (Nat × Nat)), Cond.methodLink "AlgolHouse$Lexer" q.1 Lib.objectInit ∈ lw_all := List.forall_mem_cons.mpr ⟨lw_g (lw_at lw_m1 90 rfl) rfl, fun q h => by cases h⟩
theorem ow18_14 : ∀ q ∈ ([] : List (Nat × Nat)), JMk "AlgolHouse$Lexer" q.1 q.2 := fun q h => by cases h
theorem ow18_15 : ∀ q ∈ ([] : List (Nat × Nat)), exT q.2 ∧ NLk "AlgolHouse$Lexer" q.1 q.2 := fun q h => by cases h
theorem ow18_16 : ∀ q ∈ ([] : List (Nat × Nat)), exT q.2 ∧ Cond.methodLink "AlgolHouse$Lexer" q.1 ⟨cN q.2, "<init>", "()V"⟩ ∈ lw_all := fun q h => by cases h
def Om18 : Om := [[(9, 302320150), (17, 319097366), (21, 327485974), (25, 335874582), (40, 310708756), (44, 361040404), (47, 352651798), (51, 344263188)], [(40, 310708756), (44, 361040404), (47, 352651798), (51, 344263188)], [(9, 302320150), (17, 319097366), (21, 327485974), (25, 335874582)], [(61, 3598712834), (65, 3607101442), (85, 3615490050), (88, 3623878658), (91, 3632267266), (102, 3640655874), (105, 3649044482), (108, 3657433090)], [(28, 3590324226)], [], [(15, 73)], [], [], [(68, 12845059)], [], [(30, 173124433), (36, 173648722), (54, 12331090), (58, 12593234), (72, 13117522), (75, 13379666), (78, 13641810), (81, 13903955)], [], [(3, 0)], [], [], []]
def Ok18 : List (Nat × Int) := []
def Ol18 : List (Nat × Int) := [(94, 10), (96, 48), (100, 2147483647)]
theorem ow18 {s0 : State} (hN : NCs s0) : OwnOK s0 "AlgolHouse$Lexer" Om18 Ok18 Ol18 := ⟨ow18_k, ow18_l, ow18_0, ow18_1, ow18_2, ow18_3, ow18_4, ow18_5, ow18_6, ow18_7, ow18_8 hN, ow18_9, ow18_10, ow18_11, ow18_12, ow18_13, ow18_14, ow18_15, ow18_16⟩
theorem ow19_k : ∀ q ∈ ([] : List (Nat × Int)), Cond.constant "AlgolHouse$Loop" q.1 (Int32.ofInt q.2) ∈ lw_all := fun q h => by cases h
theorem ow19_l : ∀ q ∈ ([] : List (Nat × Int)), Cond.constantLong "AlgolHouse$Loop" q.1 (Int64.ofInt q.2) ∈ lw_all := fun q h => by cases h
theorem ow19_0 : ∀ q ∈ ([(9, 1050293352), (15, 1067070571), (19, 1058681961), (23, 1075459176), (32, 293865490), (49, 1083847786), (53, 268699666), (68, 748831790), (85, 126027276), (99, 436603930), (103, 1563055275), (108, 740443180), (115, 1571443881), (130, 209913357), (133, 218301965), (136, 226690573), (143, 444992538), (151, 1520980130), (164, 134415886)] : List (Nat × Nat)), q.2 ∈ iFs ∧ FLk "AlgolHouse$Loop" q.1 q.2 := List.forall_mem_cons.mpr ⟨⟨List.mem_of_getElem? (i := 125) rfl, ⟨"AlgolHouse$Loop", Or.inl (lw_g (lw_at lw_m10 18 rfl) rfl), Or.inl rfl⟩⟩, List.forall_mem_cons.mpr ⟨⟨List.mem_of_getElem? (i := 127) rfl, ⟨"AlgolHouse$Loop", Or.inl (lw_g (lw_at lw_m10 20 rfl) rfl), Or.inl rfl⟩⟩, List.forall_mem_cons.mpr ⟨⟨List.mem_of_getElem? (i := 126) rfl, ⟨"AlgolHouse$Loop", Or.inl (lw_g (lw_at lw_m10 19 rfl) rfl), Or.inl rfl⟩⟩, List.forall_mem_cons.mpr ⟨⟨List.mem_of_getElem? (i := 128) rfl, ⟨"AlgolHouse$Loop", Or.inl (lw_g (lw_at lw_m10 21 rfl) rfl), Or.inl rfl⟩⟩, List.forall_mem_cons.mpr ⟨⟨List.mem_of_getElem? (i := 35) rfl, ⟨"AlgolHouse$Judge", Or.inr ⟨_, lw_at lw_m3 153 rfl⟩, Or.inl rfl⟩⟩, List.forall_mem_cons.mpr ⟨⟨List.mem_of_getElem? (i := 129) rfl, ⟨"AlgolHouse$Loop", Or.inl (lw_g (lw_at lw_m10 22 rfl) rfl), Or.inl rfl⟩⟩, List.forall_mem_cons.mpr ⟨⟨List.mem_of_getElem? (i := 32) rfl, ⟨"AlgolHouse$Judge", Or.inr ⟨_, lw_at lw_m3 142 rfl⟩, Or.inl rfl⟩⟩, List.forall_mem_cons.mpr ⟨⟨List.mem_of_getElem? (i := 89) rfl, ⟨"AlgolHouse$Loop", Or.inl (lw_g (lw_at lw_m5 157 rfl) rfl), Or.inr (lw_g (lw_at lw_m5 158 rfl) rfl)⟩⟩, List.forall_mem_cons.mpr ⟨⟨List.mem_of_getElem? (i := 15) rfl, ⟨"AlgolHouse$Frame", Or.inr ⟨_, lw_at lw_m15 161 rfl⟩, Or.inl rfl⟩⟩, List.forall_mem_cons.mpr ⟨⟨List.mem_of_getElem? (i := 52) rfl, ⟨"AlgolHouse$Machine", Or.inr ⟨_, lw_at lw_m4 27 rfl⟩, Or.inl rfl⟩⟩, List.forall_mem_cons.mpr ⟨⟨List.mem_of_getElem? (i := 186) rfl, ⟨"AlgolHouse$Value", Or.inr ⟨_, lw_at lw_m16 136 rfl⟩, Or.inl rfl⟩⟩, List.forall_mem_cons.mpr ⟨⟨List.mem_of_getElem? (i := 88) rfl, ⟨"AlgolHouse$Loop", Or.inl (lw_g (lw_at lw_m5 130 rfl) rfl), Or.inr (lw_g (lw_at lw_m5 131 rfl) rfl)⟩⟩, List.forall_mem_cons.mpr ⟨⟨List.mem_of_getElem? (i := 187) rfl, ⟨"AlgolHouse$Value", Or.inr ⟨_, lw_at lw_m16 144 rfl⟩, Or.inl rfl⟩⟩, List.forall_mem_cons.mpr ⟨⟨List.mem_of_getElem? (i := 25) rfl, ⟨"AlgolHouse$Frame", Or.inr ⟨_, lw_at lw_m15 187 rfl⟩, Or.inl rfl⟩⟩, List.forall_mem_cons.mpr ⟨⟨List.mem_of_getElem? (i := 26) rfl, ⟨"AlgolHouse$Frame", Or.inr ⟨_, lw_at lw_m15 188 rfl⟩, Or.inl rfl⟩⟩, List.forall_mem_cons.mpr ⟨⟨List.mem_of_getElem? (i := 27) rfl, ⟨"AlgolHouse$Frame", Or.inr ⟨_, lw_at lw_m15 189 rfl⟩, Or.inl rfl⟩⟩, List.forall_mem_cons.mpr ⟨⟨List.mem_of_getElem? (i := 53) rfl, ⟨"AlgolHouse$Machine", Or.inr ⟨_, lw_at lw_m4 34 rfl⟩, Or.inl rfl⟩⟩, List.forall_mem_cons.mpr ⟨⟨List.mem_of_getElem? (i := 181) rfl, ⟨"AlgolHouse$Range", Or.inr ⟨_, lw_at lw_m3 234 rfl⟩, Or.inl rfl⟩⟩, List.forall_mem_cons.mpr ⟨⟨List.mem_of_getElem? (i := 16) rfl, ⟨"AlgolHouse$Frame", Or.inr ⟨_, lw_at lw_m15 170 rfl⟩, Or.inl rfl⟩⟩, fun q h => by cases h⟩⟩⟩⟩⟩⟩⟩⟩⟩⟩⟩⟩⟩⟩⟩⟩⟩⟩⟩
theorem ow19_1 : ∀ q ∈ ([(38, 757220398), (49, 1083847786), (85, 126027276), (130, 209913357), (133, 218301965), (136, 226690573)] : List (Nat × Nat)), q.2 ∈ iFs ∧ PLk "AlgolHouse$Loop" q.1 q.2 := List.forall_mem_cons.mpr ⟨⟨List.mem_of_getElem? (i := 90) rfl, ⟨"AlgolHouse$Loop", Or.inl (lw_g (lw_at lw_m5 188 rfl) rfl), Or.inr (lw_g (lw_at lw_m5 189 rfl) rfl)⟩, rfl⟩, List.forall_mem_cons.mpr ⟨⟨List.mem_of_getElem? (i := 129) rfl, ⟨"AlgolHouse$Loop", Or.inl (lw_g (lw_at lw_m10 22 rfl) rfl), Or.inl rfl⟩, rfl⟩, List.forall_mem_cons.mpr ⟨⟨List.mem_of_getElem? (i := 15) rfl, ⟨"AlgolHouse$Frame", Or.inr ⟨_, lw_at lw_m15 161 rfl⟩, Or.inl rfl⟩, rfl⟩, List.forall_mem_cons.mpr ⟨⟨List.mem_of_getElem? (i := 25) rfl, ⟨"AlgolHouse$Frame", Or.inr ⟨_, lw_at lw_m15 187 rfl⟩, Or.inl rfl⟩, rfl⟩, List.forall_mem_cons.mpr ⟨⟨List.mem_of_getElem? (i := 26) rfl, ⟨"AlgolHouse$Frame", Or.inr ⟨_, lw_at lw_m15 188 rfl⟩, Or.inl rfl⟩, rfl⟩, List.forall_mem_cons.mpr ⟨⟨List.mem_of_getElem? (i := 27) rfl, ⟨"AlgolHouse$Frame", Or.inr ⟨_, lw_at lw_m15 189 rfl⟩, Or.inl rfl⟩, rfl⟩, fun q h => by cases h⟩⟩⟩⟩⟩⟩
theorem ow19_2 : ∀ q ∈ ([(9, 1050293352), (15, 1067070571), (19, 1058681961), (23, 1075459176)] : List (Nat × Nat)), q.2 ∈ iFs ∧ PFk "AlgolHouse$Loop" q.1 q.2 := List.forall_mem_cons.mpr ⟨⟨List.mem_of_getElem? (i := 125) rfl, rfl, rfl, "AlgolHouse$Loop", lw_g (lw_at lw_m10 18 rfl) rfl, Or.inl rfl⟩, List.forall_mem_cons.mpr ⟨⟨List.mem_of_getElem? (i := 127) rfl, rfl, rfl, "AlgolHouse$Loop", lw_g (lw_at lw_m10 20 rfl) rfl, Or.inl rfl⟩, List.forall_mem_cons.mpr ⟨⟨List.mem_of_getElem? (i := 126) rfl, rfl, rfl, "AlgolHouse$Loop", lw_g (lw_at lw_m10 19 rfl) rfl, Or.inl rfl⟩, List.forall_mem_cons.mpr ⟨⟨List.mem_of_getElem? (i := 128) rfl, rfl, rfl, "AlgolHouse$Loop", lw_g (lw_at lw_m10 21 rfl) rfl, Or.inl rfl⟩, fun q h => by cases h⟩⟩⟩⟩
theorem ow19_3 : ∀ q ∈ ([] : List (Nat × Nat)), q.2 ∈ sFs ∧ FLk "AlgolHouse$Loop" q.1 q.2 := fun q h => by cases h
theorem ow19_4 : ∀ q ∈ ([] : List (Nat × Nat)), TLk "AlgolHouse$Loop" q.1 q.2 ∧ q.2 % 4 = 2 := fun q h => by cases h
theorem ow19_5 : ∀ q ∈ ([] : List (Nat × Nat)), mdT q.2 = true ∧ NLk "AlgolHouse$Loop" q.1 q.2 := fun q h => by cases h
theorem ow19_6 : ∀ q ∈ ([] : List (Nat × Nat)), mdA q.2 = true ∧ ak q.2 = 2 ∧ ALk "AlgolHouse$Loop" q.1 q.2 := fun q h => by cases h
theorem ow19_7 : ∀ q ∈ ([] : List (Nat × Nat)), XLk "AlgolHouse$Loop" q.1 q.2 := fun q h => by cases h
theorem ow19_8 {s0 : State} (hN : NCs s0) : ∀ q ∈ ([] : List (Nat × Nat)), YLk s0 "AlgolHouse$Loop" q.1 q.2 := fun q h => by cases h
theorem ow19_9 : ∀ q ∈ ([(26, 170655745)] : List (Nat × Nat)), q.2 = ACN ∧ ACk "AlgolHouse$Loop" q.1 ∨ q.2 ≠ ACN ∧ SMk "AlgolHouse$Loop" q.1 q.2 := List.forall_mem_cons.mpr ⟨Or.inr ⟨by decide, mok_J17_bitCount, np_J17_bitCount, ⟨sm_J17_bitCount, lw_g (lw_at lw_m1 25 rfl) rfl⟩, Or.inl (lw_g (lw_at lw_m13 52 rfl) rfl)⟩, fun q h => by cases h⟩
theorem ow19_10 : ∀ q ∈ ([(3, 118034610)] : List (Nat × Nat)), IMk "AlgolHouse$Loop" q.1 q.2 ∧ ∀ t, inT (q.2 / 16 % 128) (q.2 / 2048 % 128) t → inT 1 55 t := List.forall_mem_cons.mpr ⟨⟨⟨mok_X12_init, np_X12_init, by decide, rfl, im_X12_init, ⟨_, _, rfl⟩, Or.inl (lw_g (lw_at lw_m10 17 rfl) rfl)⟩, fun t ht => ⟨Nat.le_trans (by decide) ht.1, Nat.le_trans ht.2 (by decide)⟩⟩, fun q h => by cases h⟩
theorem ow19_11_0 : VMk "AlgolHouse$Loop" 41 152097185 := ⟨mok_X34_numbers, by decide, fun t ht => by
  obtain rfl : t = 26 := Nat.le_antisymm (Nat.le_trans ht.2 (by decide)) (Nat.le_trans (by decide) ht.1)
  exact ⟨⟨by decide, by decide⟩, im_X34_numbers, Or.inl ⟨np_X34_numbers, lw_g (lw_ms _ (List.mem_map.mpr ⟨_, List.mem_of_getElem? (i := 86) rfl, rfl⟩)) rfl, Or.inl (lw_g (lw_at lw_m13 48 rfl) rfl)⟩⟩⟩
theorem ow19_11_1 : VMk "AlgolHouse$Loop" 45 14950465 := ⟨mok_X3_begin, by decide, fun t ht => by
  obtain rfl : t = 4 := Nat.le_antisymm (Nat.le_trans ht.2 (by decide)) (Nat.le_trans (by decide) ht.1)
  exact ⟨⟨by decide, by decide⟩, im_X3_begin, Or.inl ⟨np_X3_begin, lw_g (lw_at lw_m11 92 rfl) rfl, Or.inl (lw_g (lw_at lw_m14 74 rfl) rfl)⟩⟩⟩
theorem ow19_11_2 : VMk "AlgolHouse$Loop" 56 15212613 := ⟨mok_X3_declare, by decide, fun t ht => by
  obtain rfl : t = 4 := Nat.le_antisymm (Nat.le_trans ht.2 (by decide)) (Nat.le_trans (by decide) ht.1)
  exact ⟨⟨by decide, by decide⟩, im_X3_declare, Or.inl ⟨np_X3_declare, lw_g (lw_at lw_m11 128 rfl) rfl, Or.inl (lw_g (lw_at lw_m14 75 rfl) rfl)⟩⟩⟩
theorem ow19_11_3 : VMk "AlgolHouse$Loop" 64 17309764 := ⟨mok_X3_come, by decide, fun t ht => by
  obtain rfl : t = 4 := Nat.le_antisymm (Nat.le_trans ht.2 (by decide)) (Nat.le_trans (by decide) ht.1)
  exact ⟨⟨by decide, by decide⟩, im_X3_come, Or.inl ⟨np_X3_come, lw_g (lw_at lw_m13 1 rfl) rfl, Or.inl (lw_g (lw_at lw_m13 61 rfl) rfl)⟩⟩⟩
theorem ow19_11_4 : VMk "AlgolHouse$Loop" 72 165249793 := ⟨mok_J6_size, by decide, fun t ht => by
  obtain rfl : t = 48 := Nat.le_antisymm (Nat.le_trans ht.2 (by decide)) (Nat.le_trans (by decide) ht.1)
  exact ⟨⟨by decide, by decide⟩, im_J6_size, Or.inl ⟨np_J6_size, lw_g (lw_at lw_m4 167 rfl) rfl, Or.inl (lw_g (lw_at lw_m13 62 rfl) rfl)⟩⟩⟩
theorem ow19_11_5 : VMk "AlgolHouse$Loop" 77 17047619 := ⟨mok_X3_strong, by decide, fun t ht => by
  obtain rfl : t = 4 := Nat.le_antisymm (Nat.le_trans ht.2 (by decide)) (Nat.le_trans (by decide) ht.1)
  exact ⟨⟨by decide, by decide⟩, im_X3_strong, Or.inl ⟨np_X3_strong, lw_g (lw_at lw_m12 134 rfl) rfl, Or.inl (lw_g (lw_at lw_m13 63 rfl) rfl)⟩⟩⟩
theorem ow19_11_6 : VMk "AlgolHouse$Loop" 81 17834049 := ⟨mok_X3_end, by decide, fun t ht => by
  obtain rfl : t = 4 := Nat.le_antisymm (Nat.le_trans ht.2 (by decide)) (Nat.le_trans (by decide) ht.1)
  exact ⟨⟨by decide, by decide⟩, im_X3_end, Or.inl ⟨np_X3_end, lw_g (lw_at lw_m13 77 rfl) rfl, Or.inl (lw_g (lw_at lw_m14 11 rfl) rfl)⟩⟩⟩
theorem ow19_11_7 : VMk "AlgolHouse$Loop" 90 27275364 := ⟨mok_X7_all, by decide, fun t ht => by
  obtain rfl : t = 6 := Nat.le_antisymm (Nat.le_trans ht.2 (by decide)) (Nat.le_trans (by decide) ht.1)
  exact ⟨⟨by decide, by decide⟩, im_X7_all, Or.inl ⟨np_X7_all, lw_g (lw_at lw_m15 233 rfl) rfl, Or.inl (lw_g (lw_at lw_m17 95 rfl) rfl)⟩⟩⟩
theorem ow19_11_8 : VMk "AlgolHouse$Loop" 96 153407907 := ⟨mok_X34_begin, by decide, fun t ht => by
  obtain rfl : t = 26 := Nat.le_antisymm (Nat.le_trans ht.2 (by decide)) (Nat.le_trans (by decide) ht.1)
  exact ⟨⟨by decide, by decide⟩, im_X34_begin, Or.inl ⟨np_X34_begin, lw_g (lw_ms _ (List.mem_map.mpr ⟨_, List.mem_of_getElem? (i := 107) rfl, rfl⟩)) rfl, Or.inl (lw_g (lw_at lw_m17 96 rfl) rfl)⟩⟩⟩
theorem ow19_11_9 : VMk "AlgolHouse$Loop" 111 27013220 := ⟨mok_X7_need, by decide, fun t ht => by
  obtain rfl : t = 6 := Nat.le_antisymm (Nat.le_trans ht.2 (by decide)) (Nat.le_trans (by decide) ht.1)
  exact ⟨⟨by decide, by decide⟩, im_X7_need, Or.inl ⟨np_X7_need, lw_g (lw_at lw_m15 132 rfl) rfl, Or.inl (lw_g (lw_at lw_m17 100 rfl) rfl)⟩⟩⟩
theorem ow19_11_10 : VMk "AlgolHouse$Loop" 118 30683236 := ⟨mok_X7_leave, by decide, fun t ht => by
  obtain rfl : t = 6 := Nat.le_antisymm (Nat.le_trans ht.2 (by decide)) (Nat.le_trans (by decide) ht.1)
  exact ⟨⟨by decide, by decide⟩, im_X7_leave, Or.inl ⟨np_X7_leave, lw_g (lw_at lw_m16 103 rfl) rfl, Or.inl (lw_g (lw_at lw_m17 101 rfl) rfl)⟩⟩⟩
theorem ow19_11_11 : VMk "AlgolHouse$Loop" 122 29634659 := ⟨mok_X7_done, by decide, fun t ht => by
  obtain rfl : t = 6 := Nat.le_antisymm (Nat.le_trans ht.2 (by decide)) (Nat.le_trans (by decide) ht.1)
  exact ⟨⟨by decide, by decide⟩, im_X7_done, Or.inl ⟨np_X7_done, lw_g (lw_at lw_m16 80 rfl) rfl, Or.inl (lw_g (lw_at lw_m17 102 rfl) rfl)⟩⟩⟩
theorem ow19_11_12 : VMk "AlgolHouse$Loop" 126 26488930 := ⟨mok_X7_push, by decide, fun t ht => by
  obtain rfl : t = 6 := Nat.le_antisymm (Nat.le_trans ht.2 (by decide)) (Nat.le_trans (by decide) ht.1)
  exact ⟨⟨by decide, by decide⟩, im_X7_push, Or.inl ⟨np_X7_push, lw_g (lw_at lw_m15 124 rfl) rfl, Or.inl (lw_g (lw_at lw_m17 103 rfl) rfl)⟩⟩⟩
theorem ow19_11_13 : VMk "AlgolHouse$Loop" 139 26751075 := ⟨mok_X7_tick, by decide, fun t ht => by
  obtain rfl : t = 6 := Nat.le_antisymm (Nat.le_trans ht.2 (by decide)) (Nat.le_trans (by decide) ht.1)
  exact ⟨⟨by decide, by decide⟩, im_X7_tick, Or.inl ⟨np_X7_tick, lw_g (lw_at lw_m15 128 rfl) rfl, Or.inl (lw_g (lw_at lw_m17 104 rfl) rfl)⟩⟩⟩
theorem ow19_11_14 : VMk "AlgolHouse$Loop" 147 30158948 := ⟨mok_X7_enter, by decide, fun t ht => by
  obtain rfl : t = 6 := Nat.le_antisymm (Nat.le_trans ht.2 (by decide)) (Nat.le_trans (by decide) ht.1)
  exact ⟨⟨by decide, by decide⟩, im_X7_enter, Or.inl ⟨np_X7_enter, lw_g (lw_at lw_m16 93 rfl) rfl, Or.inl (lw_g (lw_at lw_m17 105 rfl) rfl)⟩⟩⟩
theorem ow19_11_15 : VMk "AlgolHouse$Loop" 157 32256098 := ⟨mok_X7_number, by decide, fun t ht => by
  obtain rfl : t = 6 := Nat.le_antisymm (Nat.le_trans ht.2 (by decide)) (Nat.le_trans (by decide) ht.1)
  exact ⟨⟨by decide, by decide⟩, im_X7_number, Or.inl ⟨np_X7_number, lw_g (lw_at lw_m17 8 rfl) rfl, Or.inl (lw_g (lw_at lw_m17 106 rfl) rfl)⟩⟩⟩
theorem ow19_11_16 : VMk "AlgolHouse$Loop" 160 153670049 := ⟨mok_X34_hasWhile, by decide, fun t ht => by
  obtain rfl : t = 26 := Nat.le_antisymm (Nat.le_trans ht.2 (by decide)) (Nat.le_trans (by decide) ht.1)
  exact ⟨⟨by decide, by decide⟩, im_X34_hasWhile, Or.inl ⟨np_X34_hasWhile, lw_g (lw_ms _ (List.mem_map.mpr ⟨_, List.mem_of_getElem? (i := 108) rfl, rfl⟩)) rfl, Or.inl (lw_g (lw_at lw_m17 107 rfl) rfl)⟩⟩⟩
theorem ow19_11 : ∀ q ∈ ([(41, 152097185), (45, 14950465), (56, 15212613), (64, 17309764), (72, 165249793), (77, 17047619), (81, 17834049), (90, 27275364), (96, 153407907), (111, 27013220), (118, 30683236), (122, 29634659), (126, 26488930), (139, 26751075), (147, 30158948), (157, 32256098), (160, 153670049)] : List (Nat × Nat)), VMk "AlgolHouse$Loop" q.1 q.2 := List.forall_mem_cons.mpr ⟨ow19_11_0, List.forall_mem_cons.mpr ⟨ow19_11_1, List.forall_mem_cons.mpr ⟨ow19_11_2, List.forall_mem_cons.mpr ⟨ow19_11_3, List.forall_mem_cons.mpr ⟨ow19_11_4, List.forall_mem_cons.mpr ⟨ow19_11_5, List.forall_mem_cons.mpr ⟨ow19_11_6, List.forall_mem_cons.mpr ⟨ow19_11_7, List.forall_mem_cons.mpr ⟨ow19_11_8, List.forall_mem_cons.mpr ⟨ow19_11_9, List.forall_mem_cons.mpr ⟨ow19_11_10, List.forall_mem_cons.mpr ⟨ow19_11_11, List.forall_mem_cons.mpr ⟨ow19_11_12, List.forall_mem_cons.mpr ⟨ow19_11_13, List.forall_mem_cons.mpr ⟨ow19_11_14, List.forall_mem_cons.mpr ⟨ow19_11_15, List.forall_mem_cons.mpr ⟨ow19_11_16, fun q h => by cases h⟩⟩⟩⟩⟩⟩⟩⟩⟩⟩⟩⟩⟩⟩⟩⟩⟩
theorem ow19_12_0 : PMk "AlgolHouse$Loop" 60 42 2 := ⟨by decide, fun t m h => by
  rcases dsp_42 h with ⟨rfl, rfl⟩
  · exact ⟨mok_X12_part, ⟨by decide, by decide⟩, im_X12_part, Or.inr ⟨⟨"AlgolHouse$Loop", "part", "(I)LAlgolHouse$Node;"⟩, "AlgolHouse$Node", by decide +kernel, lw_g (lw_at lw_m13 58 rfl) rfl, lw_g (lw_at lw_m13 59 rfl) rfl, Or.inl (lw_at lw_m10 110 rfl), ⟨by decide +kernel, by decide +kernel⟩, lw_g (lw_at lw_m13 60 rfl) rfl⟩⟩⟩
theorem ow19_12 : ∀ q ∈ ([(60, 42)] : List (Nat × Nat)), ∀ n, pN q.2 n → PMk "AlgolHouse$Loop" q.1 q.2 n := List.forall_mem_cons.mpr ⟨(fun n hn => by cases hn; exact ow19_12_0), fun q h => by cases h⟩
theorem ow19_13 : ∀ q ∈ ([] : List (Nat × Nat)), Cond.methodLink "AlgolHouse$Loop" q.1 Lib.objectInit ∈ lw_all := fun q h => by cases h
theorem ow19_14 : ∀ q ∈ ([] : List (Nat × Nat)), JMk "AlgolHouse$Loop" q.1 q.2 := fun q h => by cases h
theorem ow19_15 : ∀ q ∈ ([] : List (Nat × Nat)), exT q.2 ∧ NLk "AlgolHouse$Loop" q.1 q.2 := fun q h => by cases h
theorem ow19_16 : ∀ q ∈ ([] : List (Nat × Nat)), exT q.2 ∧ Cond.methodLink "AlgolHouse$Loop" q.1 ⟨cN q.2, "<init>", "()V"⟩ ∈ lw_all := fun q h => by cases h
def Om19 : Om := [[(9, 1050293352), (15, 1067070571), (19, 1058681961), (23, 1075459176), (32, 293865490), (49, 1083847786), (53, 268699666), (68, 748831790), (85, 126027276), (99, 436603930), (103, 1563055275), (108, 740443180), (115, 1571443881), (130, 209913357), (133, 218301965), (136, 226690573), (143, 444992538), (151, 1520980130), (164, 134415886)], [(38, 757220398), (49, 1083847786), (85, 126027276), (130, 209913357), (133, 218301965), (136, 226690573)], [(9, 1050293352), (15, 1067070571), (19, 1058681961), (23, 1075459176)], [], [], [], [], [], [], [(26, 170655745)], [(3, 118034610)], [(41, 152097185), (45, 14950465), (56, 15212613), (64, 17309764), (72, 165249793), (77, 17047619), (81, 17834049), (90, 27275364), (96, 153407907), (111, 27013220), (118, 30683236), (122, 29634659), (126, 26488930), (139, 26751075), (147, 30158948), (157, 32256098), (160, 153670049)], [(60, 42)], [], [], [], []]
def Ok19 : List (Nat × Int) := []
def Ol19 : List (Nat × Int) := []
theorem ow19 {s0 : State} (hN : NCs s0) : OwnOK s0 "AlgolHouse$Loop" Om19 Ok19 Ol19 := ⟨ow19_k, ow19_l, ow19_0, ow19_1, ow19_2, ow19_3, ow19_4, ow19_5, ow19_6, ow19_7, ow19_8 hN, ow19_9, ow19_10, ow19_11, ow19_12, ow19_13, ow19_14, ow19_15, ow19_16⟩
theorem ow20_k : ∀ q ∈ ([] : List (Nat × Int)), Cond.constant "AlgolHouse$Machine" q.1 (Int32.ofInt q.2) ∈ lw_all := fun q h => by cases h
theorem ow20_l : ∀ q ∈ ([(174, 6364136223846793005), (176, 1442695040888963407), (347, 64), (349, 300)] : List (Nat × Int)), Cond.constantLong "AlgolHouse$Machine" q.1 (Int64.ofInt q.2) ∈ lw_all := List.forall_mem_cons.mpr ⟨lw_g (lw_at lw_m15 239 rfl) rfl, List.forall_mem_cons.mpr ⟨lw_g (lw_at lw_m16 0 rfl) rfl, List.forall_mem_cons.mpr ⟨lw_g (lw_at lw_m17 66 rfl) rfl, List.forall_mem_cons.mpr ⟨lw_g (lw_at lw_m17 67 rfl) rfl, fun q h => by cases h⟩⟩⟩⟩
theorem ow20_0 : ∀ q ∈ ([(21, 377883674), (25, 394660890), (28, 411438106), (33, 428215322), (37, 486935578), (41, 495324186), (45, 554044442), (48, 562433050), (56, 587598874), (65, 528878619), (69, 537267227), (72, 545655833), (76, 478546968), (80, 386272280), (83, 403049496), (86, 419826712), (89, 436603930), (93, 444992538), (97, 453381144), (100, 461769752), (103, 470158360), (106, 503712792), (115, 570821656), (128, 176358924), (131, 117638670), (145, 3509344432), (148, 3517733040), (155, 740443180), (171, 167970318), (178, 579210264), (181, 151193100), (187, 142804494), (195, 134415886), (203, 193136142), (212, 1495814306), (215, 1504202914), (225, 1520980130), (231, 612896798), (238, 621285404), (242, 1151220858), (264, 1571443881), (267, 1579832490), (270, 1646941352), (273, 1563055275), (276, 1588221098), (280, 1596609706), (283, 1604998312), (285, 1613386922), (289, 1621775530), (292, 1630164138), (295, 1655329960), (296, 1663718568), (298, 1411796120), (301, 1638552746), (310, 646517286), (313, 638128676), (317, 671683110), (324, 1403407514), (327, 1420184731), (328, 1428573338), (329, 1436961946), (333, 1453739162), (335, 1462127768), (380, 184747535), (389, 773997614), (399, 782386222)] : List (Nat × Nat)), q.2 ∈ iFs ∧ FLk "AlgolHouse$Machine" q.1 q.2 := List.forall_mem_cons.mpr ⟨⟨List.mem_of_getElem? (i := 45) rfl, ⟨"AlgolHouse$Machine", Or.inl (lw_g (lw_at lw_m4 7 rfl) rfl), Or.inl rfl⟩⟩, List.forall_mem_cons.mpr ⟨⟨List.mem_of_getElem? (i := 47) rfl, ⟨"AlgolHouse$Machine", Or.inl (lw_g (lw_at lw_m4 9 rfl) rfl), Or.inl rfl⟩⟩, List.forall_mem_cons.mpr ⟨⟨List.mem_of_getElem? (i := 49) rfl, ⟨"AlgolHouse$Machine", Or.inl (lw_g (lw_at lw_m4 11 rfl) rfl), Or.inl rfl⟩⟩, List.forall_mem_cons.mpr ⟨⟨List.mem_of_getElem? (i := 51) rfl, ⟨"AlgolHouse$Machine", Or.inl (lw_g (lw_at lw_m4 14 rfl) rfl), Or.inl rfl⟩⟩, List.forall_mem_cons.mpr ⟨⟨List.mem_of_getElem? (i := 58) rfl, ⟨"AlgolHouse$Machine", Or.inl (lw_g (lw_at lw_m4 44 rfl) rfl), Or.inl rfl⟩⟩, List.forall_mem_cons.mpr ⟨⟨List.mem_of_getElem? (i := 59) rfl, ⟨"AlgolHouse$Machine", Or.inl (lw_g (lw_at lw_m4 47 rfl) rfl), Or.inl rfl⟩⟩, List.forall_mem_cons.mpr ⟨⟨List.mem_of_getElem? (i := 66) rfl, ⟨"AlgolHouse$Machine", Or.inl (lw_g (lw_at lw_m4 61 rfl) rfl), Or.inl rfl⟩⟩, List.forall_mem_cons.mpr ⟨⟨List.mem_of_getElem? (i := 67) rfl, ⟨"AlgolHouse$Machine", Or.inl (lw_g (lw_at lw_m4 62 rfl) rfl), Or.inl rfl⟩⟩, List.forall_mem_cons.mpr ⟨⟨List.mem_of_getElem? (i := 70) rfl, ⟨"AlgolHouse$Machine", Or.inl (lw_g (lw_at lw_m4 65 rfl) rfl), Or.inl rfl⟩⟩, List.forall_mem_cons.mpr ⟨⟨List.mem_of_getElem? (i := 63) rfl, ⟨"AlgolHouse$Machine", Or.inl (lw_g (lw_at lw_m4 58 rfl) rfl), Or.inl rfl⟩⟩, List.forall_mem_cons.mpr ⟨⟨List.mem_of_getElem? (i := 64) rfl, ⟨"AlgolHouse$Machine", Or.inl (lw_g (lw_at lw_m4 59 rfl) rfl), Or.inl rfl⟩⟩, List.forall_mem_cons.mpr ⟨⟨List.mem_of_getElem? (i := 65) rfl, ⟨"AlgolHouse$Machine", Or.inl (lw_g (lw_at lw_m4 60 rfl) rfl), Or.inl rfl⟩⟩, List.forall_mem_cons.mpr ⟨⟨List.mem_of_getElem? (i := 57) rfl, ⟨"AlgolHouse$Machine", Or.inl (lw_g (lw_at lw_m4 42 rfl) rfl), Or.inl rfl⟩⟩, List.forall_mem_cons.mpr ⟨⟨List.mem_of_getElem? (i := 46) rfl, ⟨"AlgolHouse$Machine", Or.inl (lw_g (lw_at lw_m4 8 rfl) rfl), Or.inl rfl⟩⟩, List.forall_mem_cons.mpr ⟨⟨List.mem_of_getElem? (i := 48) rfl, ⟨"AlgolHouse$Machine", Or.inl (lw_g (lw_at lw_m4 10 rfl) rfl), Or.inl rfl⟩⟩, List.forall_mem_cons.mpr ⟨⟨List.mem_of_getElem? (i := 50) rfl, ⟨"AlgolHouse$Machine", Or.inl (lw_g (lw_at lw_m4 12 rfl) rfl), Or.inl rfl⟩⟩, List.forall_mem_cons.mpr ⟨⟨List.mem_of_getElem? (i := 52) rfl, ⟨"AlgolHouse$Machine", Or.inl (lw_g (lw_at lw_m4 15 rfl) rfl), Or.inl rfl⟩⟩, List.forall_mem_cons.mpr ⟨⟨List.mem_of_getElem? (i := 53) rfl, ⟨"AlgolHouse$Machine", Or.inl (lw_g (lw_at lw_m4 29 rfl) rfl), Or.inl rfl⟩⟩, List.forall_mem_cons.mpr ⟨⟨List.mem_of_getElem? (i := 54) rfl, ⟨"AlgolHouse$Machine", Or.inl (lw_g (lw_at lw_m4 35 rfl) rfl), Or.inl rfl⟩⟩, List.forall_mem_cons.mpr ⟨⟨List.mem_of_getElem? (i := 55) rfl, ⟨"AlgolHouse$Machine", Or.inl (lw_g (lw_at lw_m4 38 rfl) rfl), Or.inl rfl⟩⟩, List.forall_mem_cons.mpr ⟨⟨List.mem_of_getElem? (i := 56) rfl, ⟨"AlgolHouse$Machine", Or.inl (lw_g (lw_at lw_m4 40 rfl) rfl), Or.inl rfl⟩⟩, List.forall_mem_cons.mpr ⟨⟨List.mem_of_getElem? (i := 60) rfl, ⟨"AlgolHouse$Machine", Or.inl (lw_g (lw_at lw_m4 50 rfl) rfl), Or.inl rfl⟩⟩, List.forall_mem_cons.mpr ⟨⟨List.mem_of_getElem? (i := 68) rfl, ⟨"AlgolHouse$Machine", Or.inl (lw_g (lw_at lw_m4 63 rfl) rfl), Or.inl rfl⟩⟩, List.forall_mem_cons.mpr ⟨⟨List.mem_of_getElem? (i := 21) rfl, ⟨"AlgolHouse$Frame", Or.inr ⟨_, lw_at lw_m15 180 rfl⟩, Or.inl rfl⟩⟩, List.forall_mem_cons.mpr ⟨⟨List.mem_of_getElem? (i := 14) rfl, ⟨"AlgolHouse$Frame", Or.inr ⟨_, lw_at lw_m15 147 rfl⟩, Or.inl rfl⟩⟩, List.forall_mem_cons.mpr ⟨⟨List.mem_of_getElem? (i := 418) rfl, ⟨"AlgolHouse$Fault", Or.inr ⟨_, lw_at lw_m3 208 rfl⟩, Or.inl rfl⟩⟩, List.forall_mem_cons.mpr ⟨⟨List.mem_of_getElem? (i := 419) rfl, ⟨"AlgolHouse$Fault", Or.inr ⟨_, lw_at lw_m3 211 rfl⟩, Or.inl rfl⟩⟩, List.forall_mem_cons.mpr ⟨⟨List.mem_of_getElem? (i := 88) rfl, ⟨"AlgolHouse$Node", Or.inl (lw_g (lw_at lw_m5 117 rfl) rfl), Or.inl rfl⟩⟩, List.forall_mem_cons.mpr ⟨⟨List.mem_of_getElem? (i := 20) rfl, ⟨"AlgolHouse$Frame", Or.inr ⟨_, lw_at lw_m15 178 rfl⟩, Or.inl rfl⟩⟩, List.forall_mem_cons.mpr ⟨⟨List.mem_of_getElem? (i := 69) rfl, ⟨"AlgolHouse$Machine", Or.inl (lw_g (lw_at lw_m4 64 rfl) rfl), Or.inl rfl⟩⟩, List.forall_mem_cons.mpr ⟨⟨List.mem_of_getElem? (i := 18) rfl, ⟨"AlgolHouse$Frame", Or.inr ⟨_, lw_at lw_m15 175 rfl⟩, Or.inl rfl⟩⟩, List.forall_mem_cons.mpr ⟨⟨List.mem_of_getElem? (i := 17) rfl, ⟨"AlgolHouse$Frame", Or.inr ⟨_, lw_at lw_m15 173 rfl⟩, Or.inl rfl⟩⟩, List.forall_mem_cons.mpr ⟨⟨List.mem_of_getElem? (i := 16) rfl, ⟨"AlgolHouse$Frame", Or.inr ⟨_, lw_at lw_m15 169 rfl⟩, Or.inl rfl⟩⟩, List.forall_mem_cons.mpr ⟨⟨List.mem_of_getElem? (i := 23) rfl, ⟨"AlgolHouse$Frame", Or.inr ⟨_, lw_at lw_m15 184 rfl⟩, Or.inl rfl⟩⟩, List.forall_mem_cons.mpr ⟨⟨List.mem_of_getElem? (i := 178) rfl, ⟨"AlgolHouse$Range", Or.inr ⟨_, lw_at lw_m3 226 rfl⟩, Or.inl rfl⟩⟩, List.forall_mem_cons.mpr ⟨⟨List.mem_of_getElem? (i := 179) rfl, ⟨"AlgolHouse$Range", Or.inr ⟨_, lw_at lw_m3 227 rfl⟩, Or.inl rfl⟩⟩, List.forall_mem_cons.mpr ⟨⟨List.mem_of_getElem? (i := 181) rfl, ⟨"AlgolHouse$Range", Or.inr ⟨_, lw_at lw_m3 235 rfl⟩, Or.inl rfl⟩⟩, List.forall_mem_cons.mpr ⟨⟨List.mem_of_getElem? (i := 73) rfl, ⟨"AlgolHouse$Meaning", Or.inl (lw_g (lw_at lw_m11 166 rfl) rfl), Or.inl rfl⟩⟩, List.forall_mem_cons.mpr ⟨⟨List.mem_of_getElem? (i := 74) rfl, ⟨"AlgolHouse$Meaning", Or.inl (lw_g (lw_at lw_m11 170 rfl) rfl), Or.inl rfl⟩⟩, List.forall_mem_cons.mpr ⟨⟨List.mem_of_getElem? (i := 137) rfl, ⟨"AlgolHouse$Routine", Or.inr ⟨_, lw_at lw_m7 40 rfl⟩, Or.inl rfl⟩⟩, List.forall_mem_cons.mpr ⟨⟨List.mem_of_getElem? (i := 187) rfl, ⟨"AlgolHouse$Value", Or.inr ⟨_, lw_at lw_m16 146 rfl⟩, Or.inl rfl⟩⟩, List.forall_mem_cons.mpr ⟨⟨List.mem_of_getElem? (i := 188) rfl, ⟨"AlgolHouse$Value", Or.inr ⟨_, lw_at lw_m16 149 rfl⟩, Or.inl rfl⟩⟩, List.forall_mem_cons.mpr ⟨⟨List.mem_of_getElem? (i := 196) rfl, ⟨"AlgolHouse$Value", Or.inr ⟨_, lw_at lw_m16 176 rfl⟩, Or.inl rfl⟩⟩, List.forall_mem_cons.mpr ⟨⟨List.mem_of_getElem? (i := 186) rfl, ⟨"AlgolHouse$Value", Or.inr ⟨_, lw_at lw_m16 138 rfl⟩, Or.inl rfl⟩⟩, List.forall_mem_cons.mpr ⟨⟨List.mem_of_getElem? (i := 189) rfl, ⟨"AlgolHouse$Value", Or.inr ⟨_, lw_at lw_m16 153 rfl⟩, Or.inl rfl⟩⟩, List.forall_mem_cons.mpr ⟨⟨List.mem_of_getElem? (i := 190) rfl, ⟨"AlgolHouse$Value", Or.inr ⟨_, lw_at lw_m16 157 rfl⟩, Or.inl rfl⟩⟩, List.forall_mem_cons.mpr ⟨⟨List.mem_of_getElem? (i := 191) rfl, ⟨"AlgolHouse$Value", Or.inr ⟨_, lw_at lw_m16 160 rfl⟩, Or.inl rfl⟩⟩, List.forall_mem_cons.mpr ⟨⟨List.mem_of_getElem? (i := 192) rfl, ⟨"AlgolHouse$Value", Or.inr ⟨_, lw_at lw_m16 163 rfl⟩, Or.inl rfl⟩⟩, List.forall_mem_cons.mpr ⟨⟨List.mem_of_getElem? (i := 193) rfl, ⟨"AlgolHouse$Value", Or.inr ⟨_, lw_at lw_m16 167 rfl⟩, Or.inl rfl⟩⟩, List.forall_mem_cons.mpr ⟨⟨List.mem_of_getElem? (i := 194) rfl, ⟨"AlgolHouse$Value", Or.inr ⟨_, lw_at lw_m16 169 rfl⟩, Or.inl rfl⟩⟩, List.forall_mem_cons.mpr ⟨⟨List.mem_of_getElem? (i := 197) rfl, ⟨"AlgolHouse$Value", Or.inr ⟨_, lw_at lw_m16 180 rfl⟩, Or.inl rfl⟩⟩, List.forall_mem_cons.mpr ⟨⟨List.mem_of_getElem? (i := 198) rfl, ⟨"AlgolHouse$Value", Or.inr ⟨_, lw_at lw_m16 182 rfl⟩, Or.inl rfl⟩⟩, List.forall_mem_cons.mpr ⟨⟨List.mem_of_getElem? (i := 168) rfl, ⟨"AlgolHouse$Place", Or.inr ⟨_, lw_at lw_m16 37 rfl⟩, Or.inl rfl⟩⟩, List.forall_mem_cons.mpr ⟨⟨List.mem_of_getElem? (i := 195) rfl, ⟨"AlgolHouse$Value", Or.inr ⟨_, lw_at lw_m16 172 rfl⟩, Or.inl rfl⟩⟩, List.forall_mem_cons.mpr ⟨⟨List.mem_of_getElem? (i := 77) rfl, ⟨"AlgolHouse$Mode", Or.inr ⟨_, lw_at lw_m3 88 rfl⟩, Or.inl rfl⟩⟩, List.forall_mem_cons.mpr ⟨⟨List.mem_of_getElem? (i := 76) rfl, ⟨"AlgolHouse$Mode", Or.inr ⟨_, lw_at lw_m3 79 rfl⟩, Or.inl rfl⟩⟩, List.forall_mem_cons.mpr ⟨⟨List.mem_of_getElem? (i := 80) rfl, ⟨"AlgolHouse$Mode", Or.inr ⟨_, lw_at lw_m3 105 rfl⟩, Or.inl rfl⟩⟩, List.forall_mem_cons.mpr ⟨⟨List.mem_of_getElem? (i := 167) rfl, ⟨"AlgolHouse$Place", Or.inr ⟨_, lw_at lw_m16 36 rfl⟩, Or.inl rfl⟩⟩, List.forall_mem_cons.mpr ⟨⟨List.mem_of_getElem? (i := 169) rfl, ⟨"AlgolHouse$Place", Or.inr ⟨_, lw_at lw_m16 40 rfl⟩, Or.inl rfl⟩⟩, List.forall_mem_cons.mpr ⟨⟨List.mem_of_getElem? (i := 170) rfl, ⟨"AlgolHouse$Place", Or.inr ⟨_, lw_at lw_m16 41 rfl⟩, Or.inl rfl⟩⟩, List.forall_mem_cons.mpr ⟨⟨List.mem_of_getElem? (i := 171) rfl, ⟨"AlgolHouse$Place", Or.inr ⟨_, lw_at lw_m16 43 rfl⟩, Or.inl rfl⟩⟩, List.forall_mem_cons.mpr ⟨⟨List.mem_of_getElem? (i := 173) rfl, ⟨"AlgolHouse$Place", Or.inr ⟨_, lw_at lw_m16 47 rfl⟩, Or.inl rfl⟩⟩, List.forall_mem_cons.mpr ⟨⟨List.mem_of_getElem? (i := 174) rfl, ⟨"AlgolHouse$Place", Or.inr ⟨_, lw_at lw_m16 50 rfl⟩, Or.inl rfl⟩⟩, List.forall_mem_cons.mpr ⟨⟨List.mem_of_getElem? (i := 22) rfl, ⟨"AlgolHouse$Frame", Or.inr ⟨_, lw_at lw_m15 182 rfl⟩, Or.inl rfl⟩⟩, List.forall_mem_cons.mpr ⟨⟨List.mem_of_getElem? (i := 92) rfl, ⟨"AlgolHouse$Node", Or.inr ⟨_, lw_at lw_m5 198 rfl⟩, Or.inl rfl⟩⟩, List.forall_mem_cons.mpr ⟨⟨List.mem_of_getElem? (i := 93) rfl, ⟨"AlgolHouse$Node", Or.inr ⟨_, lw_at lw_m5 200 rfl⟩, Or.inl rfl⟩⟩, fun q h => by cases h⟩⟩⟩⟩⟩⟩⟩⟩⟩⟩⟩⟩⟩⟩⟩⟩⟩⟩⟩⟩⟩⟩⟩⟩⟩⟩⟩⟩⟩⟩⟩⟩⟩⟩⟩⟩⟩⟩⟩⟩⟩⟩⟩⟩⟩⟩⟩⟩⟩⟩⟩⟩⟩⟩⟩⟩⟩⟩⟩⟩⟩⟩⟩⟩⟩⟩
theorem ow20_1 : ∀ q ∈ ([(65, 528878619), (69, 537267227), (72, 545655833), (76, 478546968), (80, 386272280), (83, 403049496), (86, 419826712), (89, 436603930), (93, 444992538), (97, 453381144), (100, 461769752), (103, 470158360), (106, 503712792), (109, 512101400), (112, 520490008), (115, 570821656), (128, 176358924), (171, 167970318), (178, 579210264), (181, 151193100), (184, 159581708), (203, 193136142), (212, 1495814306), (215, 1504202914), (219, 1512591520), (264, 1571443881), (267, 1579832490), (270, 1646941352), (276, 1588221098), (280, 1596609706), (283, 1604998312), (285, 1613386922), (289, 1621775530), (292, 1630164138), (295, 1655329960), (296, 1663718568), (298, 1411796120), (324, 1403407514), (327, 1420184731), (328, 1428573338), (329, 1436961946), (331, 1445350554), (333, 1453739162), (335, 1462127768), (336, 1470516376), (380, 184747535)] : List (Nat × Nat)), q.2 ∈ iFs ∧ PLk "AlgolHouse$Machine" q.1 q.2 := List.forall_mem_cons.mpr ⟨⟨List.mem_of_getElem? (i := 63) rfl, ⟨"AlgolHouse$Machine", Or.inl (lw_g (lw_at lw_m4 58 rfl) rfl), Or.inl rfl⟩, rfl⟩, List.forall_mem_cons.mpr ⟨⟨List.mem_of_getElem? (i := 64) rfl, ⟨"AlgolHouse$Machine", Or.inl (lw_g (lw_at lw_m4 59 rfl) rfl), Or.inl rfl⟩, rfl⟩, List.forall_mem_cons.mpr ⟨⟨List.mem_of_getElem? (i := 65) rfl, ⟨"AlgolHouse$Machine", Or.inl (lw_g (lw_at lw_m4 60 rfl) rfl), Or.inl rfl⟩, rfl⟩, List.forall_mem_cons.mpr ⟨⟨List.mem_of_getElem? (i := 57) rfl, ⟨"AlgolHouse$Machine", Or.inl (lw_g (lw_at lw_m4 42 rfl) rfl), Or.inl rfl⟩, rfl⟩, List.forall_mem_cons.mpr ⟨⟨List.mem_of_getElem? (i := 46) rfl, ⟨"AlgolHouse$Machine", Or.inl (lw_g (lw_at lw_m4 8 rfl) rfl), Or.inl rfl⟩, rfl⟩, List.forall_mem_cons.mpr ⟨⟨List.mem_of_getElem? (i := 48) rfl, ⟨"AlgolHouse$Machine", Or.inl (lw_g (lw_at lw_m4 10 rfl) rfl), Or.inl rfl⟩, rfl⟩, List.forall_mem_cons.mpr ⟨⟨List.mem_of_getElem? (i := 50) rfl, ⟨"AlgolHouse$Machine", Or.inl (lw_g (lw_at lw_m4 12 rfl) rfl), Or.inl rfl⟩, rfl⟩, List.forall_mem_cons.mpr ⟨⟨List.mem_of_getElem? (i := 52) rfl, ⟨"AlgolHouse$Machine", Or.inl (lw_g (lw_at lw_m4 15 rfl) rfl), Or.inl rfl⟩, rfl⟩, List.forall_mem_cons.mpr ⟨⟨List.mem_of_getElem? (i := 53) rfl, ⟨"AlgolHouse$Machine", Or.inl (lw_g (lw_at lw_m4 29 rfl) rfl), Or.inl rfl⟩, rfl⟩, List.forall_mem_cons.mpr ⟨⟨List.mem_of_getElem? (i := 54) rfl, ⟨"AlgolHouse$Machine", Or.inl (lw_g (lw_at lw_m4 35 rfl) rfl), Or.inl rfl⟩, rfl⟩, List.forall_mem_cons.mpr ⟨⟨List.mem_of_getElem? (i := 55) rfl, ⟨"AlgolHouse$Machine", Or.inl (lw_g (lw_at lw_m4 38 rfl) rfl), Or.inl rfl⟩, rfl⟩, List.forall_mem_cons.mpr ⟨⟨List.mem_of_getElem? (i := 56) rfl, ⟨"AlgolHouse$Machine", Or.inl (lw_g (lw_at lw_m4 40 rfl) rfl), Or.inl rfl⟩, rfl⟩, List.forall_mem_cons.mpr ⟨⟨List.mem_of_getElem? (i := 60) rfl, ⟨"AlgolHouse$Machine", Or.inl (lw_g (lw_at lw_m4 50 rfl) rfl), Or.inl rfl⟩, rfl⟩, List.forall_mem_cons.mpr ⟨⟨List.mem_of_getElem? (i := 61) rfl, ⟨"AlgolHouse$Machine", Or.inl (lw_g (lw_at lw_m4 53 rfl) rfl), Or.inl rfl⟩, rfl⟩, List.forall_mem_cons.mpr ⟨⟨List.mem_of_getElem? (i := 62) rfl, ⟨"AlgolHouse$Machine", Or.inl (lw_g (lw_at lw_m4 56 rfl) rfl), Or.inl rfl⟩, rfl⟩, List.forall_mem_cons.mpr ⟨⟨List.mem_of_getElem? (i := 68) rfl, ⟨"AlgolHouse$Machine", Or.inl (lw_g (lw_at lw_m4 63 rfl) rfl), Or.inl rfl⟩, rfl⟩, List.forall_mem_cons.mpr ⟨⟨List.mem_of_getElem? (i := 21) rfl, ⟨"AlgolHouse$Frame", Or.inr ⟨_, lw_at lw_m15 180 rfl⟩, Or.inl rfl⟩, rfl⟩, List.forall_mem_cons.mpr ⟨⟨List.mem_of_getElem? (i := 20) rfl, ⟨"AlgolHouse$Frame", Or.inr ⟨_, lw_at lw_m15 178 rfl⟩, Or.inl rfl⟩, rfl⟩, List.forall_mem_cons.mpr ⟨⟨List.mem_of_getElem? (i := 69) rfl, ⟨"AlgolHouse$Machine", Or.inl (lw_g (lw_at lw_m4 64 rfl) rfl), Or.inl rfl⟩, rfl⟩, List.forall_mem_cons.mpr ⟨⟨List.mem_of_getElem? (i := 18) rfl, ⟨"AlgolHouse$Frame", Or.inr ⟨_, lw_at lw_m15 175 rfl⟩, Or.inl rfl⟩, rfl⟩, List.forall_mem_cons.mpr ⟨⟨List.mem_of_getElem? (i := 19) rfl, ⟨"AlgolHouse$Frame", Or.inr ⟨_, lw_at lw_m15 176 rfl⟩, Or.inl rfl⟩, rfl⟩, List.forall_mem_cons.mpr ⟨⟨List.mem_of_getElem? (i := 23) rfl, ⟨"AlgolHouse$Frame", Or.inr ⟨_, lw_at lw_m15 184 rfl⟩, Or.inl rfl⟩, rfl⟩, List.forall_mem_cons.mpr ⟨⟨List.mem_of_getElem? (i := 178) rfl, ⟨"AlgolHouse$Range", Or.inr ⟨_, lw_at lw_m3 226 rfl⟩, Or.inl rfl⟩, rfl⟩, List.forall_mem_cons.mpr ⟨⟨List.mem_of_getElem? (i := 179) rfl, ⟨"AlgolHouse$Range", Or.inr ⟨_, lw_at lw_m3 227 rfl⟩, Or.inl rfl⟩, rfl⟩, List.forall_mem_cons.mpr ⟨⟨List.mem_of_getElem? (i := 180) rfl, ⟨"AlgolHouse$Range", Or.inr ⟨_, lw_at lw_m3 229 rfl⟩, Or.inl rfl⟩, rfl⟩, List.forall_mem_cons.mpr ⟨⟨List.mem_of_getElem? (i := 187) rfl, ⟨"AlgolHouse$Value", Or.inr ⟨_, lw_at lw_m16 146 rfl⟩, Or.inl rfl⟩, rfl⟩, List.forall_mem_cons.mpr ⟨⟨List.mem_of_getElem? (i := 188) rfl, ⟨"AlgolHouse$Value", Or.inr ⟨_, lw_at lw_m16 149 rfl⟩, Or.inl rfl⟩, rfl⟩, List.forall_mem_cons.mpr ⟨⟨List.mem_of_getElem? (i := 196) rfl, ⟨"AlgolHouse$Value", Or.inr ⟨_, lw_at lw_m16 176 rfl⟩, Or.inl rfl⟩, rfl⟩, List.forall_mem_cons.mpr ⟨⟨List.mem_of_getElem? (i := 189) rfl, ⟨"AlgolHouse$Value", Or.inr ⟨_, lw_at lw_m16 153 rfl⟩, Or.inl rfl⟩, rfl⟩, List.forall_mem_cons.mpr ⟨⟨List.mem_of_getElem? (i := 190) rfl, ⟨"AlgolHouse$Value", Or.inr ⟨_, lw_at lw_m16 157 rfl⟩, Or.inl rfl⟩, rfl⟩, List.forall_mem_cons.mpr ⟨⟨List.mem_of_getElem? (i := 191) rfl, ⟨"AlgolHouse$Value", Or.inr ⟨_, lw_at lw_m16 160 rfl⟩, Or.inl rfl⟩, rfl⟩, List.forall_mem_cons.mpr ⟨⟨List.mem_of_getElem? (i := 192) rfl, ⟨"AlgolHouse$Value", Or.inr ⟨_, lw_at lw_m16 163 rfl⟩, Or.inl rfl⟩, rfl⟩, List.forall_mem_cons.mpr ⟨⟨List.mem_of_getElem? (i := 193) rfl, ⟨"AlgolHouse$Value", Or.inr ⟨_, lw_at lw_m16 167 rfl⟩, Or.inl rfl⟩, rfl⟩, List.forall_mem_cons.mpr ⟨⟨List.mem_of_getElem? (i := 194) rfl, ⟨"AlgolHouse$Value", Or.inr ⟨_, lw_at lw_m16 169 rfl⟩, Or.inl rfl⟩, rfl⟩, List.forall_mem_cons.mpr ⟨⟨List.mem_of_getElem? (i := 197) rfl, ⟨"AlgolHouse$Value", Or.inr ⟨_, lw_at lw_m16 180 rfl⟩, Or.inl rfl⟩, rfl⟩, List.forall_mem_cons.mpr ⟨⟨List.mem_of_getElem? (i := 198) rfl, ⟨"AlgolHouse$Value", Or.inr ⟨_, lw_at lw_m16 182 rfl⟩, Or.inl rfl⟩, rfl⟩, List.forall_mem_cons.mpr ⟨⟨List.mem_of_getElem? (i := 168) rfl, ⟨"AlgolHouse$Place", Or.inr ⟨_, lw_at lw_m16 37 rfl⟩, Or.inl rfl⟩, rfl⟩, List.forall_mem_cons.mpr ⟨⟨List.mem_of_getElem? (i := 167) rfl, ⟨"AlgolHouse$Place", Or.inr ⟨_, lw_at lw_m16 36 rfl⟩, Or.inl rfl⟩, rfl⟩, List.forall_mem_cons.mpr ⟨⟨List.mem_of_getElem? (i := 169) rfl, ⟨"AlgolHouse$Place", Or.inr ⟨_, lw_at lw_m16 40 rfl⟩, Or.inl rfl⟩, rfl⟩, List.forall_mem_cons.mpr ⟨⟨List.mem_of_getElem? (i := 170) rfl, ⟨"AlgolHouse$Place", Or.inr ⟨_, lw_at lw_m16 41 rfl⟩, Or.inl rfl⟩, rfl⟩, List.forall_mem_cons.mpr ⟨⟨List.mem_of_getElem? (i := 171) rfl, ⟨"AlgolHouse$Place", Or.inr ⟨_, lw_at lw_m16 43 rfl⟩, Or.inl rfl⟩, rfl⟩, List.forall_mem_cons.mpr ⟨⟨List.mem_of_getElem? (i := 172) rfl, ⟨"AlgolHouse$Place", Or.inr ⟨_, lw_at lw_m16 45 rfl⟩, Or.inl rfl⟩, rfl⟩, List.forall_mem_cons.mpr ⟨⟨List.mem_of_getElem? (i := 173) rfl, ⟨"AlgolHouse$Place", Or.inr ⟨_, lw_at lw_m16 47 rfl⟩, Or.inl rfl⟩, rfl⟩, List.forall_mem_cons.mpr ⟨⟨List.mem_of_getElem? (i := 174) rfl, ⟨"AlgolHouse$Place", Or.inr ⟨_, lw_at lw_m16 50 rfl⟩, Or.inl rfl⟩, rfl⟩, List.forall_mem_cons.mpr ⟨⟨List.mem_of_getElem? (i := 175) rfl, ⟨"AlgolHouse$Place", Or.inr ⟨_, lw_at lw_m16 54 rfl⟩, Or.inl rfl⟩, rfl⟩, List.forall_mem_cons.mpr ⟨⟨List.mem_of_getElem? (i := 22) rfl, ⟨"AlgolHouse$Frame", Or.inr ⟨_, lw_at lw_m15 182 rfl⟩, Or.inl rfl⟩, rfl⟩, fun q h => by cases h⟩⟩⟩⟩⟩⟩⟩⟩⟩⟩⟩⟩⟩⟩⟩⟩⟩⟩⟩⟩⟩⟩⟩⟩⟩⟩⟩⟩⟩⟩⟩⟩⟩⟩⟩⟩⟩⟩⟩⟩⟩⟩⟩⟩⟩⟩
theorem ow20_2 : ∀ q ∈ ([(12, 369495066), (21, 377883674), (25, 394660890), (28, 411438106), (33, 428215322), (37, 486935578), (41, 495324186), (45, 554044442), (48, 562433050), (56, 587598874)] : List (Nat × Nat)), q.2 ∈ iFs ∧ PFk "AlgolHouse$Machine" q.1 q.2 := List.forall_mem_cons.mpr ⟨⟨List.mem_of_getElem? (i := 44) rfl, rfl, rfl, "AlgolHouse$Machine", lw_g (lw_at lw_m4 5 rfl) rfl, Or.inl rfl⟩, List.forall_mem_cons.mpr ⟨⟨List.mem_of_getElem? (i := 45) rfl, rfl, rfl, "AlgolHouse$Machine", lw_g (lw_at lw_m4 7 rfl) rfl, Or.inl rfl⟩, List.forall_mem_cons.mpr ⟨⟨List.mem_of_getElem? (i := 47) rfl, rfl, rfl, "AlgolHouse$Machine", lw_g (lw_at lw_m4 9 rfl) rfl, Or.inl rfl⟩, List.forall_mem_cons.mpr ⟨⟨List.mem_of_getElem? (i := 49) rfl, rfl, rfl, "AlgolHouse$Machine", lw_g (lw_at lw_m4 11 rfl) rfl, Or.inl rfl⟩, List.forall_mem_cons.mpr ⟨⟨List.mem_of_getElem? (i := 51) rfl, rfl, rfl, "AlgolHouse$Machine", lw_g (lw_at lw_m4 14 rfl) rfl, Or.inl rfl⟩, List.forall_mem_cons.mpr ⟨⟨List.mem_of_getElem? (i := 58) rfl, rfl, rfl, "AlgolHouse$Machine", lw_g (lw_at lw_m4 44 rfl) rfl, Or.inl rfl⟩, List.forall_mem_cons.mpr ⟨⟨List.mem_of_getElem? (i := 59) rfl, rfl, rfl, "AlgolHouse$Machine", lw_g (lw_at lw_m4 47 rfl) rfl, Or.inl rfl⟩, List.forall_mem_cons.mpr ⟨⟨List.mem_of_getElem? (i := 66) rfl, rfl, rfl, "AlgolHouse$Machine", lw_g (lw_at lw_m4 61 rfl) rfl, Or.inl rfl⟩, List.forall_mem_cons.mpr ⟨⟨List.mem_of_getElem? (i := 67) rfl, rfl, rfl, "AlgolHouse$Machine", lw_g (lw_at lw_m4 62 rfl) rfl, Or.inl rfl⟩, List.forall_mem_cons.mpr ⟨⟨List.mem_of_getElem? (i := 70) rfl, rfl, rfl, "AlgolHouse$Machine", lw_g (lw_at lw_m4 65 rfl) rfl, Or.inl rfl⟩, fun q h => by cases h⟩⟩⟩⟩⟩⟩⟩⟩⟩⟩
theorem ow20_3 : ∀ q ∈ ([] : List (Nat × Nat)), q.2 ∈ sFs ∧ FLk "AlgolHouse$Machine" q.1 q.2 := fun q h => by cases h
theorem ow20_4 : ∀ q ∈ ([] : List (Nat × Nat)), TLk "AlgolHouse$Machine" q.1 q.2 ∧ q.2 % 4 = 2 := fun q h => by cases h
theorem ow20_5 : ∀ q ∈ ([(9, 10), (18, 48), (31, 40), (51, 44), (126, 3), (254, 42), (299, 38)] : List (Nat × Nat)), mdT q.2 = true ∧ NLk "AlgolHouse$Machine" q.1 q.2 := List.forall_mem_cons.mpr ⟨⟨rfl, lw_g (lw_at lw_m3 180 rfl) rfl, lw_g (lw_at lw_m1 181 rfl) rfl, lw_g (lw_at lw_m1 8 rfl) rfl⟩, List.forall_mem_cons.mpr ⟨⟨rfl, lw_g (lw_at lw_m3 182 rfl) rfl, lw_g (lw_at lw_m1 187 rfl) rfl, lw_g (lw_at lw_m1 11 rfl) rfl⟩, List.forall_mem_cons.mpr ⟨⟨rfl, lw_g (lw_at lw_m3 184 rfl) rfl, lw_g (lw_at lw_m3 219 rfl) rfl, lw_g (lw_at lw_m1 28 rfl) rfl⟩, List.forall_mem_cons.mpr ⟨⟨rfl, lw_g (lw_at lw_m3 186 rfl) rfl, lw_g (lw_at lw_m3 187 rfl) rfl, lw_g (lw_at lw_m1 27 rfl) rfl⟩, List.forall_mem_cons.mpr ⟨⟨rfl, lw_g (lw_at lw_m15 139 rfl) rfl, lw_g (lw_at lw_m15 140 rfl) rfl, lw_g (lw_at lw_m1 73 rfl) rfl⟩, List.forall_mem_cons.mpr ⟨⟨rfl, lw_g (lw_at lw_m16 120 rfl) rfl, lw_g (lw_at lw_m16 121 rfl) rfl, lw_g (lw_at lw_m1 75 rfl) rfl⟩, List.forall_mem_cons.mpr ⟨⟨rfl, lw_g (lw_at lw_m16 30 rfl) rfl, lw_g (lw_at lw_m16 31 rfl) rfl, lw_g (lw_at lw_m1 74 rfl) rfl⟩, fun q h => by cases h⟩⟩⟩⟩⟩⟩⟩
theorem ow20_6 : ∀ q ∈ ([(31, 74)] : List (Nat × Nat)), mdA q.2 = true ∧ ak q.2 = 2 ∧ ALk "AlgolHouse$Machine" q.1 q.2 := List.forall_mem_cons.mpr ⟨⟨rfl, rfl, "AlgolHouse$Range", rfl, lw_g (lw_at lw_m3 184 rfl) rfl, lw_at lw_m3 185 rfl⟩, fun q h => by cases h⟩
theorem ow20_7_0 : XLk "AlgolHouse$Machine" 126 387 := (Or.inl ⟨"AlgolHouse$Frame", lw_g (lw_at lw_m15 139 rfl) rfl, fun t h1 h2 => by
  obtain rfl : t = 3 := by omega
  exact ⟨⟨by omega, by omega⟩, Or.inl rfl⟩⟩)
theorem ow20_7_1 : XLk "AlgolHouse$Machine" 254 5418 := (Or.inl ⟨"AlgolHouse$Value", lw_g (lw_at lw_m16 120 rfl) rfl, fun t h1 h2 => by
  obtain rfl : t = 42 := by omega
  exact ⟨⟨by omega, by omega⟩, Or.inl rfl⟩⟩)
theorem ow20_7_2 : XLk "AlgolHouse$Machine" 299 4902 := (Or.inl ⟨"AlgolHouse$Place", lw_g (lw_at lw_m16 30 rfl) rfl, fun t h1 h2 => by
  obtain rfl : t = 38 := by omega
  exact ⟨⟨by omega, by omega⟩, Or.inl rfl⟩⟩)
theorem ow20_7_3 : XLk "AlgolHouse$Machine" 305 1161 := (Or.inl ⟨"AlgolHouse$Mode", lw_g (lw_at lw_m16 18 rfl) rfl, fun t h1 h2 => by
  obtain rfl : t = 9 := by omega
  exact ⟨⟨by omega, by omega⟩, Or.inl rfl⟩⟩)
theorem ow20_7 : ∀ q ∈ ([(126, 387), (254, 5418), (299, 4902), (305, 1161)] : List (Nat × Nat)), XLk "AlgolHouse$Machine" q.1 q.2 := List.forall_mem_cons.mpr ⟨ow20_7_0, List.forall_mem_cons.mpr ⟨ow20_7_1, List.forall_mem_cons.mpr ⟨ow20_7_2, List.forall_mem_cons.mpr ⟨ow20_7_3, fun q h => by cases h⟩⟩⟩⟩
theorem ow20_8 {s0 : State} (hN : NCs s0) : ∀ q ∈ ([] : List (Nat × Nat)), YLk s0 "AlgolHouse$Machine" q.1 q.2 := fun q h => by cases h
theorem ow20_9 : ∀ q ∈ ([(206, 174587906), (227, 28311553), (314, 28835841), (319, 28573698), (344, 175112194), (355, 34340865), (359, 34078721)] : List (Nat × Nat)), q.2 = ACN ∧ ACk "AlgolHouse$Machine" q.1 ∨ q.2 ≠ ACN ∧ SMk "AlgolHouse$Machine" q.1 q.2 := List.forall_mem_cons.mpr ⟨Or.inr ⟨by decide, mok_J14_max, np_J14_max, ⟨sm_J14_max, lw_g (lw_at lw_m1 21 rfl) rfl⟩, Or.inl (lw_g (lw_at lw_m16 13 rfl) rfl)⟩, List.forall_mem_cons.mpr ⟨Or.inr ⟨by decide, mok_X7_age, np_X7_age, ⟨sm_X7_age, lw_g (lw_at lw_m1 26 rfl) rfl⟩, Or.inl (lw_g (lw_at lw_m16 10 rfl) rfl)⟩, List.forall_mem_cons.mpr ⟨Or.inr ⟨by decide, mok_X7_size, np_X7_size, ⟨sm_X7_size, lw_g (lw_at lw_m1 26 rfl) rfl⟩, Or.inl (lw_g (lw_at lw_m16 19 rfl) rfl)⟩, List.forall_mem_cons.mpr ⟨Or.inr ⟨by decide, mok_X7_sizeToPut, np_X7_sizeToPut, ⟨sm_X7_sizeToPut, lw_g (lw_at lw_m1 26 rfl) rfl⟩, Or.inl (lw_g (lw_at lw_m16 14 rfl) rfl)⟩, List.forall_mem_cons.mpr ⟨Or.inr ⟨by decide, mok_J14_max_2, np_J14_max_2, ⟨sm_J14_max_2, lw_g (lw_at lw_m1 21 rfl) rfl⟩, Or.inl (lw_g (lw_at lw_m17 63 rfl) rfl)⟩, List.forall_mem_cons.mpr ⟨Or.inr ⟨by decide, mok_X7_sizeToCopy, np_X7_sizeToCopy, ⟨sm_X7_sizeToCopy, lw_g (lw_at lw_m1 26 rfl) rfl⟩, Or.inl (lw_g (lw_at lw_m17 187 rfl) rfl)⟩, List.forall_mem_cons.mpr ⟨Or.inr ⟨by decide, mok_X7_sizeOf, np_X7_sizeOf, ⟨sm_X7_sizeOf, lw_g (lw_at lw_m1 26 rfl) rfl⟩, Or.inl (lw_g (lw_at lw_m17 184 rfl) rfl)⟩, fun q h => by cases h⟩⟩⟩⟩⟩⟩⟩
theorem ow20_10 : ∀ q ∈ ([(11, 18632865), (20, 164725505), (53, 36004547), (60, 36520577), (163, 161749041), (256, 163140257), (323, 162345569)] : List (Nat × Nat)), IMk "AlgolHouse$Machine" q.1 q.2 ∧ ∀ t, inT (q.2 / 16 % 128) (q.2 / 2048 % 128) t → inT 1 55 t := List.forall_mem_cons.mpr ⟨⟨⟨mok_X4_init, np_X4_init, by decide, rfl, im_X4_init, ⟨_, _, rfl⟩, Or.inr ⟨_, lw_at lw_m3 181 rfl⟩⟩, fun t ht => ⟨Nat.le_trans (by decide) ht.1, Nat.le_trans ht.2 (by decide)⟩⟩, List.forall_mem_cons.mpr ⟨⟨⟨mok_J6_init, np_J6_init, by decide, rfl, im_J6_init, ⟨_, _, rfl⟩, Or.inl (lw_g (lw_at lw_m3 183 rfl) rfl)⟩, fun t ht => ⟨Nat.le_trans (by decide) ht.1, Nat.le_trans ht.2 (by decide)⟩⟩, List.forall_mem_cons.mpr ⟨⟨⟨mok_X8_init, np_X8_init, by decide, rfl, im_X8_init, ⟨_, _, rfl⟩, Or.inl (lw_g (lw_at lw_m3 195 rfl) rfl)⟩, fun t ht => ⟨Nat.le_trans (by decide) ht.1, Nat.le_trans ht.2 (by decide)⟩⟩, List.forall_mem_cons.mpr ⟨⟨⟨mok_X9_init, np_X9_init, by decide, rfl, im_X9_init, ⟨_, _, rfl⟩, Or.inr ⟨_, lw_at lw_m3 220 rfl⟩⟩, fun t ht => ⟨Nat.le_trans (by decide) ht.1, Nat.le_trans ht.2 (by decide)⟩⟩, List.forall_mem_cons.mpr ⟨⟨⟨mok_X44_init, np_X44_init, by decide, rfl, im_X44_init, ⟨_, _, rfl⟩, Or.inr ⟨_, lw_at lw_m15 141 rfl⟩⟩, fun t ht => ⟨Nat.le_trans (by decide) ht.1, Nat.le_trans ht.2 (by decide)⟩⟩, List.forall_mem_cons.mpr ⟨⟨⟨mok_X46_init, np_X46_init, by decide, rfl, im_X46_init, ⟨_, _, rfl⟩, Or.inr ⟨_, lw_at lw_m16 122 rfl⟩⟩, fun t ht => ⟨Nat.le_trans (by decide) ht.1, Nat.le_trans ht.2 (by decide)⟩⟩, List.forall_mem_cons.mpr ⟨⟨⟨mok_X45_init, np_X45_init, by decide, rfl, im_X45_init, ⟨_, _, rfl⟩, Or.inr ⟨_, lw_at lw_m16 32 rfl⟩⟩, fun t ht => ⟨Nat.le_trans (by decide) ht.1, Nat.le_trans ht.2 (by decide)⟩⟩, fun q h => by cases h⟩⟩⟩⟩⟩⟩⟩
theorem ow20_11_0 : VMk "AlgolHouse$Machine" 61 36266691 := ⟨mok_X8_as, by decide, fun t ht => by
  obtain rfl : t = 44 := Nat.le_antisymm (Nat.le_trans ht.2 (by decide)) (Nat.le_trans (by decide) ht.1)
  exact ⟨⟨by decide, by decide⟩, im_X8_as, Or.inl ⟨np_X8_as, lw_g (lw_at lw_m15 136 rfl) rfl, Or.inl (lw_g (lw_at lw_m15 134 rfl) rfl)⟩⟩⟩
theorem ow20_11_1 : VMk "AlgolHouse$Machine" 118 26488930 := ⟨mok_X7_push, by decide, fun t ht => by
  obtain rfl : t = 6 := Nat.le_antisymm (Nat.le_trans ht.2 (by decide)) (Nat.le_trans (by decide) ht.1)
  exact ⟨⟨by decide, by decide⟩, im_X7_push, Or.inl ⟨np_X7_push, lw_g (lw_at lw_m15 124 rfl) rfl, Or.inl (lw_g (lw_at lw_m15 122 rfl) rfl)⟩⟩⟩
theorem ow20_11_2 : VMk "AlgolHouse$Machine" 122 166822658 := ⟨mok_J6_get, by decide, fun t ht => by
  obtain rfl : t = 48 := Nat.le_antisymm (Nat.le_trans ht.2 (by decide)) (Nat.le_trans (by decide) ht.1)
  exact ⟨⟨by decide, by decide⟩, im_J6_get, Or.inl ⟨np_J6_get, lw_g (lw_at lw_m7 79 rfl) rfl, Or.inl (lw_g (lw_at lw_m15 220 rfl) rfl)⟩⟩⟩
theorem ow20_11_3 : VMk "AlgolHouse$Machine" 141 35139682 := ⟨mok_X7_coerce, by decide, fun t ht => by
  obtain rfl : t = 6 := Nat.le_antisymm (Nat.le_trans ht.2 (by decide)) (Nat.le_trans (by decide) ht.1)
  exact ⟨⟨by decide, by decide⟩, im_X7_coerce, Or.inl ⟨np_X7_coerce, lw_g (lw_ms _ (List.mem_map.mpr ⟨_, List.mem_of_getElem? (i := 112) rfl, rfl⟩)) rfl, Or.inl (lw_g (lw_at lw_m18 20 rfl) rfl)⟩⟩⟩
theorem ow20_11_4 : VMk "AlgolHouse$Machine" 151 27013220 := ⟨mok_X7_need, by decide, fun t ht => by
  obtain rfl : t = 6 := Nat.le_antisymm (Nat.le_trans ht.2 (by decide)) (Nat.le_trans (by decide) ht.1)
  exact ⟨⟨by decide, by decide⟩, im_X7_need, Or.inl ⟨np_X7_need, lw_g (lw_at lw_m15 132 rfl) rfl, Or.inl (lw_g (lw_at lw_m15 130 rfl) rfl)⟩⟩⟩
theorem ow20_11_5 : VMk "AlgolHouse$Machine" 156 26751075 := ⟨mok_X7_tick, by decide, fun t ht => by
  obtain rfl : t = 6 := Nat.le_antisymm (Nat.le_trans ht.2 (by decide)) (Nat.le_trans (by decide) ht.1)
  exact ⟨⟨by decide, by decide⟩, im_X7_tick, Or.inl ⟨np_X7_tick, lw_g (lw_at lw_m15 128 rfl) rfl, Or.inl (lw_g (lw_at lw_m15 126 rfl) rfl)⟩⟩⟩
theorem ow20_11_6 : VMk "AlgolHouse$Machine" 159 165249793 := ⟨mok_J6_size, by decide, fun t ht => by
  obtain rfl : t = 48 := Nat.le_antisymm (Nat.le_trans ht.2 (by decide)) (Nat.le_trans (by decide) ht.1)
  exact ⟨⟨by decide, by decide⟩, im_J6_size, Or.inl ⟨np_J6_size, lw_g (lw_at lw_m4 167 rfl) rfl, Or.inl (lw_g (lw_at lw_m15 138 rfl) rfl)⟩⟩⟩
theorem ow20_11_7 : VMk "AlgolHouse$Machine" 164 165774082 := ⟨mok_J6_add, by decide, fun t ht => by
  obtain rfl : t = 48 := Nat.le_antisymm (Nat.le_trans ht.2 (by decide)) (Nat.le_trans (by decide) ht.1)
  exact ⟨⟨by decide, by decide⟩, im_J6_add, Or.inl ⟨np_J6_add, lw_g (lw_at lw_m6 44 rfl) rfl, Or.inl (lw_g (lw_at lw_m15 219 rfl) rfl)⟩⟩⟩
theorem ow20_11_8 : VMk "AlgolHouse$Machine" 168 162011186 := ⟨mok_X44_begin, by decide, fun t ht => by
  obtain rfl : t = 3 := Nat.le_antisymm (Nat.le_trans ht.2 (by decide)) (Nat.le_trans (by decide) ht.1)
  exact ⟨⟨by decide, by decide⟩, im_X44_begin, Or.inl ⟨np_X44_begin, lw_g (lw_at lw_m15 223 rfl) rfl, Or.inl (lw_g (lw_at lw_m15 221 rfl) rfl)⟩⟩⟩
theorem ow20_11_9 : VMk "AlgolHouse$Machine" 191 27537506 := ⟨mok_X7_draw, by decide, fun t ht => by
  obtain rfl : t = 6 := Nat.le_antisymm (Nat.le_trans ht.2 (by decide)) (Nat.le_trans (by decide) ht.1)
  exact ⟨⟨by decide, by decide⟩, im_X7_draw, Or.inl ⟨np_X7_draw, lw_g (lw_ms _ (List.mem_map.mpr ⟨_, List.mem_of_getElem? (i := 97) rfl, rfl⟩)) rfl, Or.inl (lw_g (lw_at lw_m15 235 rfl) rfl)⟩⟩⟩
theorem ow20_11_10 : VMk "AlgolHouse$Machine" 199 118558898 := ⟨mok_X12_part, by decide, fun t ht => by
  rcases tg_11_34 (Nat.le_trans (by decide) ht.1) (Nat.le_trans ht.2 (by decide)) with rfl | rfl | rfl | rfl | rfl | rfl | rfl | rfl | rfl | rfl | rfl | rfl | rfl | rfl | rfl | rfl | rfl | rfl | rfl | rfl | rfl | rfl | rfl | rfl
  · exact ⟨⟨by decide, by decide⟩, im_X12_part, Or.inl ⟨np_X12_part, lw_g (lw_at lw_m25 119 rfl) rfl, Or.inl (lw_g (lw_at lw_m16 1 rfl) rfl)⟩⟩
  · exact ⟨⟨by decide, by decide⟩, im_X12_part, Or.inl ⟨np_X12_part, lw_g (lw_at lw_m25 120 rfl) rfl, Or.inl (lw_g (lw_at lw_m16 1 rfl) rfl)⟩⟩
  · exact ⟨⟨by decide, by decide⟩, im_X12_part, Or.inl ⟨np_X12_part, lw_g (lw_at lw_m25 122 rfl) rfl, Or.inl (lw_g (lw_at lw_m16 1 rfl) rfl)⟩⟩
  · exact ⟨⟨by decide, by decide⟩, im_X12_part, Or.inl ⟨np_X12_part, lw_g (lw_at lw_m25 127 rfl) rfl, Or.inl (lw_g (lw_at lw_m16 1 rfl) rfl)⟩⟩
  · exact ⟨⟨by decide, by decide⟩, im_X12_part, Or.inl ⟨np_X12_part, lw_g (lw_at lw_m25 132 rfl) rfl, Or.inl (lw_g (lw_at lw_m16 1 rfl) rfl)⟩⟩
  · exact ⟨⟨by decide, by decide⟩, im_X12_part, Or.inl ⟨np_X12_part, lw_g (lw_at lw_m25 141 rfl) rfl, Or.inl (lw_g (lw_at lw_m16 1 rfl) rfl)⟩⟩
  · exact ⟨⟨by decide, by decide⟩, im_X12_part, Or.inl ⟨np_X12_part, lw_g (lw_at lw_m25 123 rfl) rfl, Or.inl (lw_g (lw_at lw_m16 1 rfl) rfl)⟩⟩
  · exact ⟨⟨by decide, by decide⟩, im_X12_part, Or.inl ⟨np_X12_part, lw_g (lw_at lw_m25 124 rfl) rfl, Or.inl (lw_g (lw_at lw_m16 1 rfl) rfl)⟩⟩
  · exact ⟨⟨by decide, by decide⟩, im_X12_part, Or.inl ⟨np_X12_part, lw_g (lw_at lw_m25 121 rfl) rfl, Or.inl (lw_g (lw_at lw_m16 1 rfl) rfl)⟩⟩
  · exact ⟨⟨by decide, by decide⟩, im_X12_part, Or.inl ⟨np_X12_part, lw_g (lw_at lw_m25 128 rfl) rfl, Or.inl (lw_g (lw_at lw_m16 1 rfl) rfl)⟩⟩
  · exact ⟨⟨by decide, by decide⟩, im_X12_part, Or.inl ⟨np_X12_part, lw_g (lw_at lw_m25 137 rfl) rfl, Or.inl (lw_g (lw_at lw_m16 1 rfl) rfl)⟩⟩
  · exact ⟨⟨by decide, by decide⟩, im_X12_part, Or.inl ⟨np_X12_part, lw_g (lw_at lw_m25 142 rfl) rfl, Or.inl (lw_g (lw_at lw_m16 1 rfl) rfl)⟩⟩
  · exact ⟨⟨by decide, by decide⟩, im_X12_part, Or.inl ⟨np_X12_part, lw_g (lw_at lw_m25 125 rfl) rfl, Or.inl (lw_g (lw_at lw_m16 1 rfl) rfl)⟩⟩
  · exact ⟨⟨by decide, by decide⟩, im_X12_part, Or.inl ⟨np_X12_part, lw_g (lw_at lw_m25 126 rfl) rfl, Or.inl (lw_g (lw_at lw_m16 1 rfl) rfl)⟩⟩
  · exact ⟨⟨by decide, by decide⟩, im_X12_part, Or.inl ⟨np_X12_part, lw_g (lw_at lw_m25 129 rfl) rfl, Or.inl (lw_g (lw_at lw_m16 1 rfl) rfl)⟩⟩
  · exact ⟨⟨by decide, by decide⟩, im_X12_part, Or.inl ⟨np_X12_part, lw_g (lw_at lw_m25 130 rfl) rfl, Or.inl (lw_g (lw_at lw_m16 1 rfl) rfl)⟩⟩
  · exact ⟨⟨by decide, by decide⟩, im_X12_part, Or.inl ⟨np_X12_part, lw_g (lw_at lw_m25 131 rfl) rfl, Or.inl (lw_g (lw_at lw_m16 1 rfl) rfl)⟩⟩
  · exact ⟨⟨by decide, by decide⟩, im_X12_part, Or.inl ⟨np_X12_part, lw_g (lw_at lw_m25 133 rfl) rfl, Or.inl (lw_g (lw_at lw_m16 1 rfl) rfl)⟩⟩
  · exact ⟨⟨by decide, by decide⟩, im_X12_part, Or.inl ⟨np_X12_part, lw_g (lw_at lw_m25 134 rfl) rfl, Or.inl (lw_g (lw_at lw_m16 1 rfl) rfl)⟩⟩
  · exact ⟨⟨by decide, by decide⟩, im_X12_part, Or.inl ⟨np_X12_part, lw_g (lw_at lw_m25 135 rfl) rfl, Or.inl (lw_g (lw_at lw_m16 1 rfl) rfl)⟩⟩
  · exact ⟨⟨by decide, by decide⟩, im_X12_part, Or.inl ⟨np_X12_part, lw_g (lw_at lw_m25 136 rfl) rfl, Or.inl (lw_g (lw_at lw_m16 1 rfl) rfl)⟩⟩
  · exact ⟨⟨by decide, by decide⟩, im_X12_part, Or.inl ⟨np_X12_part, lw_g (lw_at lw_m25 138 rfl) rfl, Or.inl (lw_g (lw_at lw_m16 1 rfl) rfl)⟩⟩
  · exact ⟨⟨by decide, by decide⟩, im_X12_part, Or.inl ⟨np_X12_part, lw_g (lw_at lw_m25 139 rfl) rfl, Or.inl (lw_g (lw_at lw_m16 1 rfl) rfl)⟩⟩
  · exact ⟨⟨by decide, by decide⟩, im_X12_part, Or.inl ⟨np_X12_part, lw_g (lw_at lw_m25 140 rfl) rfl, Or.inl (lw_g (lw_at lw_m16 1 rfl) rfl)⟩⟩⟩
theorem ow20_11_11 : VMk "AlgolHouse$Machine" 220 160778897 := ⟨mok_X40_room, by decide, fun t ht => by
  obtain rfl : t = 41 := Nat.le_antisymm (Nat.le_trans ht.2 (by decide)) (Nat.le_trans (by decide) ht.1)
  exact ⟨⟨by decide, by decide⟩, im_X40_room, Or.inl ⟨np_X40_room, lw_g (lw_at lw_m11 151 rfl) rfl, Or.inl (lw_g (lw_at lw_m16 95 rfl) rfl)⟩⟩⟩
theorem ow20_11_12 : VMk "AlgolHouse$Machine" 234 32518242 := ⟨mok_X7_range, by decide, fun t ht => by
  obtain rfl : t = 6 := Nat.le_antisymm (Nat.le_trans ht.2 (by decide)) (Nat.le_trans (by decide) ht.1)
  exact ⟨⟨by decide, by decide⟩, im_X7_range, Or.inl ⟨np_X7_range, lw_g (lw_at lw_m17 17 rfl) rfl, Or.inl (lw_g (lw_at lw_m17 215 rfl) rfl)⟩⟩⟩
theorem ow20_11_13 : VMk "AlgolHouse$Machine" 239 167346946 := ⟨mok_J6_contains, by decide, fun t ht => by
  obtain rfl : t = 48 := Nat.le_antisymm (Nat.le_trans ht.2 (by decide)) (Nat.le_trans (by decide) ht.1)
  exact ⟨⟨by decide, by decide⟩, im_J6_contains, Or.inl ⟨np_J6_contains, lw_g (lw_at lw_m7 114 rfl) rfl, Or.inl (lw_g (lw_at lw_m17 144 rfl) rfl)⟩⟩⟩
theorem ow20_11_14 : VMk "AlgolHouse$Machine" 245 30158948 := ⟨mok_X7_enter, by decide, fun t ht => by
  obtain rfl : t = 6 := Nat.le_antisymm (Nat.le_trans ht.2 (by decide)) (Nat.le_trans (by decide) ht.1)
  exact ⟨⟨by decide, by decide⟩, im_X7_enter, Or.inl ⟨np_X7_enter, lw_g (lw_at lw_m16 93 rfl) rfl, Or.inl (lw_g (lw_at lw_m16 91 rfl) rfl)⟩⟩⟩
theorem ow20_11_15 : VMk "AlgolHouse$Machine" 250 30683236 := ⟨mok_X7_leave, by decide, fun t ht => by
  obtain rfl : t = 6 := Nat.le_antisymm (Nat.le_trans ht.2 (by decide)) (Nat.le_trans (by decide) ht.1)
  exact ⟨⟨by decide, by decide⟩, im_X7_leave, Or.inl ⟨np_X7_leave, lw_g (lw_at lw_m16 103 rfl) rfl, Or.inl (lw_g (lw_at lw_m16 101 rfl) rfl)⟩⟩⟩
theorem ow20_11_16 : VMk "AlgolHouse$Machine" 257 163402402 := ⟨mok_X46_clear, by decide, fun t ht => by
  obtain rfl : t = 42 := Nat.le_antisymm (Nat.le_trans ht.2 (by decide)) (Nat.le_trans (by decide) ht.1)
  exact ⟨⟨by decide, by decide⟩, im_X46_clear, Or.inl ⟨np_X46_clear, lw_g (lw_at lw_m16 212 rfl) rfl, Or.inl (lw_g (lw_at lw_m16 210 rfl) rfl)⟩⟩⟩
theorem ow20_11_17 : VMk "AlgolHouse$Machine" 261 31207521 := ⟨mok_X7_value, by decide, fun t ht => by
  obtain rfl : t = 6 := Nat.le_antisymm (Nat.le_trans ht.2 (by decide)) (Nat.le_trans (by decide) ht.1)
  exact ⟨⟨by decide, by decide⟩, im_X7_value, Or.inl ⟨np_X7_value, lw_g (lw_at lw_m16 118 rfl) rfl, Or.inl (lw_g (lw_at lw_m16 116 rfl) rfl)⟩⟩⟩
theorem ow20_11_18 : VMk "AlgolHouse$Machine" 304 24922257 := ⟨mok_X6_real, by decide, fun t ht => by
  obtain rfl : t = 9 := Nat.le_antisymm (Nat.le_trans ht.2 (by decide)) (Nat.le_trans (by decide) ht.1)
  exact ⟨⟨by decide, by decide⟩, im_X6_real, Or.inl ⟨np_X6_real, lw_g (lw_at lw_m11 4 rfl) rfl, Or.inl (lw_g (lw_at lw_m16 17 rfl) rfl)⟩⟩⟩
theorem ow20_11_19 : VMk "AlgolHouse$Machine" 337 29372515 := ⟨mok_X7_fresh, by decide, fun t ht => by
  obtain rfl : t = 6 := Nat.le_antisymm (Nat.le_trans ht.2 (by decide)) (Nat.le_trans (by decide) ht.1)
  exact ⟨⟨by decide, by decide⟩, im_X7_fresh, Or.inl ⟨np_X7_fresh, lw_g (lw_ms _ (List.mem_map.mpr ⟨_, List.mem_of_getElem? (i := 99) rfl, rfl⟩)) rfl, Or.inl (lw_g (lw_at lw_m16 26 rfl) rfl)⟩⟩⟩
theorem ow20_11_20 : VMk "AlgolHouse$Machine" 341 162607714 := ⟨mok_X45_add, by decide, fun t ht => by
  obtain rfl : t = 38 := Nat.le_antisymm (Nat.le_trans ht.2 (by decide)) (Nat.le_trans (by decide) ht.1)
  exact ⟨⟨by decide, by decide⟩, im_X45_add, Or.inl ⟨np_X45_add, lw_g (lw_at lw_m16 76 rfl) rfl, Or.inl (lw_g (lw_at lw_m16 74 rfl) rfl)⟩⟩⟩
theorem ow20_11_21 : VMk "AlgolHouse$Machine" 351 29110371 := ⟨mok_X7_lay, by decide, fun t ht => by
  obtain rfl : t = 6 := Nat.le_antisymm (Nat.le_trans ht.2 (by decide)) (Nat.le_trans (by decide) ht.1)
  exact ⟨⟨by decide, by decide⟩, im_X7_lay, Or.inl ⟨np_X7_lay, lw_g (lw_ms _ (List.mem_map.mpr ⟨_, List.mem_of_getElem? (i := 98) rfl, rfl⟩)) rfl, Or.inl (lw_g (lw_at lw_m16 22 rfl) rfl)⟩⟩⟩
theorem ow20_11_22 : VMk "AlgolHouse$Machine" 362 31469666 := ⟨mok_X7_row, by decide, fun t ht => by
  obtain rfl : t = 6 := Nat.le_antisymm (Nat.le_trans ht.2 (by decide)) (Nat.le_trans (by decide) ht.1)
  exact ⟨⟨by decide, by decide⟩, im_X7_row, Or.inl ⟨np_X7_row, lw_g (lw_at lw_m16 225 rfl) rfl, Or.inl (lw_g (lw_at lw_m17 190 rfl) rfl)⟩⟩⟩
theorem ow20_11_23 : VMk "AlgolHouse$Machine" 366 34615394 := ⟨mok_X7_copy_2, by decide, fun t ht => by
  obtain rfl : t = 6 := Nat.le_antisymm (Nat.le_trans ht.2 (by decide)) (Nat.le_trans (by decide) ht.1)
  exact ⟨⟨by decide, by decide⟩, im_X7_copy_2, Or.inl ⟨np_X7_copy_2, lw_g (lw_at lw_m17 193 rfl) rfl, Or.inl (lw_g (lw_at lw_m17 191 rfl) rfl)⟩⟩⟩
theorem ow20_11_24 : VMk "AlgolHouse$Machine" 370 163664546 := ⟨mok_X46_add, by decide, fun t ht => by
  obtain rfl : t = 42 := Nat.le_antisymm (Nat.le_trans ht.2 (by decide)) (Nat.le_trans (by decide) ht.1)
  exact ⟨⟨by decide, by decide⟩, im_X46_add, Or.inl ⟨np_X46_add, lw_g (lw_at lw_m16 233 rfl) rfl, Or.inl (lw_g (lw_at lw_m17 197 rfl) rfl)⟩⟩⟩
theorem ow20_11_25 : VMk "AlgolHouse$Machine" 373 30945377 := ⟨mok_X7_undefined, by decide, fun t ht => by
  obtain rfl : t = 6 := Nat.le_antisymm (Nat.le_trans ht.2 (by decide)) (Nat.le_trans (by decide) ht.1)
  exact ⟨⟨by decide, by decide⟩, im_X7_undefined, Or.inl ⟨np_X7_undefined, lw_g (lw_at lw_m16 114 rfl) rfl, Or.inl (lw_g (lw_at lw_m17 195 rfl) rfl)⟩⟩⟩
theorem ow20_11_26 : VMk "AlgolHouse$Machine" 376 31731810 := ⟨mok_X7_again, by decide, fun t ht => by
  obtain rfl : t = 6 := Nat.le_antisymm (Nat.le_trans ht.2 (by decide)) (Nat.le_trans (by decide) ht.1)
  exact ⟨⟨by decide, by decide⟩, im_X7_again, Or.inl ⟨np_X7_again, lw_g (lw_at lw_m16 229 rfl) rfl, Or.inl (lw_g (lw_at lw_m17 196 rfl) rfl)⟩⟩⟩
theorem ow20_11_27 : VMk "AlgolHouse$Machine" 383 30421091 := ⟨mok_X7_returned, by decide, fun t ht => by
  obtain rfl : t = 6 := Nat.le_antisymm (Nat.le_trans ht.2 (by decide)) (Nat.le_trans (by decide) ht.1)
  exact ⟨⟨by decide, by decide⟩, im_X7_returned, Or.inl ⟨np_X7_returned, lw_g (lw_at lw_m16 99 rfl) rfl, Or.inl (lw_g (lw_at lw_m18 24 rfl) rfl)⟩⟩⟩
theorem ow20_11_28 : VMk "AlgolHouse$Machine" 387 120918193 := ⟨mok_X12_steps, by decide, fun t ht => by
  rcases tg_11_34 (Nat.le_trans (by decide) ht.1) (Nat.le_trans ht.2 (by decide)) with rfl | rfl | rfl | rfl | rfl | rfl | rfl | rfl | rfl | rfl | rfl | rfl | rfl | rfl | rfl | rfl | rfl | rfl | rfl | rfl | rfl | rfl | rfl | rfl
  · exact ⟨⟨by decide, by decide⟩, im_X12_steps, Or.inl ⟨np_X12_steps, lw_g (lw_at lw_m15 38 rfl) rfl, Or.inl (lw_g (lw_at lw_m18 25 rfl) rfl)⟩⟩
  · exact ⟨⟨by decide, by decide⟩, im_X12_steps, Or.inl ⟨np_X12_steps, lw_g (lw_at lw_m15 39 rfl) rfl, Or.inl (lw_g (lw_at lw_m18 25 rfl) rfl)⟩⟩
  · exact ⟨⟨by decide, by decide⟩, im_X12_steps, Or.inl ⟨np_X12_steps, lw_g (lw_at lw_m15 41 rfl) rfl, Or.inl (lw_g (lw_at lw_m18 25 rfl) rfl)⟩⟩
  · exact ⟨⟨by decide, by decide⟩, im_X12_steps, Or.inl ⟨np_X12_steps, lw_g (lw_at lw_m15 46 rfl) rfl, Or.inl (lw_g (lw_at lw_m18 25 rfl) rfl)⟩⟩
  · exact ⟨⟨by decide, by decide⟩, im_X12_steps, Or.inl ⟨np_X12_steps, lw_g (lw_at lw_m15 51 rfl) rfl, Or.inl (lw_g (lw_at lw_m18 25 rfl) rfl)⟩⟩
  · exact ⟨⟨by decide, by decide⟩, im_X12_steps, Or.inl ⟨np_X12_steps, lw_g (lw_at lw_m15 60 rfl) rfl, Or.inl (lw_g (lw_at lw_m18 25 rfl) rfl)⟩⟩
  · exact ⟨⟨by decide, by decide⟩, im_X12_steps, Or.inl ⟨np_X12_steps, lw_g (lw_at lw_m15 42 rfl) rfl, Or.inl (lw_g (lw_at lw_m18 25 rfl) rfl)⟩⟩
  · exact ⟨⟨by decide, by decide⟩, im_X12_steps, Or.inl ⟨np_X12_steps, lw_g (lw_at lw_m15 43 rfl) rfl, Or.inl (lw_g (lw_at lw_m18 25 rfl) rfl)⟩⟩
  · exact ⟨⟨by decide, by decide⟩, im_X12_steps, Or.inl ⟨np_X12_steps, lw_g (lw_at lw_m15 40 rfl) rfl, Or.inl (lw_g (lw_at lw_m18 25 rfl) rfl)⟩⟩
  · exact ⟨⟨by decide, by decide⟩, im_X12_steps, Or.inl ⟨np_X12_steps, lw_g (lw_at lw_m15 47 rfl) rfl, Or.inl (lw_g (lw_at lw_m18 25 rfl) rfl)⟩⟩
  · exact ⟨⟨by decide, by decide⟩, im_X12_steps, Or.inl ⟨np_X12_steps, lw_g (lw_at lw_m15 56 rfl) rfl, Or.inl (lw_g (lw_at lw_m18 25 rfl) rfl)⟩⟩
  · exact ⟨⟨by decide, by decide⟩, im_X12_steps, Or.inl ⟨np_X12_steps, lw_g (lw_at lw_m15 61 rfl) rfl, Or.inl (lw_g (lw_at lw_m18 25 rfl) rfl)⟩⟩
  · exact ⟨⟨by decide, by decide⟩, im_X12_steps, Or.inl ⟨np_X12_steps, lw_g (lw_at lw_m15 44 rfl) rfl, Or.inl (lw_g (lw_at lw_m18 25 rfl) rfl)⟩⟩
  · exact ⟨⟨by decide, by decide⟩, im_X12_steps, Or.inl ⟨np_X12_steps, lw_g (lw_at lw_m15 45 rfl) rfl, Or.inl (lw_g (lw_at lw_m18 25 rfl) rfl)⟩⟩
  · exact ⟨⟨by decide, by decide⟩, im_X12_steps, Or.inl ⟨np_X12_steps, lw_g (lw_at lw_m15 48 rfl) rfl, Or.inl (lw_g (lw_at lw_m18 25 rfl) rfl)⟩⟩
  · exact ⟨⟨by decide, by decide⟩, im_X12_steps, Or.inl ⟨np_X12_steps, lw_g (lw_at lw_m15 49 rfl) rfl, Or.inl (lw_g (lw_at lw_m18 25 rfl) rfl)⟩⟩
  · exact ⟨⟨by decide, by decide⟩, im_X12_steps, Or.inl ⟨np_X12_steps, lw_g (lw_at lw_m15 50 rfl) rfl, Or.inl (lw_g (lw_at lw_m18 25 rfl) rfl)⟩⟩
  · exact ⟨⟨by decide, by decide⟩, im_X12_steps, Or.inl ⟨np_X12_steps, lw_g (lw_at lw_m15 52 rfl) rfl, Or.inl (lw_g (lw_at lw_m18 25 rfl) rfl)⟩⟩
  · exact ⟨⟨by decide, by decide⟩, im_X12_steps, Or.inl ⟨np_X12_steps, lw_g (lw_at lw_m15 53 rfl) rfl, Or.inl (lw_g (lw_at lw_m18 25 rfl) rfl)⟩⟩
  · exact ⟨⟨by decide, by decide⟩, im_X12_steps, Or.inl ⟨np_X12_steps, lw_g (lw_at lw_m15 54 rfl) rfl, Or.inl (lw_g (lw_at lw_m18 25 rfl) rfl)⟩⟩
  · exact ⟨⟨by decide, by decide⟩, im_X12_steps, Or.inl ⟨np_X12_steps, lw_g (lw_at lw_m15 55 rfl) rfl, Or.inl (lw_g (lw_at lw_m18 25 rfl) rfl)⟩⟩
  · exact ⟨⟨by decide, by decide⟩, im_X12_steps, Or.inl ⟨np_X12_steps, lw_g (lw_at lw_m15 57 rfl) rfl, Or.inl (lw_g (lw_at lw_m18 25 rfl) rfl)⟩⟩
  · exact ⟨⟨by decide, by decide⟩, im_X12_steps, Or.inl ⟨np_X12_steps, lw_g (lw_at lw_m15 58 rfl) rfl, Or.inl (lw_g (lw_at lw_m18 25 rfl) rfl)⟩⟩
  · exact ⟨⟨by decide, by decide⟩, im_X12_steps, Or.inl ⟨np_X12_steps, lw_g (lw_at lw_m15 59 rfl) rfl, Or.inl (lw_g (lw_at lw_m18 25 rfl) rfl)⟩⟩⟩
theorem ow20_11_29 : VMk "AlgolHouse$Machine" 391 29896806 := ⟨mok_X7_call, by decide, fun t ht => by
  obtain rfl : t = 6 := Nat.le_antisymm (Nat.le_trans ht.2 (by decide)) (Nat.le_trans (by decide) ht.1)
  exact ⟨⟨by decide, by decide⟩, im_X7_call, Or.inl ⟨np_X7_call, lw_g (lw_at lw_m16 89 rfl) rfl, Or.inl (lw_g (lw_at lw_m18 26 rfl) rfl)⟩⟩⟩
theorem ow20_11_30 : VMk "AlgolHouse$Machine" 395 27799651 := ⟨mok_X7_followed, by decide, fun t ht => by
  obtain rfl : t = 6 := Nat.le_antisymm (Nat.le_trans ht.2 (by decide)) (Nat.le_trans (by decide) ht.1)
  exact ⟨⟨by decide, by decide⟩, im_X7_followed, Or.inl ⟨np_X7_followed, lw_g (lw_at lw_m16 4 rfl) rfl, Or.inl (lw_g (lw_at lw_m18 27 rfl) rfl)⟩⟩⟩
theorem ow20_11_31 : VMk "AlgolHouse$Machine" 402 31993955 := ⟨mok_X7_fits, by decide, fun t ht => by
  obtain rfl : t = 6 := Nat.le_antisymm (Nat.le_trans ht.2 (by decide)) (Nat.le_trans (by decide) ht.1)
  exact ⟨⟨by decide, by decide⟩, im_X7_fits, Or.inl ⟨np_X7_fits, lw_g (lw_at lw_m16 237 rfl) rfl, Or.inl (lw_g (lw_at lw_m18 28 rfl) rfl)⟩⟩⟩
theorem ow20_11 : ∀ q ∈ ([(61, 36266691), (118, 26488930), (122, 166822658), (141, 35139682), (151, 27013220), (156, 26751075), (159, 165249793), (164, 165774082), (168, 162011186), (191, 27537506), (199, 118558898), (220, 160778897), (234, 32518242), (239, 167346946), (245, 30158948), (250, 30683236), (257, 163402402), (261, 31207521), (304, 24922257), (337, 29372515), (341, 162607714), (351, 29110371), (362, 31469666), (366, 34615394), (370, 163664546), (373, 30945377), (376, 31731810), (383, 30421091), (387, 120918193), (391, 29896806), (395, 27799651), (402, 31993955)] : List (Nat × Nat)), VMk "AlgolHouse$Machine" q.1 q.2 := List.forall_mem_cons.mpr ⟨ow20_11_0, List.forall_mem_cons.mpr ⟨ow20_11_1, List.forall_mem_cons.mpr ⟨ow20_11_2, List.forall_mem_cons.mpr ⟨ow20_11_3, List.forall_mem_cons.mpr ⟨ow20_11_4, List.forall_mem_cons.mpr ⟨ow20_11_5, List.forall_mem_cons.mpr ⟨ow20_11_6, List.forall_mem_cons.mpr ⟨ow20_11_7, List.forall_mem_cons.mpr ⟨ow20_11_8, List.forall_mem_cons.mpr ⟨ow20_11_9, List.forall_mem_cons.mpr ⟨ow20_11_10, List.forall_mem_cons.mpr ⟨ow20_11_11, List.forall_mem_cons.mpr ⟨ow20_11_12, List.forall_mem_cons.mpr ⟨ow20_11_13, List.forall_mem_cons.mpr ⟨ow20_11_14, List.forall_mem_cons.mpr ⟨ow20_11_15, List.forall_mem_cons.mpr ⟨ow20_11_16, List.forall_mem_cons.mpr ⟨ow20_11_17, List.forall_mem_cons.mpr ⟨ow20_11_18, List.forall_mem_cons.mpr ⟨ow20_11_19, List.forall_mem_cons.mpr ⟨ow20_11_20, List.forall_mem_cons.mpr ⟨ow20_11_21, List.forall_mem_cons.mpr ⟨ow20_11_22, List.forall_mem_cons.mpr ⟨ow20_11_23, List.forall_mem_cons.mpr ⟨ow20_11_24, List.forall_mem_cons.mpr ⟨ow20_11_25, List.forall_mem_cons.mpr ⟨ow20_11_26, List.forall_mem_cons.mpr ⟨ow20_11_27, List.forall_mem_cons.mpr ⟨ow20_11_28, List.forall_mem_cons.mpr ⟨ow20_11_29, List.forall_mem_cons.mpr ⟨ow20_11_30, List.forall_mem_cons.mpr ⟨ow20_11_31, fun q h => by cases h⟩⟩⟩⟩⟩⟩⟩⟩⟩⟩⟩⟩⟩⟩⟩⟩⟩⟩⟩⟩⟩⟩⟩⟩⟩⟩⟩⟩⟩⟩⟩⟩
theorem ow20_12_0 : PMk "AlgolHouse$Machine" 135 8 3 := ⟨by decide, fun t m h => by
  rcases dsp_8 h with ⟨rfl, rfl⟩ | ⟨rfl, rfl⟩ | ⟨rfl, rfl⟩ | ⟨rfl, rfl⟩ | ⟨rfl, rfl⟩ | ⟨rfl, rfl⟩ | ⟨rfl, rfl⟩ | ⟨rfl, rfl⟩ | ⟨rfl, rfl⟩ | ⟨rfl, rfl⟩ | ⟨rfl, rfl⟩ | ⟨rfl, rfl⟩ | ⟨rfl, rfl⟩ | ⟨rfl, rfl⟩ | ⟨rfl, rfl⟩ | ⟨rfl, rfl⟩ | ⟨rfl, rfl⟩ | ⟨rfl, rfl⟩ | ⟨rfl, rfl⟩ | ⟨rfl, rfl⟩ | ⟨rfl, rfl⟩ | ⟨rfl, rfl⟩ | ⟨rfl, rfl⟩ | ⟨rfl, rfl⟩
  · exact ⟨mok_X35_work, ⟨by decide, by decide⟩, im_X35_work, Or.inr ⟨⟨"AlgolHouse$Node", "work", "(LAlgolHouse$Machine;LAlgolHouse$Frame;)V"⟩, "AlgolHouse$Node", by decide +kernel, lw_g (lw_at lw_m15 225 rfl) rfl, lw_g (lw_at lw_m15 227 rfl) rfl, Or.inl (lw_at lw_m15 226 rfl), ⟨by decide +kernel, by decide +kernel⟩, lw_g (lw_at lw_m15 228 rfl) rfl⟩⟩
  · exact ⟨mok_X22_work, ⟨by decide, by decide⟩, im_X22_work, Or.inr ⟨⟨"AlgolHouse$Node", "work", "(LAlgolHouse$Machine;LAlgolHouse$Frame;)V"⟩, "AlgolHouse$Node", by decide +kernel, lw_g (lw_at lw_m15 225 rfl) rfl, lw_g (lw_at lw_m15 227 rfl) rfl, Or.inl (lw_at lw_m15 226 rfl), ⟨by decide +kernel, by decide +kernel⟩, lw_g (lw_at lw_m16 82 rfl) rfl⟩⟩
  · exact ⟨mok_X21_work, ⟨by decide, by decide⟩, im_X21_work, Or.inr ⟨⟨"AlgolHouse$Node", "work", "(LAlgolHouse$Machine;LAlgolHouse$Frame;)V"⟩, "AlgolHouse$Node", by decide +kernel, lw_g (lw_at lw_m15 225 rfl) rfl, lw_g (lw_at lw_m15 227 rfl) rfl, Or.inl (lw_at lw_m15 226 rfl), ⟨by decide +kernel, by decide +kernel⟩, lw_g (lw_at lw_m16 214 rfl) rfl⟩⟩
  · exact ⟨mok_X20_work, ⟨by decide, by decide⟩, im_X20_work, Or.inr ⟨⟨"AlgolHouse$Node", "work", "(LAlgolHouse$Machine;LAlgolHouse$Frame;)V"⟩, "AlgolHouse$Node", by decide +kernel, lw_g (lw_at lw_m15 225 rfl) rfl, lw_g (lw_at lw_m15 227 rfl) rfl, Or.inl (lw_at lw_m15 226 rfl), ⟨by decide +kernel, by decide +kernel⟩, lw_g (lw_at lw_m17 73 rfl) rfl⟩⟩
  · exact ⟨mok_X38_work, ⟨by decide, by decide⟩, im_X38_work, Or.inr ⟨⟨"AlgolHouse$Node", "work", "(LAlgolHouse$Machine;LAlgolHouse$Frame;)V"⟩, "AlgolHouse$Node", by decide +kernel, lw_g (lw_at lw_m15 225 rfl) rfl, lw_g (lw_at lw_m15 227 rfl) rfl, Or.inl (lw_at lw_m15 226 rfl), ⟨by decide +kernel, by decide +kernel⟩, lw_g (lw_at lw_m17 116 rfl) rfl⟩⟩
  · exact ⟨mok_X39_work, ⟨by decide, by decide⟩, im_X39_work, Or.inr ⟨⟨"AlgolHouse$Node", "work", "(LAlgolHouse$Machine;LAlgolHouse$Frame;)V"⟩, "AlgolHouse$Node", by decide +kernel, lw_g (lw_at lw_m15 225 rfl) rfl, lw_g (lw_at lw_m15 227 rfl) rfl, Or.inl (lw_at lw_m15 226 rfl), ⟨by decide +kernel, by decide +kernel⟩, lw_g (lw_at lw_m17 218 rfl) rfl⟩⟩
  · exact ⟨mok_X16_work, ⟨by decide, by decide⟩, im_X16_work, Or.inr ⟨⟨"AlgolHouse$Node", "work", "(LAlgolHouse$Machine;LAlgolHouse$Frame;)V"⟩, "AlgolHouse$Node", by decide +kernel, lw_g (lw_at lw_m15 225 rfl) rfl, lw_g (lw_at lw_m15 227 rfl) rfl, Or.inl (lw_at lw_m15 226 rfl), ⟨by decide +kernel, by decide +kernel⟩, lw_g (lw_at lw_m16 219 rfl) rfl⟩⟩
  · exact ⟨mok_X25_work, ⟨by decide, by decide⟩, im_X25_work, Or.inr ⟨⟨"AlgolHouse$Node", "work", "(LAlgolHouse$Machine;LAlgolHouse$Frame;)V"⟩, "AlgolHouse$Node", by decide +kernel, lw_g (lw_at lw_m15 225 rfl) rfl, lw_g (lw_at lw_m15 227 rfl) rfl, Or.inl (lw_at lw_m15 226 rfl), ⟨by decide +kernel, by decide +kernel⟩, lw_g (lw_at lw_m17 0 rfl) rfl⟩⟩
  · exact ⟨mok_X32_work, ⟨by decide, by decide⟩, im_X32_work, Or.inr ⟨⟨"AlgolHouse$Node", "work", "(LAlgolHouse$Machine;LAlgolHouse$Frame;)V"⟩, "AlgolHouse$Node", by decide +kernel, lw_g (lw_at lw_m15 225 rfl) rfl, lw_g (lw_at lw_m15 227 rfl) rfl, Or.inl (lw_at lw_m15 226 rfl), ⟨by decide +kernel, by decide +kernel⟩, lw_g (lw_at lw_m16 106 rfl) rfl⟩⟩
  · exact ⟨mok_X30_work, ⟨by decide, by decide⟩, im_X30_work, Or.inr ⟨⟨"AlgolHouse$Node", "work", "(LAlgolHouse$Machine;LAlgolHouse$Frame;)V"⟩, "AlgolHouse$Node", by decide +kernel, lw_g (lw_at lw_m15 225 rfl) rfl, lw_g (lw_at lw_m15 227 rfl) rfl, Or.inl (lw_at lw_m15 226 rfl), ⟨by decide +kernel, by decide +kernel⟩, lw_g (lw_at lw_m17 78 rfl) rfl⟩⟩
  · exact ⟨mok_X14_work, ⟨by decide, by decide⟩, im_X14_work, Or.inr ⟨⟨"AlgolHouse$Node", "work", "(LAlgolHouse$Machine;LAlgolHouse$Frame;)V"⟩, "AlgolHouse$Node", by decide +kernel, lw_g (lw_at lw_m15 225 rfl) rfl, lw_g (lw_at lw_m15 227 rfl) rfl, Or.inl (lw_at lw_m15 226 rfl), ⟨by decide +kernel, by decide +kernel⟩, lw_g (lw_at lw_m17 162 rfl) rfl⟩⟩
  · exact ⟨mok_X31_work, ⟨by decide, by decide⟩, im_X31_work, Or.inr ⟨⟨"AlgolHouse$Node", "work", "(LAlgolHouse$Machine;LAlgolHouse$Frame;)V"⟩, "AlgolHouse$Node", by decide +kernel, lw_g (lw_at lw_m15 225 rfl) rfl, lw_g (lw_at lw_m15 227 rfl) rfl, Or.inl (lw_at lw_m15 226 rfl), ⟨by decide +kernel, by decide +kernel⟩, lw_g (lw_at lw_m17 232 rfl) rfl⟩⟩
  · exact ⟨mok_X24_work, ⟨by decide, by decide⟩, im_X24_work, Or.inr ⟨⟨"AlgolHouse$Node", "work", "(LAlgolHouse$Machine;LAlgolHouse$Frame;)V"⟩, "AlgolHouse$Node", by decide +kernel, lw_g (lw_at lw_m15 225 rfl) rfl, lw_g (lw_at lw_m15 227 rfl) rfl, Or.inl (lw_at lw_m15 226 rfl), ⟨by decide +kernel, by decide +kernel⟩, lw_g (lw_at lw_m17 11 rfl) rfl⟩⟩
  · exact ⟨mok_X27_work, ⟨by decide, by decide⟩, im_X27_work, Or.inr ⟨⟨"AlgolHouse$Node", "work", "(LAlgolHouse$Machine;LAlgolHouse$Frame;)V"⟩, "AlgolHouse$Node", by decide +kernel, lw_g (lw_at lw_m15 225 rfl) rfl, lw_g (lw_at lw_m15 227 rfl) rfl, Or.inl (lw_at lw_m15 226 rfl), ⟨by decide +kernel, by decide +kernel⟩, lw_g (lw_at lw_m17 54 rfl) rfl⟩⟩
  · exact ⟨mok_X36_work, ⟨by decide, by decide⟩, im_X36_work, Or.inr ⟨⟨"AlgolHouse$Node", "work", "(LAlgolHouse$Machine;LAlgolHouse$Frame;)V"⟩, "AlgolHouse$Node", by decide +kernel, lw_g (lw_at lw_m15 225 rfl) rfl, lw_g (lw_at lw_m15 227 rfl) rfl, Or.inl (lw_at lw_m15 226 rfl), ⟨by decide +kernel, by decide +kernel⟩, lw_g (lw_at lw_m17 85 rfl) rfl⟩⟩
  · exact ⟨mok_X34_work, ⟨by decide, by decide⟩, im_X34_work, Or.inr ⟨⟨"AlgolHouse$Node", "work", "(LAlgolHouse$Machine;LAlgolHouse$Frame;)V"⟩, "AlgolHouse$Node", by decide +kernel, lw_g (lw_at lw_m15 225 rfl) rfl, lw_g (lw_at lw_m15 227 rfl) rfl, Or.inl (lw_at lw_m15 226 rfl), ⟨by decide +kernel, by decide +kernel⟩, lw_g (lw_at lw_m17 92 rfl) rfl⟩⟩
  · exact ⟨mok_X37_work, ⟨by decide, by decide⟩, im_X37_work, Or.inr ⟨⟨"AlgolHouse$Node", "work", "(LAlgolHouse$Machine;LAlgolHouse$Frame;)V"⟩, "AlgolHouse$Node", by decide +kernel, lw_g (lw_at lw_m15 225 rfl) rfl, lw_g (lw_at lw_m15 227 rfl) rfl, Or.inl (lw_at lw_m15 226 rfl), ⟨by decide +kernel, by decide +kernel⟩, lw_g (lw_at lw_m17 111 rfl) rfl⟩⟩
  · exact ⟨mok_X28_work, ⟨by decide, by decide⟩, im_X28_work, Or.inr ⟨⟨"AlgolHouse$Node", "work", "(LAlgolHouse$Machine;LAlgolHouse$Frame;)V"⟩, "AlgolHouse$Node", by decide +kernel, lw_g (lw_at lw_m15 225 rfl) rfl, lw_g (lw_at lw_m15 227 rfl) rfl, Or.inl (lw_at lw_m15 226 rfl), ⟨by decide +kernel, by decide +kernel⟩, lw_g (lw_at lw_m17 121 rfl) rfl⟩⟩
  · exact ⟨mok_X33_work, ⟨by decide, by decide⟩, im_X33_work, Or.inr ⟨⟨"AlgolHouse$Node", "work", "(LAlgolHouse$Machine;LAlgolHouse$Frame;)V"⟩, "AlgolHouse$Node", by decide +kernel, lw_g (lw_at lw_m15 225 rfl) rfl, lw_g (lw_at lw_m15 227 rfl) rfl, Or.inl (lw_at lw_m15 226 rfl), ⟨by decide +kernel, by decide +kernel⟩, lw_g (lw_at lw_m17 126 rfl) rfl⟩⟩
  · exact ⟨mok_X17_work, ⟨by decide, by decide⟩, im_X17_work, Or.inr ⟨⟨"AlgolHouse$Node", "work", "(LAlgolHouse$Machine;LAlgolHouse$Frame;)V"⟩, "AlgolHouse$Node", by decide +kernel, lw_g (lw_at lw_m15 225 rfl) rfl, lw_g (lw_at lw_m15 227 rfl) rfl, Or.inl (lw_at lw_m15 226 rfl), ⟨by decide +kernel, by decide +kernel⟩, lw_g (lw_at lw_m17 136 rfl) rfl⟩⟩
  · exact ⟨mok_X26_work, ⟨by decide, by decide⟩, im_X26_work, Or.inr ⟨⟨"AlgolHouse$Node", "work", "(LAlgolHouse$Machine;LAlgolHouse$Frame;)V"⟩, "AlgolHouse$Node", by decide +kernel, lw_g (lw_at lw_m15 225 rfl) rfl, lw_g (lw_at lw_m15 227 rfl) rfl, Or.inl (lw_at lw_m15 226 rfl), ⟨by decide +kernel, by decide +kernel⟩, lw_g (lw_at lw_m17 146 rfl) rfl⟩⟩
  · exact ⟨mok_X15_work, ⟨by decide, by decide⟩, im_X15_work, Or.inr ⟨⟨"AlgolHouse$Node", "work", "(LAlgolHouse$Machine;LAlgolHouse$Frame;)V"⟩, "AlgolHouse$Node", by decide +kernel, lw_g (lw_at lw_m15 225 rfl) rfl, lw_g (lw_at lw_m15 227 rfl) rfl, Or.inl (lw_at lw_m15 226 rfl), ⟨by decide +kernel, by decide +kernel⟩, lw_g (lw_at lw_m17 169 rfl) rfl⟩⟩
  · exact ⟨mok_X23_work, ⟨by decide, by decide⟩, im_X23_work, Or.inr ⟨⟨"AlgolHouse$Node", "work", "(LAlgolHouse$Machine;LAlgolHouse$Frame;)V"⟩, "AlgolHouse$Node", by decide +kernel, lw_g (lw_at lw_m15 225 rfl) rfl, lw_g (lw_at lw_m15 227 rfl) rfl, Or.inl (lw_at lw_m15 226 rfl), ⟨by decide +kernel, by decide +kernel⟩, lw_g (lw_at lw_m17 174 rfl) rfl⟩⟩
  · exact ⟨mok_X29_work, ⟨by decide, by decide⟩, im_X29_work, Or.inr ⟨⟨"AlgolHouse$Node", "work", "(LAlgolHouse$Machine;LAlgolHouse$Frame;)V"⟩, "AlgolHouse$Node", by decide +kernel, lw_g (lw_at lw_m15 225 rfl) rfl, lw_g (lw_at lw_m15 227 rfl) rfl, Or.inl (lw_at lw_m15 226 rfl), ⟨by decide +kernel, by decide +kernel⟩, lw_g (lw_at lw_m17 208 rfl) rfl⟩⟩⟩
theorem ow20_12_1 : PMk "AlgolHouse$Machine" 249 9 2 := ⟨by decide, fun t m h => by
  rcases dsp_9 h with ⟨rfl, rfl⟩
  · exact ⟨mok_X12_part, ⟨by decide, by decide⟩, im_X12_part, Or.inr ⟨⟨"AlgolHouse$Routine", "part", "(I)LAlgolHouse$Node;"⟩, "AlgolHouse$Node", by decide +kernel, lw_g (lw_at lw_m16 96 rfl) rfl, lw_g (lw_at lw_m13 72 rfl) rfl, Or.inl (lw_at lw_m10 110 rfl), ⟨by decide +kernel, by decide +kernel⟩, lw_g (lw_at lw_m13 73 rfl) rfl⟩⟩⟩
theorem ow20_12 : ∀ q ∈ ([(135, 8), (249, 9)] : List (Nat × Nat)), ∀ n, pN q.2 n → PMk "AlgolHouse$Machine" q.1 q.2 n := List.forall_mem_cons.mpr ⟨(fun n hn => by cases hn; exact ow20_12_0), List.forall_mem_cons.mpr ⟨(fun n hn => by cases hn; exact ow20_12_1), fun q h => by cases h⟩⟩
theorem ow20_13 : ∀ q ∈ ([(3, 0)] : List (Nat × Nat)), Cond.methodLink "AlgolHouse$Machine" q.1 Lib.objectInit ∈ lw_all := List.forall_mem_cons.mpr ⟨lw_g (lw_at lw_m3 179 rfl) rfl, fun q h => by cases h⟩
theorem ow20_14 : ∀ q ∈ ([] : List (Nat × Nat)), JMk "AlgolHouse$Machine" q.1 q.2 := fun q h => by cases h
theorem ow20_15 : ∀ q ∈ ([] : List (Nat × Nat)), exT q.2 ∧ NLk "AlgolHouse$Machine" q.1 q.2 := fun q h => by cases h
theorem ow20_16 : ∀ q ∈ ([] : List (Nat × Nat)), exT q.2 ∧ Cond.methodLink "AlgolHouse$Machine" q.1 ⟨cN q.2, "<init>", "()V"⟩ ∈ lw_all := fun q h => by cases h
def Om20 : Om := [[(21, 377883674), (25, 394660890), (28, 411438106), (33, 428215322), (37, 486935578), (41, 495324186), (45, 554044442), (48, 562433050), (56, 587598874), (65, 528878619), (69, 537267227), (72, 545655833), (76, 478546968), (80, 386272280), (83, 403049496), (86, 419826712), (89, 436603930), (93, 444992538), (97, 453381144), (100, 461769752), (103, 470158360), (106, 503712792), (115, 570821656), (128, 176358924), (131, 117638670), (145, 3509344432), (148, 3517733040), (155, 740443180), (171, 167970318), (178, 579210264), (181, 151193100), (187, 142804494), (195, 134415886), (203, 193136142), (212, 1495814306), (215, 1504202914), (225, 1520980130), (231, 612896798), (238, 621285404), (242, 1151220858), (264, 1571443881), (267, 1579832490), (270, 1646941352), (273, 1563055275), (276, 1588221098), (280, 1596609706), (283, 1604998312), (285, 1613386922), (289, 1621775530), (292, 1630164138), (295, 1655329960), (296, 1663718568), (298, 1411796120), (301, 1638552746), (310, 646517286), (313, 638128676), (317, 671683110), (324, 1403407514), (327, 1420184731), (328, 1428573338), (329, 1436961946), (333, 1453739162), (335, 1462127768), (380, 184747535), (389, 773997614), (399, 782386222)], [(65, 528878619), (69, 537267227), (72, 545655833), (76, 478546968), (80, 386272280), (83, 403049496), (86, 419826712), (89, 436603930), (93, 444992538), (97, 453381144), (100, 461769752), (103, 470158360), (106, 503712792), (109, 512101400), (112, 520490008), (115, 570821656), (128, 176358924), (171, 167970318), (178, 579210264), (181, 151193100), (184, 159581708), (203, 193136142), (212, 1495814306), (215, 1504202914), (219, 1512591520), (264, 1571443881), (267, 1579832490), (270, 1646941352), (276, 1588221098), (280, 1596609706), (283, 1604998312), (285, 1613386922), (289, 1621775530), (292, 1630164138), (295, 1655329960), (296, 1663718568), (298, 1411796120), (324, 1403407514), (327, 1420184731), (328, 1428573338), (329, 1436961946), (331, 1445350554), (333, 1453739162), (335, 1462127768), (336, 1470516376), (380, 184747535)], [(12, 369495066), (21, 377883674), (25, 394660890), (28, 411438106), (33, 428215322), (37, 486935578), (41, 495324186), (45, 554044442), (48, 562433050), (56, 587598874)], [], [], [(9, 10), (18, 48), (31, 40), (51, 44), (126, 3), (254, 42), (299, 38)], [(31, 74)], [(126, 387), (254, 5418), (299, 4902), (305, 1161)], [], [(206, 174587906), (227, 28311553), (314, 28835841), (319, 28573698), (344, 175112194), (355, 34340865), (359, 34078721)], [(11, 18632865), (20, 164725505), (53, 36004547), (60, 36520577), (163, 161749041), (256, 163140257), (323, 162345569)], [(61, 36266691), (118, 26488930), (122, 166822658), (141, 35139682), (151, 27013220), (156, 26751075), (159, 165249793), (164, 165774082), (168, 162011186), (191, 27537506), (199, 118558898), (220, 160778897), (234, 32518242), (239, 167346946), (245, 30158948), (250, 30683236), (257, 163402402), (261, 31207521), (304, 24922257), (337, 29372515), (341, 162607714), (351, 29110371), (362, 31469666), (366, 34615394), (370, 163664546), (373, 30945377), (376, 31731810), (383, 30421091), (387, 120918193), (391, 29896806), (395, 27799651), (402, 31993955)], [(135, 8), (249, 9)], [(3, 0)], [], [], []]
def Ok20 : List (Nat × Int) := []
def Ol20 : List (Nat × Int) := [(174, 6364136223846793005), (176, 1442695040888963407), (347, 64), (349, 300)]
theorem ow20 {s0 : State} (hN : NCs s0) : OwnOK s0 "AlgolHouse$Machine" Om20 Ok20 Ol20 := ⟨ow20_k, ow20_l, ow20_0, ow20_1, ow20_2, ow20_3, ow20_4, ow20_5, ow20_6, ow20_7, ow20_8 hN, ow20_9, ow20_10, ow20_11, ow20_12, ow20_13, ow20_14, ow20_15, ow20_16⟩
theorem ow21_k : ∀ q ∈ ([] : List (Nat × Int)), Cond.constant "AlgolHouse$Meaning" q.1 (Int32.ofInt q.2) ∈ lw_all := fun q h => by cases h
theorem ow21_l : ∀ q ∈ ([] : List (Nat × Int)), Cond.constantLong "AlgolHouse$Meaning" q.1 (Int64.ofInt q.2) ∈ lw_all := fun q h => by cases h
theorem ow21_0 : ∀ q ∈ ([] : List (Nat × Nat)), q.2 ∈ iFs ∧ FLk "AlgolHouse$Meaning" q.1 q.2 := fun q h => by cases h
theorem ow21_1 : ∀ q ∈ ([] : List (Nat × Nat)), q.2 ∈ iFs ∧ PLk "AlgolHouse$Meaning" q.1 q.2 := fun q h => by cases h
theorem ow21_2 : ∀ q ∈ ([(7, 596119581), (13, 604508190), (17, 612896798), (27, 621285404)] : List (Nat × Nat)), q.2 ∈ iFs ∧ PFk "AlgolHouse$Meaning" q.1 q.2 := List.forall_mem_cons.mpr ⟨⟨List.mem_of_getElem? (i := 71) rfl, rfl, rfl, "AlgolHouse$Meaning", lw_g (lw_at lw_m11 153 rfl) rfl, Or.inl rfl⟩, List.forall_mem_cons.mpr ⟨⟨List.mem_of_getElem? (i := 72) rfl, rfl, rfl, "AlgolHouse$Meaning", lw_g (lw_at lw_m11 157 rfl) rfl, Or.inl rfl⟩, List.forall_mem_cons.mpr ⟨⟨List.mem_of_getElem? (i := 73) rfl, rfl, rfl, "AlgolHouse$Meaning", lw_g (lw_at lw_m11 162 rfl) rfl, Or.inl rfl⟩, List.forall_mem_cons.mpr ⟨⟨List.mem_of_getElem? (i := 74) rfl, rfl, rfl, "AlgolHouse$Meaning", lw_g (lw_at lw_m11 167 rfl) rfl, Or.inl rfl⟩, fun q h => by cases h⟩⟩⟩⟩
theorem ow21_3 : ∀ q ∈ ([] : List (Nat × Nat)), q.2 ∈ sFs ∧ FLk "AlgolHouse$Meaning" q.1 q.2 := fun q h => by cases h
theorem ow21_4 : ∀ q ∈ ([] : List (Nat × Nat)), TLk "AlgolHouse$Meaning" q.1 q.2 ∧ q.2 % 4 = 2 := fun q h => by cases h
theorem ow21_5 : ∀ q ∈ ([] : List (Nat × Nat)), mdT q.2 = true ∧ NLk "AlgolHouse$Meaning" q.1 q.2 := fun q h => by cases h
theorem ow21_6 : ∀ q ∈ ([] : List (Nat × Nat)), mdA q.2 = true ∧ ak q.2 = 2 ∧ ALk "AlgolHouse$Meaning" q.1 q.2 := fun q h => by cases h
theorem ow21_7 : ∀ q ∈ ([] : List (Nat × Nat)), XLk "AlgolHouse$Meaning" q.1 q.2 := fun q h => by cases h
theorem ow21_8 {s0 : State} (hN : NCs s0) : ∀ q ∈ ([] : List (Nat × Nat)), YLk s0 "AlgolHouse$Meaning" q.1 q.2 := fun q h => by cases h
theorem ow21_9 : ∀ q ∈ ([] : List (Nat × Nat)), q.2 = ACN ∧ ACk "AlgolHouse$Meaning" q.1 ∨ q.2 ≠ ACN ∧ SMk "AlgolHouse$Meaning" q.1 q.2 := fun q h => by cases h
theorem ow21_10 : ∀ q ∈ ([] : List (Nat × Nat)), IMk "AlgolHouse$Meaning" q.1 q.2 ∧ ∀ t, inT (q.2 / 16 % 128) (q.2 / 2048 % 128) t → inT 1 55 t := fun q h => by cases h
theorem ow21_11_0 : VMk "AlgolHouse$Meaning" 21 160778897 := ⟨mok_X40_room, by decide, fun t ht => by
  obtain rfl : t = 41 := Nat.le_antisymm (Nat.le_trans ht.2 (by decide)) (Nat.le_trans (by decide) ht.1)
  exact ⟨⟨by decide, by decide⟩, im_X40_room, Or.inl ⟨np_X40_room, lw_g (lw_at lw_m11 151 rfl) rfl, Or.inl (lw_g (lw_at lw_m11 149 rfl) rfl)⟩⟩⟩
theorem ow21_11 : ∀ q ∈ ([(21, 160778897)] : List (Nat × Nat)), VMk "AlgolHouse$Meaning" q.1 q.2 := List.forall_mem_cons.mpr ⟨ow21_11_0, fun q h => by cases h⟩
theorem ow21_12 : ∀ q ∈ ([] : List (Nat × Nat)), ∀ n, pN q.2 n → PMk "AlgolHouse$Meaning" q.1 q.2 n := fun q h => by cases h
theorem ow21_13 : ∀ q ∈ ([(1, 0)] : List (Nat × Nat)), Cond.methodLink "AlgolHouse$Meaning" q.1 Lib.objectInit ∈ lw_all := List.forall_mem_cons.mpr ⟨lw_g (lw_at lw_m11 148 rfl) rfl, fun q h => by cases h⟩
theorem ow21_14 : ∀ q ∈ ([] : List (Nat × Nat)), JMk "AlgolHouse$Meaning" q.1 q.2 := fun q h => by cases h
theorem ow21_15 : ∀ q ∈ ([] : List (Nat × Nat)), exT q.2 ∧ NLk "AlgolHouse$Meaning" q.1 q.2 := fun q h => by cases h
theorem ow21_16 : ∀ q ∈ ([] : List (Nat × Nat)), exT q.2 ∧ Cond.methodLink "AlgolHouse$Meaning" q.1 ⟨cN q.2, "<init>", "()V"⟩ ∈ lw_all := fun q h => by cases h
def Om21 : Om := [[], [], [(7, 596119581), (13, 604508190), (17, 612896798), (27, 621285404)], [], [], [], [], [], [], [], [], [(21, 160778897)], [], [(1, 0)], [], [], []]
def Ok21 : List (Nat × Int) := []
def Ol21 : List (Nat × Int) := []
theorem ow21 {s0 : State} (hN : NCs s0) : OwnOK s0 "AlgolHouse$Meaning" Om21 Ok21 Ol21 := ⟨ow21_k, ow21_l, ow21_0, ow21_1, ow21_2, ow21_3, ow21_4, ow21_5, ow21_6, ow21_7, ow21_8 hN, ow21_9, ow21_10, ow21_11, ow21_12, ow21_13, ow21_14, ow21_15, ow21_16⟩
theorem ow22_k : ∀ q ∈ ([] : List (Nat × Int)), Cond.constant "AlgolHouse$Mode" q.1 (Int32.ofInt q.2) ∈ lw_all := fun q h => by cases h
theorem ow22_l : ∀ q ∈ ([] : List (Nat × Int)), Cond.constantLong "AlgolHouse$Mode" q.1 (Int64.ofInt q.2) ∈ lw_all := fun q h => by cases h
theorem ow22_0 : ∀ q ∈ ([(14, 646517286), (20, 638128676), (24, 671683110)] : List (Nat × Nat)), q.2 ∈ iFs ∧ FLk "AlgolHouse$Mode" q.1 q.2 := List.forall_mem_cons.mpr ⟨⟨List.mem_of_getElem? (i := 77) rfl, ⟨"AlgolHouse$Mode", Or.inl (lw_g (lw_at lw_m3 81 rfl) rfl), Or.inl rfl⟩⟩, List.forall_mem_cons.mpr ⟨⟨List.mem_of_getElem? (i := 76) rfl, ⟨"AlgolHouse$Mode", Or.inl (lw_g (lw_at lw_m3 69 rfl) rfl), Or.inl rfl⟩⟩, List.forall_mem_cons.mpr ⟨⟨List.mem_of_getElem? (i := 80) rfl, ⟨"AlgolHouse$Mode", Or.inl (lw_g (lw_at lw_m3 94 rfl) rfl), Or.inl rfl⟩⟩, fun q h => by cases h⟩⟩⟩
theorem ow22_1 : ∀ q ∈ ([(24, 671683110)] : List (Nat × Nat)), q.2 ∈ iFs ∧ PLk "AlgolHouse$Mode" q.1 q.2 := List.forall_mem_cons.mpr ⟨⟨List.mem_of_getElem? (i := 80) rfl, ⟨"AlgolHouse$Mode", Or.inl (lw_g (lw_at lw_m3 94 rfl) rfl), Or.inl rfl⟩, rfl⟩, fun q h => by cases h⟩
theorem ow22_2 : ∀ q ∈ ([(14, 646517286), (20, 638128676)] : List (Nat × Nat)), q.2 ∈ iFs ∧ PFk "AlgolHouse$Mode" q.1 q.2 := List.forall_mem_cons.mpr ⟨⟨List.mem_of_getElem? (i := 77) rfl, rfl, rfl, "AlgolHouse$Mode", lw_g (lw_at lw_m3 81 rfl) rfl, Or.inl rfl⟩, List.forall_mem_cons.mpr ⟨⟨List.mem_of_getElem? (i := 76) rfl, rfl, rfl, "AlgolHouse$Mode", lw_g (lw_at lw_m3 69 rfl) rfl, Or.inl rfl⟩, fun q h => by cases h⟩⟩
theorem ow22_3 : ∀ q ∈ ([] : List (Nat × Nat)), q.2 ∈ sFs ∧ FLk "AlgolHouse$Mode" q.1 q.2 := fun q h => by cases h
theorem ow22_4 : ∀ q ∈ ([] : List (Nat × Nat)), TLk "AlgolHouse$Mode" q.1 q.2 ∧ q.2 % 4 = 2 := fun q h => by cases h
theorem ow22_5 : ∀ q ∈ ([(9, 48)] : List (Nat × Nat)), mdT q.2 = true ∧ NLk "AlgolHouse$Mode" q.1 q.2 := List.forall_mem_cons.mpr ⟨⟨rfl, lw_g (lw_at lw_m2 11 rfl) rfl, lw_g (lw_at lw_m1 187 rfl) rfl, lw_g (lw_at lw_m1 11 rfl) rfl⟩, fun q h => by cases h⟩
theorem ow22_6 : ∀ q ∈ ([] : List (Nat × Nat)), mdA q.2 = true ∧ ak q.2 = 2 ∧ ALk "AlgolHouse$Mode" q.1 q.2 := fun q h => by cases h
theorem ow22_7 : ∀ q ∈ ([] : List (Nat × Nat)), XLk "AlgolHouse$Mode" q.1 q.2 := fun q h => by cases h
theorem ow22_8 {s0 : State} (hN : NCs s0) : ∀ q ∈ ([] : List (Nat × Nat)), YLk s0 "AlgolHouse$Mode" q.1 q.2 := fun q h => by cases h
theorem ow22_9 : ∀ q ∈ ([] : List (Nat × Nat)), q.2 = ACN ∧ ACk "AlgolHouse$Mode" q.1 ∨ q.2 ≠ ACN ∧ SMk "AlgolHouse$Mode" q.1 q.2 := fun q h => by cases h
theorem ow22_10 : ∀ q ∈ ([(11, 164987650)] : List (Nat × Nat)), IMk "AlgolHouse$Mode" q.1 q.2 ∧ ∀ t, inT (q.2 / 16 % 128) (q.2 / 2048 % 128) t → inT 1 55 t := List.forall_mem_cons.mpr ⟨⟨⟨mok_J6_init_2, np_J6_init_2, by decide, rfl, im_J6_init_2, ⟨_, _, rfl⟩, Or.inl (lw_g (lw_at lw_m2 12 rfl) rfl)⟩, fun t ht => ⟨Nat.le_trans (by decide) ht.1, Nat.le_trans ht.2 (by decide)⟩⟩, fun q h => by cases h⟩
theorem ow22_11_0 : VMk "AlgolHouse$Mode" 28 24922257 := ⟨mok_X6_real, by decide, fun t ht => by
  obtain rfl : t = 9 := Nat.le_antisymm (Nat.le_trans ht.2 (by decide)) (Nat.le_trans (by decide) ht.1)
  exact ⟨⟨by decide, by decide⟩, im_X6_real, Or.inl ⟨np_X6_real, lw_g (lw_at lw_m11 4 rfl) rfl, Or.inl (lw_g (lw_at lw_m12 142 rfl) rfl)⟩⟩⟩
theorem ow22_11_1 : VMk "AlgolHouse$Mode" 32 165249793 := ⟨mok_J6_size, by decide, fun t ht => by
  obtain rfl : t = 48 := Nat.le_antisymm (Nat.le_trans ht.2 (by decide)) (Nat.le_trans (by decide) ht.1)
  exact ⟨⟨by decide, by decide⟩, im_J6_size, Or.inl ⟨np_J6_size, lw_g (lw_at lw_m4 167 rfl) rfl, Or.inl (lw_g (lw_at lw_m11 51 rfl) rfl)⟩⟩⟩
theorem ow22_11 : ∀ q ∈ ([(28, 24922257), (32, 165249793)] : List (Nat × Nat)), VMk "AlgolHouse$Mode" q.1 q.2 := List.forall_mem_cons.mpr ⟨ow22_11_0, List.forall_mem_cons.mpr ⟨ow22_11_1, fun q h => by cases h⟩⟩
theorem ow22_12 : ∀ q ∈ ([] : List (Nat × Nat)), ∀ n, pN q.2 n → PMk "AlgolHouse$Mode" q.1 q.2 n := fun q h => by cases h
theorem ow22_13 : ∀ q ∈ ([(3, 0)] : List (Nat × Nat)), Cond.methodLink "AlgolHouse$Mode" q.1 Lib.objectInit ∈ lw_all := List.forall_mem_cons.mpr ⟨lw_g (lw_at lw_m2 10 rfl) rfl, fun q h => by cases h⟩
theorem ow22_14 : ∀ q ∈ ([] : List (Nat × Nat)), JMk "AlgolHouse$Mode" q.1 q.2 := fun q h => by cases h
theorem ow22_15 : ∀ q ∈ ([] : List (Nat × Nat)), exT q.2 ∧ NLk "AlgolHouse$Mode" q.1 q.2 := fun q h => by cases h
theorem ow22_16 : ∀ q ∈ ([] : List (Nat × Nat)), exT q.2 ∧ Cond.methodLink "AlgolHouse$Mode" q.1 ⟨cN q.2, "<init>", "()V"⟩ ∈ lw_all := fun q h => by cases h
def Om22 : Om := [[(14, 646517286), (20, 638128676), (24, 671683110)], [(24, 671683110)], [(14, 646517286), (20, 638128676)], [], [], [(9, 48)], [], [], [], [], [(11, 164987650)], [(28, 24922257), (32, 165249793)], [], [(3, 0)], [], [], []]
def Ok22 : List (Nat × Int) := []
def Ol22 : List (Nat × Int) := []
theorem ow22 {s0 : State} (hN : NCs s0) : OwnOK s0 "AlgolHouse$Mode" Om22 Ok22 Ol22 := ⟨ow22_k, ow22_l, ow22_0, ow22_1, ow22_2, ow22_3, ow22_4, ow22_5, ow22_6, ow22_7, ow22_8 hN, ow22_9, ow22_10, ow22_11, ow22_12, ow22_13, ow22_14, ow22_15, ow22_16⟩
theorem ow23_k : ∀ q ∈ ([] : List (Nat × Int)), Cond.constant "AlgolHouse$Modes" q.1 (Int32.ofInt q.2) ∈ lw_all := fun q h => by cases h
theorem ow23_l : ∀ q ∈ ([] : List (Nat × Int)), Cond.constantLong "AlgolHouse$Modes" q.1 (Int64.ofInt q.2) ∈ lw_all := fun q h => by cases h
theorem ow23_0 : ∀ q ∈ ([(12, 705303594), (18, 713692202), (22, 722080810), (31, 638128676), (38, 730469416), (60, 688460324), (63, 680071716), (72, 646517286), (74, 671683110), (88, 654905894), (95, 696848934)] : List (Nat × Nat)), q.2 ∈ iFs ∧ FLk "AlgolHouse$Modes" q.1 q.2 := List.forall_mem_cons.mpr ⟨⟨List.mem_of_getElem? (i := 84) rfl, ⟨"AlgolHouse$Modes", Or.inl (lw_g (lw_at lw_m1 212 rfl) rfl), Or.inl rfl⟩⟩, List.forall_mem_cons.mpr ⟨⟨List.mem_of_getElem? (i := 85) rfl, ⟨"AlgolHouse$Modes", Or.inl (lw_g (lw_at lw_m1 213 rfl) rfl), Or.inl rfl⟩⟩, List.forall_mem_cons.mpr ⟨⟨List.mem_of_getElem? (i := 86) rfl, ⟨"AlgolHouse$Modes", Or.inl (lw_g (lw_at lw_m1 214 rfl) rfl), Or.inl rfl⟩⟩, List.forall_mem_cons.mpr ⟨⟨List.mem_of_getElem? (i := 76) rfl, ⟨"AlgolHouse$Mode", Or.inr ⟨_, lw_at lw_m3 70 rfl⟩, Or.inl rfl⟩⟩, List.forall_mem_cons.mpr ⟨⟨List.mem_of_getElem? (i := 87) rfl, ⟨"AlgolHouse$Modes", Or.inl (lw_g (lw_at lw_m1 215 rfl) rfl), Or.inl rfl⟩⟩, List.forall_mem_cons.mpr ⟨⟨List.mem_of_getElem? (i := 82) rfl, ⟨"AlgolHouse$Mode", Or.inr ⟨_, lw_at lw_m3 108 rfl⟩, Or.inl rfl⟩⟩, List.forall_mem_cons.mpr ⟨⟨List.mem_of_getElem? (i := 81) rfl, ⟨"AlgolHouse$Mode", Or.inr ⟨_, lw_at lw_m3 107 rfl⟩, Or.inl rfl⟩⟩, List.forall_mem_cons.mpr ⟨⟨List.mem_of_getElem? (i := 77) rfl, ⟨"AlgolHouse$Mode", Or.inr ⟨_, lw_at lw_m3 85 rfl⟩, Or.inl rfl⟩⟩, List.forall_mem_cons.mpr ⟨⟨List.mem_of_getElem? (i := 80) rfl, ⟨"AlgolHouse$Mode", Or.inr ⟨_, lw_at lw_m3 98 rfl⟩, Or.inl rfl⟩⟩, List.forall_mem_cons.mpr ⟨⟨List.mem_of_getElem? (i := 78) rfl, ⟨"AlgolHouse$Mode", Or.inr ⟨_, lw_at lw_m3 91 rfl⟩, Or.inl rfl⟩⟩, List.forall_mem_cons.mpr ⟨⟨List.mem_of_getElem? (i := 83) rfl, ⟨"AlgolHouse$Mode", Or.inr ⟨_, lw_at lw_m3 109 rfl⟩, Or.inl rfl⟩⟩, fun q h => by cases h⟩⟩⟩⟩⟩⟩⟩⟩⟩⟩⟩
theorem ow23_1 : ∀ q ∈ ([(18, 713692202), (22, 722080810), (38, 730469416), (60, 688460324), (63, 680071716), (95, 696848934)] : List (Nat × Nat)), q.2 ∈ iFs ∧ PLk "AlgolHouse$Modes" q.1 q.2 := List.forall_mem_cons.mpr ⟨⟨List.mem_of_getElem? (i := 85) rfl, ⟨"AlgolHouse$Modes", Or.inl (lw_g (lw_at lw_m1 213 rfl) rfl), Or.inl rfl⟩, rfl⟩, List.forall_mem_cons.mpr ⟨⟨List.mem_of_getElem? (i := 86) rfl, ⟨"AlgolHouse$Modes", Or.inl (lw_g (lw_at lw_m1 214 rfl) rfl), Or.inl rfl⟩, rfl⟩, List.forall_mem_cons.mpr ⟨⟨List.mem_of_getElem? (i := 87) rfl, ⟨"AlgolHouse$Modes", Or.inl (lw_g (lw_at lw_m1 215 rfl) rfl), Or.inl rfl⟩, rfl⟩, List.forall_mem_cons.mpr ⟨⟨List.mem_of_getElem? (i := 82) rfl, ⟨"AlgolHouse$Mode", Or.inr ⟨_, lw_at lw_m3 108 rfl⟩, Or.inl rfl⟩, rfl⟩, List.forall_mem_cons.mpr ⟨⟨List.mem_of_getElem? (i := 81) rfl, ⟨"AlgolHouse$Mode", Or.inr ⟨_, lw_at lw_m3 107 rfl⟩, Or.inl rfl⟩, rfl⟩, List.forall_mem_cons.mpr ⟨⟨List.mem_of_getElem? (i := 83) rfl, ⟨"AlgolHouse$Mode", Or.inr ⟨_, lw_at lw_m3 109 rfl⟩, Or.inl rfl⟩, rfl⟩, fun q h => by cases h⟩⟩⟩⟩⟩⟩
theorem ow23_2 : ∀ q ∈ ([(12, 705303594)] : List (Nat × Nat)), q.2 ∈ iFs ∧ PFk "AlgolHouse$Modes" q.1 q.2 := List.forall_mem_cons.mpr ⟨⟨List.mem_of_getElem? (i := 84) rfl, rfl, rfl, "AlgolHouse$Modes", lw_g (lw_at lw_m1 212 rfl) rfl, Or.inl rfl⟩, fun q h => by cases h⟩
theorem ow23_3 : ∀ q ∈ ([] : List (Nat × Nat)), q.2 ∈ sFs ∧ FLk "AlgolHouse$Modes" q.1 q.2 := fun q h => by cases h
theorem ow23_4 : ∀ q ∈ ([] : List (Nat × Nat)), TLk "AlgolHouse$Modes" q.1 q.2 ∧ q.2 % 4 = 2 := fun q h => by cases h
theorem ow23_5 : ∀ q ∈ ([(9, 48)] : List (Nat × Nat)), mdT q.2 = true ∧ NLk "AlgolHouse$Modes" q.1 q.2 := List.forall_mem_cons.mpr ⟨⟨rfl, lw_g (lw_at lw_m1 186 rfl) rfl, lw_g (lw_at lw_m1 187 rfl) rfl, lw_g (lw_at lw_m1 11 rfl) rfl⟩, fun q h => by cases h⟩
theorem ow23_6 : ∀ q ∈ ([] : List (Nat × Nat)), mdA q.2 = true ∧ ak q.2 = 2 ∧ ALk "AlgolHouse$Modes" q.1 q.2 := fun q h => by cases h
theorem ow23_7_0 : XLk "AlgolHouse$Modes" 26 1161 := (Or.inl ⟨"AlgolHouse$Mode", lw_g (lw_at lw_m11 1 rfl) rfl, fun t h1 h2 => by
  obtain rfl : t = 9 := by omega
  exact ⟨⟨by omega, by omega⟩, Or.inl rfl⟩⟩)
theorem ow23_7 : ∀ q ∈ ([(26, 1161)] : List (Nat × Nat)), XLk "AlgolHouse$Modes" q.1 q.2 := List.forall_mem_cons.mpr ⟨ow23_7_0, fun q h => by cases h⟩
theorem ow23_8 {s0 : State} (hN : NCs s0) : ∀ q ∈ ([] : List (Nat × Nat)), YLk s0 "AlgolHouse$Modes" q.1 q.2 := fun q h => by cases h
theorem ow23_9 : ∀ q ∈ ([(68, 19136513), (100, 19398659), (110, 22020097)] : List (Nat × Nat)), q.2 = ACN ∧ ACk "AlgolHouse$Modes" q.1 ∨ q.2 ≠ ACN ∧ SMk "AlgolHouse$Modes" q.1 q.2 := List.forall_mem_cons.mpr ⟨Or.inr ⟨by decide, mok_X4_members, np_X4_members, ⟨sm_X4_members, lw_g (lw_at lw_m1 8 rfl) rfl⟩, Or.inl (lw_g (lw_at lw_m10 231 rfl) rfl)⟩, List.forall_mem_cons.mpr ⟨Or.inr ⟨by decide, mok_X4_gather, np_X4_gather, ⟨sm_X4_gather, lw_g (lw_at lw_m1 8 rfl) rfl⟩, Or.inl (lw_g (lw_at lw_m10 235 rfl) rfl)⟩, List.forall_mem_cons.mpr ⟨Or.inr ⟨by decide, mok_X4_less, np_X4_less, ⟨sm_X4_less, lw_g (lw_at lw_m1 8 rfl) rfl⟩, Or.inl (lw_g (lw_at lw_m11 44 rfl) rfl)⟩, fun q h => by cases h⟩⟩⟩
theorem ow23_10 : ∀ q ∈ ([(11, 164725505), (97, 164987650)] : List (Nat × Nat)), IMk "AlgolHouse$Modes" q.1 q.2 ∧ ∀ t, inT (q.2 / 16 % 128) (q.2 / 2048 % 128) t → inT 1 55 t := List.forall_mem_cons.mpr ⟨⟨⟨mok_J6_init, np_J6_init, by decide, rfl, im_J6_init, ⟨_, _, rfl⟩, Or.inl (lw_g (lw_at lw_m1 188 rfl) rfl)⟩, fun t ht => ⟨Nat.le_trans (by decide) ht.1, Nat.le_trans ht.2 (by decide)⟩⟩, List.forall_mem_cons.mpr ⟨⟨⟨mok_J6_init_2, np_J6_init_2, by decide, rfl, im_J6_init_2, ⟨_, _, rfl⟩, Or.inl (lw_g (lw_at lw_m10 234 rfl) rfl)⟩, fun t ht => ⟨Nat.le_trans (by decide) ht.1, Nat.le_trans ht.2 (by decide)⟩⟩, fun q h => by cases h⟩⟩
theorem ow23_11_0 : VMk "AlgolHouse$Modes" 25 24922257 := ⟨mok_X6_real, by decide, fun t ht => by
  obtain rfl : t = 9 := Nat.le_antisymm (Nat.le_trans ht.2 (by decide)) (Nat.le_trans (by decide) ht.1)
  exact ⟨⟨by decide, by decide⟩, im_X6_real, Or.inl ⟨np_X6_real, lw_g (lw_at lw_m11 4 rfl) rfl, Or.inl (lw_g (lw_at lw_m11 2 rfl) rfl)⟩⟩⟩
theorem ow23_11_1 : VMk "AlgolHouse$Modes" 35 165511937 := ⟨mok_J6_clear, by decide, fun t ht => by
  obtain rfl : t = 48 := Nat.le_antisymm (Nat.le_trans ht.2 (by decide)) (Nat.le_trans (by decide) ht.1)
  exact ⟨⟨by decide, by decide⟩, im_J6_clear, Or.inl ⟨np_J6_clear, lw_g (lw_at lw_m4 175 rfl) rfl, Or.inl (lw_g (lw_at lw_m11 11 rfl) rfl)⟩⟩⟩
theorem ow23_11_2 : VMk "AlgolHouse$Modes" 41 19943586 := ⟨mok_X4_reach, by decide, fun t ht => by
  obtain rfl : t = 10 := Nat.le_antisymm (Nat.le_trans ht.2 (by decide)) (Nat.le_trans (by decide) ht.1)
  exact ⟨⟨by decide, by decide⟩, im_X4_reach, Or.inl ⟨np_X4_reach, lw_g (lw_ms _ (List.mem_map.mpr ⟨_, List.mem_of_getElem? (i := 74) rfl, rfl⟩)) rfl, Or.inl (lw_g (lw_at lw_m11 12 rfl) rfl)⟩⟩⟩
theorem ow23_11_3 : VMk "AlgolHouse$Modes" 45 165249793 := ⟨mok_J6_size, by decide, fun t ht => by
  obtain rfl : t = 48 := Nat.le_antisymm (Nat.le_trans ht.2 (by decide)) (Nat.le_trans (by decide) ht.1)
  exact ⟨⟨by decide, by decide⟩, im_J6_size, Or.inl ⟨np_J6_size, lw_g (lw_at lw_m4 167 rfl) rfl, Or.inl (lw_g (lw_at lw_m10 239 rfl) rfl)⟩⟩⟩
theorem ow23_11_4 : VMk "AlgolHouse$Modes" 49 166822658 := ⟨mok_J6_get, by decide, fun t ht => by
  obtain rfl : t = 48 := Nat.le_antisymm (Nat.le_trans ht.2 (by decide)) (Nat.le_trans (by decide) ht.1)
  exact ⟨⟨by decide, by decide⟩, im_J6_get, Or.inl ⟨np_J6_get, lw_g (lw_at lw_m7 79 rfl) rfl, Or.inl (lw_g (lw_at lw_m11 0 rfl) rfl)⟩⟩⟩
theorem ow23_11_5 : VMk "AlgolHouse$Modes" 53 20205730 := ⟨mok_X4_spread, by decide, fun t ht => by
  obtain rfl : t = 10 := Nat.le_antisymm (Nat.le_trans ht.2 (by decide)) (Nat.le_trans (by decide) ht.1)
  exact ⟨⟨by decide, by decide⟩, im_X4_spread, Or.inl ⟨np_X4_spread, lw_g (lw_ms _ (List.mem_map.mpr ⟨_, List.mem_of_getElem? (i := 75) rfl, rfl⟩)) rfl, Or.inl (lw_g (lw_at lw_m11 16 rfl) rfl)⟩⟩⟩
theorem ow23_11_6 : VMk "AlgolHouse$Modes" 56 20467873 := ⟨mok_X4_parts, by decide, fun t ht => by
  obtain rfl : t = 10 := Nat.le_antisymm (Nat.le_trans ht.2 (by decide)) (Nat.le_trans (by decide) ht.1)
  exact ⟨⟨by decide, by decide⟩, im_X4_parts, Or.inl ⟨np_X4_parts, lw_g (lw_ms _ (List.mem_map.mpr ⟨_, List.mem_of_getElem? (i := 76) rfl, rfl⟩)) rfl, Or.inl (lw_g (lw_at lw_m11 20 rfl) rfl)⟩⟩⟩
theorem ow23_11_7 : VMk "AlgolHouse$Modes" 64 165774082 := ⟨mok_J6_add, by decide, fun t ht => by
  obtain rfl : t = 48 := Nat.le_antisymm (Nat.le_trans ht.2 (by decide)) (Nat.le_trans (by decide) ht.1)
  exact ⟨⟨by decide, by decide⟩, im_J6_add, Or.inl ⟨np_J6_add, lw_g (lw_at lw_m6 44 rfl) rfl, Or.inl (lw_g (lw_at lw_m10 238 rfl) rfl)⟩⟩⟩
theorem ow23_11_8 : VMk "AlgolHouse$Modes" 78 20730019 := ⟨mok_X4_areParts, by decide, fun t ht => by
  obtain rfl : t = 10 := Nat.le_antisymm (Nat.le_trans ht.2 (by decide)) (Nat.le_trans (by decide) ht.1)
  exact ⟨⟨by decide, by decide⟩, im_X4_areParts, Or.inl ⟨np_X4_areParts, lw_g (lw_ms _ (List.mem_map.mpr ⟨_, List.mem_of_getElem? (i := 77) rfl, rfl⟩)) rfl, Or.inl (lw_g (lw_at lw_m11 24 rfl) rfl)⟩⟩⟩
theorem ow23_11_9 : VMk "AlgolHouse$Modes" 82 20992163 := ⟨mok_X4_isLike, by decide, fun t ht => by
  obtain rfl : t = 10 := Nat.le_antisymm (Nat.le_trans ht.2 (by decide)) (Nat.le_trans (by decide) ht.1)
  exact ⟨⟨by decide, by decide⟩, im_X4_isLike, Or.inl ⟨np_X4_isLike, lw_g (lw_ms _ (List.mem_map.mpr ⟨_, List.mem_of_getElem? (i := 78) rfl, rfl⟩)) rfl, Or.inl (lw_g (lw_at lw_m11 28 rfl) rfl)⟩⟩⟩
theorem ow23_11_10 : VMk "AlgolHouse$Modes" 85 21254307 := ⟨mok_X4_areInOrder, by decide, fun t ht => by
  obtain rfl : t = 10 := Nat.le_antisymm (Nat.le_trans ht.2 (by decide)) (Nat.le_trans (by decide) ht.1)
  exact ⟨⟨by decide, by decide⟩, im_X4_areInOrder, Or.inl ⟨np_X4_areInOrder, lw_g (lw_ms _ (List.mem_map.mpr ⟨_, List.mem_of_getElem? (i := 79) rfl, rfl⟩)) rfl, Or.inl (lw_g (lw_at lw_m11 32 rfl) rfl)⟩⟩⟩
theorem ow23_11_11 : VMk "AlgolHouse$Modes" 92 21516451 := ⟨mok_X4_has, by decide, fun t ht => by
  obtain rfl : t = 10 := Nat.le_antisymm (Nat.le_trans ht.2 (by decide)) (Nat.le_trans (by decide) ht.1)
  exact ⟨⟨by decide, by decide⟩, im_X4_has, Or.inl ⟨np_X4_has, lw_g (lw_ms _ (List.mem_map.mpr ⟨_, List.mem_of_getElem? (i := 80) rfl, rfl⟩)) rfl, Or.inl (lw_g (lw_at lw_m11 36 rfl) rfl)⟩⟩⟩
theorem ow23_11_12 : VMk "AlgolHouse$Modes" 104 167346946 := ⟨mok_J6_contains, by decide, fun t ht => by
  obtain rfl : t = 48 := Nat.le_antisymm (Nat.le_trans ht.2 (by decide)) (Nat.le_trans (by decide) ht.1)
  exact ⟨⟨by decide, by decide⟩, im_J6_contains, Or.inl ⟨np_J6_contains, lw_g (lw_at lw_m7 114 rfl) rfl, Or.inl (lw_g (lw_at lw_m11 6 rfl) rfl)⟩⟩⟩
theorem ow23_11_13 : VMk "AlgolHouse$Modes" 107 19681443 := ⟨mok_X4_one, by decide, fun t ht => by
  obtain rfl : t = 10 := Nat.le_antisymm (Nat.le_trans ht.2 (by decide)) (Nat.le_trans (by decide) ht.1)
  exact ⟨⟨by decide, by decide⟩, im_X4_one, Or.inl ⟨np_X4_one, lw_g (lw_at lw_m11 9 rfl) rfl, Or.inl (lw_g (lw_at lw_m11 7 rfl) rfl)⟩⟩⟩
theorem ow23_11_14 : VMk "AlgolHouse$Modes" 114 25184401 := ⟨mok_X6_isCall, by decide, fun t ht => by
  obtain rfl : t = 9 := Nat.le_antisymm (Nat.le_trans ht.2 (by decide)) (Nat.le_trans (by decide) ht.1)
  exact ⟨⟨by decide, by decide⟩, im_X6_isCall, Or.inl ⟨np_X6_isCall, lw_g (lw_at lw_m11 49 rfl) rfl, Or.inl (lw_g (lw_at lw_m11 47 rfl) rfl)⟩⟩⟩
theorem ow23_11_15 : VMk "AlgolHouse$Modes" 117 22565027 := ⟨mok_X4_isAmong, by decide, fun t ht => by
  obtain rfl : t = 10 := Nat.le_antisymm (Nat.le_trans ht.2 (by decide)) (Nat.le_trans (by decide) ht.1)
  exact ⟨⟨by decide, by decide⟩, im_X4_isAmong, Or.inl ⟨np_X4_isAmong, lw_g (lw_ms _ (List.mem_map.mpr ⟨_, List.mem_of_getElem? (i := 83) rfl, rfl⟩)) rfl, Or.inl (lw_g (lw_at lw_m12 185 rfl) rfl)⟩⟩⟩
theorem ow23_11 : ∀ q ∈ ([(25, 24922257), (35, 165511937), (41, 19943586), (45, 165249793), (49, 166822658), (53, 20205730), (56, 20467873), (64, 165774082), (78, 20730019), (82, 20992163), (85, 21254307), (92, 21516451), (104, 167346946), (107, 19681443), (114, 25184401), (117, 22565027)] : List (Nat × Nat)), VMk "AlgolHouse$Modes" q.1 q.2 := List.forall_mem_cons.mpr ⟨ow23_11_0, List.forall_mem_cons.mpr ⟨ow23_11_1, List.forall_mem_cons.mpr ⟨ow23_11_2, List.forall_mem_cons.mpr ⟨ow23_11_3, List.forall_mem_cons.mpr ⟨ow23_11_4, List.forall_mem_cons.mpr ⟨ow23_11_5, List.forall_mem_cons.mpr ⟨ow23_11_6, List.forall_mem_cons.mpr ⟨ow23_11_7, List.forall_mem_cons.mpr ⟨ow23_11_8, List.forall_mem_cons.mpr ⟨ow23_11_9, List.forall_mem_cons.mpr ⟨ow23_11_10, List.forall_mem_cons.mpr ⟨ow23_11_11, List.forall_mem_cons.mpr ⟨ow23_11_12, List.forall_mem_cons.mpr ⟨ow23_11_13, List.forall_mem_cons.mpr ⟨ow23_11_14, List.forall_mem_cons.mpr ⟨ow23_11_15, fun q h => by cases h⟩⟩⟩⟩⟩⟩⟩⟩⟩⟩⟩⟩⟩⟩⟩⟩
theorem ow23_12 : ∀ q ∈ ([] : List (Nat × Nat)), ∀ n, pN q.2 n → PMk "AlgolHouse$Modes" q.1 q.2 n := fun q h => by cases h
theorem ow23_13 : ∀ q ∈ ([(3, 0)] : List (Nat × Nat)), Cond.methodLink "AlgolHouse$Modes" q.1 Lib.objectInit ∈ lw_all := List.forall_mem_cons.mpr ⟨lw_g (lw_at lw_m1 185 rfl) rfl, fun q h => by cases h⟩
theorem ow23_14 : ∀ q ∈ ([] : List (Nat × Nat)), JMk "AlgolHouse$Modes" q.1 q.2 := fun q h => by cases h
theorem ow23_15 : ∀ q ∈ ([] : List (Nat × Nat)), exT q.2 ∧ NLk "AlgolHouse$Modes" q.1 q.2 := fun q h => by cases h
theorem ow23_16 : ∀ q ∈ ([] : List (Nat × Nat)), exT q.2 ∧ Cond.methodLink "AlgolHouse$Modes" q.1 ⟨cN q.2, "<init>", "()V"⟩ ∈ lw_all := fun q h => by cases h
def Om23 : Om := [[(12, 705303594), (18, 713692202), (22, 722080810), (31, 638128676), (38, 730469416), (60, 688460324), (63, 680071716), (72, 646517286), (74, 671683110), (88, 654905894), (95, 696848934)], [(18, 713692202), (22, 722080810), (38, 730469416), (60, 688460324), (63, 680071716), (95, 696848934)], [(12, 705303594)], [], [], [(9, 48)], [], [(26, 1161)], [], [(68, 19136513), (100, 19398659), (110, 22020097)], [(11, 164725505), (97, 164987650)], [(25, 24922257), (35, 165511937), (41, 19943586), (45, 165249793), (49, 166822658), (53, 20205730), (56, 20467873), (64, 165774082), (78, 20730019), (82, 20992163), (85, 21254307), (92, 21516451), (104, 167346946), (107, 19681443), (114, 25184401), (117, 22565027)], [], [(3, 0)], [], [], []]
def Ok23 : List (Nat × Int) := []
def Ol23 : List (Nat × Int) := []
theorem ow23 {s0 : State} (hN : NCs s0) : OwnOK s0 "AlgolHouse$Modes" Om23 Ok23 Ol23 := ⟨ow23_k, ow23_l, ow23_0, ow23_1, ow23_2, ow23_3, ow23_4, ow23_5, ow23_6, ow23_7, ow23_8 hN, ow23_9, ow23_10, ow23_11, ow23_12, ow23_13, ow23_14, ow23_15, ow23_16⟩
theorem ow24_k : ∀ q ∈ ([] : List (Nat × Int)), Cond.constant "AlgolHouse$Nil" q.1 (Int32.ofInt q.2) ∈ lw_all := fun q h => by cases h
theorem ow24_l : ∀ q ∈ ([] : List (Nat × Int)), Cond.constantLong "AlgolHouse$Nil" q.1 (Int64.ofInt q.2) ∈ lw_all := fun q h => by cases h
theorem ow24_0 : ∀ q ∈ ([(15, 740443180)] : List (Nat × Nat)), q.2 ∈ iFs ∧ FLk "AlgolHouse$Nil" q.1 q.2 := List.forall_mem_cons.mpr ⟨⟨List.mem_of_getElem? (i := 88) rfl, ⟨"AlgolHouse$Nil", Or.inl (lw_g (lw_at lw_m5 94 rfl) rfl), Or.inr (lw_g (lw_at lw_m5 95 rfl) rfl)⟩⟩, fun q h => by cases h⟩
theorem ow24_1 : ∀ q ∈ ([] : List (Nat × Nat)), q.2 ∈ iFs ∧ PLk "AlgolHouse$Nil" q.1 q.2 := fun q h => by cases h
theorem ow24_2 : ∀ q ∈ ([] : List (Nat × Nat)), q.2 ∈ iFs ∧ PFk "AlgolHouse$Nil" q.1 q.2 := fun q h => by cases h
theorem ow24_3 : ∀ q ∈ ([] : List (Nat × Nat)), q.2 ∈ sFs ∧ FLk "AlgolHouse$Nil" q.1 q.2 := fun q h => by cases h
theorem ow24_4 : ∀ q ∈ ([] : List (Nat × Nat)), TLk "AlgolHouse$Nil" q.1 q.2 ∧ q.2 % 4 = 2 := fun q h => by cases h
theorem ow24_5 : ∀ q ∈ ([] : List (Nat × Nat)), mdT q.2 = true ∧ NLk "AlgolHouse$Nil" q.1 q.2 := fun q h => by cases h
theorem ow24_6 : ∀ q ∈ ([] : List (Nat × Nat)), mdA q.2 = true ∧ ak q.2 = 2 ∧ ALk "AlgolHouse$Nil" q.1 q.2 := fun q h => by cases h
theorem ow24_7 : ∀ q ∈ ([] : List (Nat × Nat)), XLk "AlgolHouse$Nil" q.1 q.2 := fun q h => by cases h
theorem ow24_8 {s0 : State} (hN : NCs s0) : ∀ q ∈ ([] : List (Nat × Nat)), YLk s0 "AlgolHouse$Nil" q.1 q.2 := fun q h => by cases h
theorem ow24_9 : ∀ q ∈ ([] : List (Nat × Nat)), q.2 = ACN ∧ ACk "AlgolHouse$Nil" q.1 ∨ q.2 ≠ ACN ∧ SMk "AlgolHouse$Nil" q.1 q.2 := fun q h => by cases h
theorem ow24_10 : ∀ q ∈ ([(3, 118034610)] : List (Nat × Nat)), IMk "AlgolHouse$Nil" q.1 q.2 ∧ ∀ t, inT (q.2 / 16 % 128) (q.2 / 2048 % 128) t → inT 1 55 t := List.forall_mem_cons.mpr ⟨⟨⟨mok_X12_init, np_X12_init, by decide, rfl, im_X12_init, ⟨_, _, rfl⟩, Or.inl (lw_g (lw_at lw_m10 98 rfl) rfl)⟩, fun t ht => ⟨Nat.le_trans (by decide) ht.1, Nat.le_trans ht.2 (by decide)⟩⟩, fun q h => by cases h⟩
theorem ow24_11_0 : VMk "AlgolHouse$Nil" 9 25446546 := ⟨mok_X6_isPlain, by decide, fun t ht => by
  obtain rfl : t = 9 := Nat.le_antisymm (Nat.le_trans ht.2 (by decide)) (Nat.le_trans (by decide) ht.1)
  exact ⟨⟨by decide, by decide⟩, im_X6_isPlain, Or.inl ⟨np_X6_isPlain, lw_g (lw_at lw_m12 140 rfl) rfl, Or.inl (lw_g (lw_at lw_m12 138 rfl) rfl)⟩⟩⟩
theorem ow24_11_1 : VMk "AlgolHouse$Nil" 21 15474756 := ⟨mok_X3_need, by decide, fun t ht => by
  obtain rfl : t = 4 := Nat.le_antisymm (Nat.le_trans ht.2 (by decide)) (Nat.le_trans (by decide) ht.1)
  exact ⟨⟨by decide, by decide⟩, im_X3_need, Or.inl ⟨np_X3_need, lw_g (lw_at lw_m11 139 rfl) rfl, Or.inl (lw_g (lw_at lw_m12 143 rfl) rfl)⟩⟩⟩
theorem ow24_11_2 : VMk "AlgolHouse$Nil" 27 31207521 := ⟨mok_X7_value, by decide, fun t ht => by
  obtain rfl : t = 6 := Nat.le_antisymm (Nat.le_trans ht.2 (by decide)) (Nat.le_trans (by decide) ht.1)
  exact ⟨⟨by decide, by decide⟩, im_X7_value, Or.inl ⟨np_X7_value, lw_g (lw_at lw_m16 118 rfl) rfl, Or.inl (lw_g (lw_at lw_m17 114 rfl) rfl)⟩⟩⟩
theorem ow24_11_3 : VMk "AlgolHouse$Nil" 33 29634659 := ⟨mok_X7_done, by decide, fun t ht => by
  obtain rfl : t = 6 := Nat.le_antisymm (Nat.le_trans ht.2 (by decide)) (Nat.le_trans (by decide) ht.1)
  exact ⟨⟨by decide, by decide⟩, im_X7_done, Or.inl ⟨np_X7_done, lw_g (lw_at lw_m16 80 rfl) rfl, Or.inl (lw_g (lw_at lw_m17 115 rfl) rfl)⟩⟩⟩
theorem ow24_11 : ∀ q ∈ ([(9, 25446546), (21, 15474756), (27, 31207521), (33, 29634659)] : List (Nat × Nat)), VMk "AlgolHouse$Nil" q.1 q.2 := List.forall_mem_cons.mpr ⟨ow24_11_0, List.forall_mem_cons.mpr ⟨ow24_11_1, List.forall_mem_cons.mpr ⟨ow24_11_2, List.forall_mem_cons.mpr ⟨ow24_11_3, fun q h => by cases h⟩⟩⟩⟩
theorem ow24_12 : ∀ q ∈ ([] : List (Nat × Nat)), ∀ n, pN q.2 n → PMk "AlgolHouse$Nil" q.1 q.2 n := fun q h => by cases h
theorem ow24_13 : ∀ q ∈ ([] : List (Nat × Nat)), Cond.methodLink "AlgolHouse$Nil" q.1 Lib.objectInit ∈ lw_all := fun q h => by cases h
theorem ow24_14 : ∀ q ∈ ([] : List (Nat × Nat)), JMk "AlgolHouse$Nil" q.1 q.2 := fun q h => by cases h
theorem ow24_15 : ∀ q ∈ ([] : List (Nat × Nat)), exT q.2 ∧ NLk "AlgolHouse$Nil" q.1 q.2 := fun q h => by cases h
theorem ow24_16 : ∀ q ∈ ([] : List (Nat × Nat)), exT q.2 ∧ Cond.methodLink "AlgolHouse$Nil" q.1 ⟨cN q.2, "<init>", "()V"⟩ ∈ lw_all := fun q h => by cases h
def Om24 : Om := [[(15, 740443180)], [], [], [], [], [], [], [], [], [], [(3, 118034610)], [(9, 25446546), (21, 15474756), (27, 31207521), (33, 29634659)], [], [], [], [], []]
def Ok24 : List (Nat × Int) := []
def Ol24 : List (Nat × Int) := []
theorem ow24 {s0 : State} (hN : NCs s0) : OwnOK s0 "AlgolHouse$Nil" Om24 Ok24 Ol24 := ⟨ow24_k, ow24_l, ow24_0, ow24_1, ow24_2, ow24_3, ow24_4, ow24_5, ow24_6, ow24_7, ow24_8 hN, ow24_9, ow24_10, ow24_11, ow24_12, ow24_13, ow24_14, ow24_15, ow24_16⟩
theorem ow25_k : ∀ q ∈ ([] : List (Nat × Int)), Cond.constant "AlgolHouse$Node" q.1 (Int32.ofInt q.2) ∈ lw_all := fun q h => by cases h
theorem ow25_l : ∀ q ∈ ([] : List (Nat × Int)), Cond.constantLong "AlgolHouse$Node" q.1 (Int64.ofInt q.2) ∈ lw_all := fun q h => by cases h
theorem ow25_0 : ∀ q ∈ ([(14, 748831790), (20, 740443180), (32, 773997614), (40, 757220398), (44, 243533842), (50, 235145234), (68, 1386564244), (77, 1378175638), (81, 671683110)] : List (Nat × Nat)), q.2 ∈ iFs ∧ FLk "AlgolHouse$Node" q.1 q.2 := List.forall_mem_cons.mpr ⟨⟨List.mem_of_getElem? (i := 89) rfl, ⟨"AlgolHouse$Node", Or.inl (lw_g (lw_at lw_m5 134 rfl) rfl), Or.inl rfl⟩⟩, List.forall_mem_cons.mpr ⟨⟨List.mem_of_getElem? (i := 88) rfl, ⟨"AlgolHouse$Node", Or.inl (lw_g (lw_at lw_m5 93 rfl) rfl), Or.inl rfl⟩⟩, List.forall_mem_cons.mpr ⟨⟨List.mem_of_getElem? (i := 92) rfl, ⟨"AlgolHouse$Node", Or.inl (lw_g (lw_at lw_m5 196 rfl) rfl), Or.inl rfl⟩⟩, List.forall_mem_cons.mpr ⟨⟨List.mem_of_getElem? (i := 90) rfl, ⟨"AlgolHouse$Node", Or.inl (lw_g (lw_at lw_m5 193 rfl) rfl), Or.inl rfl⟩⟩, List.forall_mem_cons.mpr ⟨⟨List.mem_of_getElem? (i := 29) rfl, ⟨"AlgolHouse$Judge", Or.inr ⟨_, lw_at lw_m3 132 rfl⟩, Or.inl rfl⟩⟩, List.forall_mem_cons.mpr ⟨⟨List.mem_of_getElem? (i := 28) rfl, ⟨"AlgolHouse$Judge", Or.inr ⟨_, lw_at lw_m3 129 rfl⟩, Or.inl rfl⟩⟩, List.forall_mem_cons.mpr ⟨⟨List.mem_of_getElem? (i := 165) rfl, ⟨"AlgolHouse$Path", Or.inr ⟨_, lw_at lw_m1 234 rfl⟩, Or.inl rfl⟩⟩, List.forall_mem_cons.mpr ⟨⟨List.mem_of_getElem? (i := 164) rfl, ⟨"AlgolHouse$Path", Or.inr ⟨_, lw_at lw_m1 232 rfl⟩, Or.inl rfl⟩⟩, List.forall_mem_cons.mpr ⟨⟨List.mem_of_getElem? (i := 80) rfl, ⟨"AlgolHouse$Mode", Or.inr ⟨_, lw_at lw_m3 103 rfl⟩, Or.inl rfl⟩⟩, fun q h => by cases h⟩⟩⟩⟩⟩⟩⟩⟩⟩
theorem ow25_1 : ∀ q ∈ ([(32, 773997614), (78, 782386222)] : List (Nat × Nat)), q.2 ∈ iFs ∧ PLk "AlgolHouse$Node" q.1 q.2 := List.forall_mem_cons.mpr ⟨⟨List.mem_of_getElem? (i := 92) rfl, ⟨"AlgolHouse$Node", Or.inl (lw_g (lw_at lw_m5 196 rfl) rfl), Or.inl rfl⟩, rfl⟩, List.forall_mem_cons.mpr ⟨⟨List.mem_of_getElem? (i := 93) rfl, ⟨"AlgolHouse$Node", Or.inl (lw_g (lw_at lw_m5 199 rfl) rfl), Or.inl rfl⟩, rfl⟩, fun q h => by cases h⟩⟩
theorem ow25_2 : ∀ q ∈ ([(14, 748831790), (20, 740443180)] : List (Nat × Nat)), q.2 ∈ iFs ∧ PFk "AlgolHouse$Node" q.1 q.2 := List.forall_mem_cons.mpr ⟨⟨List.mem_of_getElem? (i := 89) rfl, rfl, rfl, "AlgolHouse$Node", lw_g (lw_at lw_m5 134 rfl) rfl, Or.inl rfl⟩, List.forall_mem_cons.mpr ⟨⟨List.mem_of_getElem? (i := 88) rfl, rfl, rfl, "AlgolHouse$Node", lw_g (lw_at lw_m5 93 rfl) rfl, Or.inl rfl⟩, fun q h => by cases h⟩⟩
theorem ow25_3 : ∀ q ∈ ([] : List (Nat × Nat)), q.2 ∈ sFs ∧ FLk "AlgolHouse$Node" q.1 q.2 := fun q h => by cases h
theorem ow25_4 : ∀ q ∈ ([] : List (Nat × Nat)), TLk "AlgolHouse$Node" q.1 q.2 ∧ q.2 % 4 = 2 := fun q h => by cases h
theorem ow25_5 : ∀ q ∈ ([(9, 48)] : List (Nat × Nat)), mdT q.2 = true ∧ NLk "AlgolHouse$Node" q.1 q.2 := List.forall_mem_cons.mpr ⟨⟨rfl, lw_g (lw_at lw_m5 90 rfl) rfl, lw_g (lw_at lw_m1 187 rfl) rfl, lw_g (lw_at lw_m1 11 rfl) rfl⟩, fun q h => by cases h⟩
theorem ow25_6 : ∀ q ∈ ([] : List (Nat × Nat)), mdA q.2 = true ∧ ak q.2 = 2 ∧ ALk "AlgolHouse$Node" q.1 q.2 := fun q h => by cases h
theorem ow25_7_0 : XLk "AlgolHouse$Node" 15 4363 := (Or.inl ⟨"AlgolHouse$Node", lw_g (lw_at lw_m10 115 rfl) rfl, fun t h1 h2 => by
  rcases (by omega : t = 11 ∨ t = 12 ∨ t = 13 ∨ t = 14 ∨ t = 15 ∨ t = 16 ∨ t = 17 ∨ t = 18 ∨ t = 19 ∨ t = 20 ∨ t = 21 ∨ t = 22 ∨ t = 23 ∨ t = 24 ∨ t = 25 ∨ t = 26 ∨ t = 27 ∨ t = 28 ∨ t = 29 ∨ t = 30 ∨ t = 31 ∨ t = 32 ∨ t = 33 ∨ t = 34) with rfl | rfl | rfl | rfl | rfl | rfl | rfl | rfl | rfl | rfl | rfl | rfl | rfl | rfl | rfl | rfl | rfl | rfl | rfl | rfl | rfl | rfl | rfl | rfl
  · exact ⟨⟨by omega, by omega⟩, Or.inr (lw_at lw_m25 144 rfl)⟩
  · exact ⟨⟨by omega, by omega⟩, Or.inr (lw_at lw_m25 145 rfl)⟩
  · exact ⟨⟨by omega, by omega⟩, Or.inr (lw_at lw_m25 147 rfl)⟩
  · exact ⟨⟨by omega, by omega⟩, Or.inr (lw_at lw_m25 152 rfl)⟩
  · exact ⟨⟨by omega, by omega⟩, Or.inr (lw_at lw_m25 157 rfl)⟩
  · exact ⟨⟨by omega, by omega⟩, Or.inr (lw_at lw_m25 166 rfl)⟩
  · exact ⟨⟨by omega, by omega⟩, Or.inr (lw_at lw_m25 148 rfl)⟩
  · exact ⟨⟨by omega, by omega⟩, Or.inr (lw_at lw_m25 149 rfl)⟩
  · exact ⟨⟨by omega, by omega⟩, Or.inr (lw_at lw_m25 146 rfl)⟩
  · exact ⟨⟨by omega, by omega⟩, Or.inr (lw_at lw_m25 153 rfl)⟩
  · exact ⟨⟨by omega, by omega⟩, Or.inr (lw_at lw_m25 162 rfl)⟩
  · exact ⟨⟨by omega, by omega⟩, Or.inr (lw_at lw_m25 167 rfl)⟩
  · exact ⟨⟨by omega, by omega⟩, Or.inr (lw_at lw_m25 150 rfl)⟩
  · exact ⟨⟨by omega, by omega⟩, Or.inr (lw_at lw_m25 151 rfl)⟩
  · exact ⟨⟨by omega, by omega⟩, Or.inr (lw_at lw_m25 154 rfl)⟩
  · exact ⟨⟨by omega, by omega⟩, Or.inr (lw_at lw_m25 155 rfl)⟩
  · exact ⟨⟨by omega, by omega⟩, Or.inr (lw_at lw_m25 156 rfl)⟩
  · exact ⟨⟨by omega, by omega⟩, Or.inr (lw_at lw_m25 158 rfl)⟩
  · exact ⟨⟨by omega, by omega⟩, Or.inr (lw_at lw_m25 159 rfl)⟩
  · exact ⟨⟨by omega, by omega⟩, Or.inr (lw_at lw_m25 160 rfl)⟩
  · exact ⟨⟨by omega, by omega⟩, Or.inr (lw_at lw_m25 161 rfl)⟩
  · exact ⟨⟨by omega, by omega⟩, Or.inr (lw_at lw_m25 163 rfl)⟩
  · exact ⟨⟨by omega, by omega⟩, Or.inr (lw_at lw_m25 164 rfl)⟩
  · exact ⟨⟨by omega, by omega⟩, Or.inr (lw_at lw_m25 165 rfl)⟩⟩)
theorem ow25_7 : ∀ q ∈ ([(15, 4363)] : List (Nat × Nat)), XLk "AlgolHouse$Node" q.1 q.2 := List.forall_mem_cons.mpr ⟨ow25_7_0, fun q h => by cases h⟩
theorem ow25_8 {s0 : State} (hN : NCs s0) : ∀ q ∈ ([] : List (Nat × Nat)), YLk s0 "AlgolHouse$Node" q.1 q.2 := fun q h => by cases h
theorem ow25_9 : ∀ q ∈ ([] : List (Nat × Nat)), q.2 = ACN ∧ ACk "AlgolHouse$Node" q.1 ∨ q.2 ≠ ACN ∧ SMk "AlgolHouse$Node" q.1 q.2 := fun q h => by cases h
theorem ow25_10 : ∀ q ∈ ([(11, 164987650)] : List (Nat × Nat)), IMk "AlgolHouse$Node" q.1 q.2 ∧ ∀ t, inT (q.2 / 16 % 128) (q.2 / 2048 % 128) t → inT 1 55 t := List.forall_mem_cons.mpr ⟨⟨⟨mok_J6_init_2, np_J6_init_2, by decide, rfl, im_J6_init_2, ⟨_, _, rfl⟩, Or.inl (lw_g (lw_at lw_m5 91 rfl) rfl)⟩, fun t ht => ⟨Nat.le_trans (by decide) ht.1, Nat.le_trans ht.2 (by decide)⟩⟩, fun q h => by cases h⟩
theorem ow25_11_0 : VMk "AlgolHouse$Node" 24 165774082 := ⟨mok_J6_add, by decide, fun t ht => by
  obtain rfl : t = 48 := Nat.le_antisymm (Nat.le_trans ht.2 (by decide)) (Nat.le_trans (by decide) ht.1)
  exact ⟨⟨by decide, by decide⟩, im_J6_add, Or.inl ⟨np_J6_add, lw_g (lw_at lw_m6 44 rfl) rfl, Or.inl (lw_g (lw_at lw_m7 229 rfl) rfl)⟩⟩⟩
theorem ow25_11_1 : VMk "AlgolHouse$Node" 28 166822658 := ⟨mok_J6_get, by decide, fun t ht => by
  obtain rfl : t = 48 := Nat.le_antisymm (Nat.le_trans ht.2 (by decide)) (Nat.le_trans (by decide) ht.1)
  exact ⟨⟨by decide, by decide⟩, im_J6_get, Or.inl ⟨np_J6_get, lw_g (lw_at lw_m7 79 rfl) rfl, Or.inl (lw_g (lw_at lw_m10 114 rfl) rfl)⟩⟩⟩
theorem ow25_11_2 : VMk "AlgolHouse$Node" 36 118558898 := ⟨mok_X12_part, by decide, fun t ht => by
  rcases tg_11_34 (Nat.le_trans (by decide) ht.1) (Nat.le_trans ht.2 (by decide)) with rfl | rfl | rfl | rfl | rfl | rfl | rfl | rfl | rfl | rfl | rfl | rfl | rfl | rfl | rfl | rfl | rfl | rfl | rfl | rfl | rfl | rfl | rfl | rfl
  · exact ⟨⟨by decide, by decide⟩, im_X12_part, Or.inl ⟨np_X12_part, lw_g (lw_at lw_m25 119 rfl) rfl, Or.inl (lw_g (lw_at lw_m12 109 rfl) rfl)⟩⟩
  · exact ⟨⟨by decide, by decide⟩, im_X12_part, Or.inl ⟨np_X12_part, lw_g (lw_at lw_m25 120 rfl) rfl, Or.inl (lw_g (lw_at lw_m12 109 rfl) rfl)⟩⟩
  · exact ⟨⟨by decide, by decide⟩, im_X12_part, Or.inl ⟨np_X12_part, lw_g (lw_at lw_m25 122 rfl) rfl, Or.inl (lw_g (lw_at lw_m12 109 rfl) rfl)⟩⟩
  · exact ⟨⟨by decide, by decide⟩, im_X12_part, Or.inl ⟨np_X12_part, lw_g (lw_at lw_m25 127 rfl) rfl, Or.inl (lw_g (lw_at lw_m12 109 rfl) rfl)⟩⟩
  · exact ⟨⟨by decide, by decide⟩, im_X12_part, Or.inl ⟨np_X12_part, lw_g (lw_at lw_m25 132 rfl) rfl, Or.inl (lw_g (lw_at lw_m12 109 rfl) rfl)⟩⟩
  · exact ⟨⟨by decide, by decide⟩, im_X12_part, Or.inl ⟨np_X12_part, lw_g (lw_at lw_m25 141 rfl) rfl, Or.inl (lw_g (lw_at lw_m12 109 rfl) rfl)⟩⟩
  · exact ⟨⟨by decide, by decide⟩, im_X12_part, Or.inl ⟨np_X12_part, lw_g (lw_at lw_m25 123 rfl) rfl, Or.inl (lw_g (lw_at lw_m12 109 rfl) rfl)⟩⟩
  · exact ⟨⟨by decide, by decide⟩, im_X12_part, Or.inl ⟨np_X12_part, lw_g (lw_at lw_m25 124 rfl) rfl, Or.inl (lw_g (lw_at lw_m12 109 rfl) rfl)⟩⟩
  · exact ⟨⟨by decide, by decide⟩, im_X12_part, Or.inl ⟨np_X12_part, lw_g (lw_at lw_m25 121 rfl) rfl, Or.inl (lw_g (lw_at lw_m12 109 rfl) rfl)⟩⟩
  · exact ⟨⟨by decide, by decide⟩, im_X12_part, Or.inl ⟨np_X12_part, lw_g (lw_at lw_m25 128 rfl) rfl, Or.inl (lw_g (lw_at lw_m12 109 rfl) rfl)⟩⟩
  · exact ⟨⟨by decide, by decide⟩, im_X12_part, Or.inl ⟨np_X12_part, lw_g (lw_at lw_m25 137 rfl) rfl, Or.inl (lw_g (lw_at lw_m12 109 rfl) rfl)⟩⟩
  · exact ⟨⟨by decide, by decide⟩, im_X12_part, Or.inl ⟨np_X12_part, lw_g (lw_at lw_m25 142 rfl) rfl, Or.inl (lw_g (lw_at lw_m12 109 rfl) rfl)⟩⟩
  · exact ⟨⟨by decide, by decide⟩, im_X12_part, Or.inl ⟨np_X12_part, lw_g (lw_at lw_m25 125 rfl) rfl, Or.inl (lw_g (lw_at lw_m12 109 rfl) rfl)⟩⟩
  · exact ⟨⟨by decide, by decide⟩, im_X12_part, Or.inl ⟨np_X12_part, lw_g (lw_at lw_m25 126 rfl) rfl, Or.inl (lw_g (lw_at lw_m12 109 rfl) rfl)⟩⟩
  · exact ⟨⟨by decide, by decide⟩, im_X12_part, Or.inl ⟨np_X12_part, lw_g (lw_at lw_m25 129 rfl) rfl, Or.inl (lw_g (lw_at lw_m12 109 rfl) rfl)⟩⟩
  · exact ⟨⟨by decide, by decide⟩, im_X12_part, Or.inl ⟨np_X12_part, lw_g (lw_at lw_m25 130 rfl) rfl, Or.inl (lw_g (lw_at lw_m12 109 rfl) rfl)⟩⟩
  · exact ⟨⟨by decide, by decide⟩, im_X12_part, Or.inl ⟨np_X12_part, lw_g (lw_at lw_m25 131 rfl) rfl, Or.inl (lw_g (lw_at lw_m12 109 rfl) rfl)⟩⟩
  · exact ⟨⟨by decide, by decide⟩, im_X12_part, Or.inl ⟨np_X12_part, lw_g (lw_at lw_m25 133 rfl) rfl, Or.inl (lw_g (lw_at lw_m12 109 rfl) rfl)⟩⟩
  · exact ⟨⟨by decide, by decide⟩, im_X12_part, Or.inl ⟨np_X12_part, lw_g (lw_at lw_m25 134 rfl) rfl, Or.inl (lw_g (lw_at lw_m12 109 rfl) rfl)⟩⟩
  · exact ⟨⟨by decide, by decide⟩, im_X12_part, Or.inl ⟨np_X12_part, lw_g (lw_at lw_m25 135 rfl) rfl, Or.inl (lw_g (lw_at lw_m12 109 rfl) rfl)⟩⟩
  · exact ⟨⟨by decide, by decide⟩, im_X12_part, Or.inl ⟨np_X12_part, lw_g (lw_at lw_m25 136 rfl) rfl, Or.inl (lw_g (lw_at lw_m12 109 rfl) rfl)⟩⟩
  · exact ⟨⟨by decide, by decide⟩, im_X12_part, Or.inl ⟨np_X12_part, lw_g (lw_at lw_m25 138 rfl) rfl, Or.inl (lw_g (lw_at lw_m12 109 rfl) rfl)⟩⟩
  · exact ⟨⟨by decide, by decide⟩, im_X12_part, Or.inl ⟨np_X12_part, lw_g (lw_at lw_m25 139 rfl) rfl, Or.inl (lw_g (lw_at lw_m12 109 rfl) rfl)⟩⟩
  · exact ⟨⟨by decide, by decide⟩, im_X12_part, Or.inl ⟨np_X12_part, lw_g (lw_at lw_m25 140 rfl) rfl, Or.inl (lw_g (lw_at lw_m12 109 rfl) rfl)⟩⟩⟩
theorem ow25_11_3 : VMk "AlgolHouse$Node" 54 23145044 := ⟨mok_X5_strong, by decide, fun t ht => by
  obtain rfl : t = 37 := Nat.le_antisymm (Nat.le_trans ht.2 (by decide)) (Nat.le_trans (by decide) ht.1)
  exact ⟨⟨by decide, by decide⟩, im_X5_strong, Or.inl ⟨np_X5_strong, lw_g (lw_at lw_m12 169 rfl) rfl, Or.inl (lw_g (lw_at lw_m12 167 rfl) rfl)⟩⟩⟩
theorem ow25_11_4 : VMk "AlgolHouse$Node" 60 15474756 := ⟨mok_X3_need, by decide, fun t ht => by
  obtain rfl : t = 4 := Nat.le_antisymm (Nat.le_trans ht.2 (by decide)) (Nat.le_trans (by decide) ht.1)
  exact ⟨⟨by decide, by decide⟩, im_X3_need, Or.inl ⟨np_X3_need, lw_g (lw_at lw_m11 139 rfl) rfl, Or.inl (lw_g (lw_at lw_m12 199 rfl) rfl)⟩⟩⟩
theorem ow25_11_5 : VMk "AlgolHouse$Node" 64 119869618 := ⟨mok_X12_keep, by decide, fun t ht => by
  rcases tg_11_34 (Nat.le_trans (by decide) ht.1) (Nat.le_trans ht.2 (by decide)) with rfl | rfl | rfl | rfl | rfl | rfl | rfl | rfl | rfl | rfl | rfl | rfl | rfl | rfl | rfl | rfl | rfl | rfl | rfl | rfl | rfl | rfl | rfl | rfl
  · exact ⟨⟨by decide, by decide⟩, im_X12_keep, Or.inl ⟨np_X12_keep, lw_g (lw_at lw_m12 203 rfl) rfl, Or.inl (lw_g (lw_at lw_m12 200 rfl) rfl)⟩⟩
  · exact ⟨⟨by decide, by decide⟩, im_X12_keep, Or.inl ⟨np_X12_keep, lw_g (lw_at lw_m12 204 rfl) rfl, Or.inl (lw_g (lw_at lw_m12 200 rfl) rfl)⟩⟩
  · exact ⟨⟨by decide, by decide⟩, im_X12_keep, Or.inl ⟨np_X12_keep, lw_g (lw_at lw_m12 206 rfl) rfl, Or.inl (lw_g (lw_at lw_m12 200 rfl) rfl)⟩⟩
  · exact ⟨⟨by decide, by decide⟩, im_X12_keep, Or.inl ⟨np_X12_keep, lw_g (lw_at lw_m12 211 rfl) rfl, Or.inl (lw_g (lw_at lw_m12 200 rfl) rfl)⟩⟩
  · exact ⟨⟨by decide, by decide⟩, im_X12_keep, Or.inl ⟨np_X12_keep, lw_g (lw_at lw_m12 216 rfl) rfl, Or.inl (lw_g (lw_at lw_m12 200 rfl) rfl)⟩⟩
  · exact ⟨⟨by decide, by decide⟩, im_X12_keep, Or.inl ⟨np_X12_keep, lw_g (lw_at lw_m12 225 rfl) rfl, Or.inl (lw_g (lw_at lw_m12 200 rfl) rfl)⟩⟩
  · exact ⟨⟨by decide, by decide⟩, im_X12_keep, Or.inl ⟨np_X12_keep, lw_g (lw_at lw_m12 207 rfl) rfl, Or.inl (lw_g (lw_at lw_m12 200 rfl) rfl)⟩⟩
  · exact ⟨⟨by decide, by decide⟩, im_X12_keep, Or.inl ⟨np_X12_keep, lw_g (lw_at lw_m12 208 rfl) rfl, Or.inl (lw_g (lw_at lw_m12 200 rfl) rfl)⟩⟩
  · exact ⟨⟨by decide, by decide⟩, im_X12_keep, Or.inl ⟨np_X12_keep, lw_g (lw_at lw_m12 205 rfl) rfl, Or.inl (lw_g (lw_at lw_m12 200 rfl) rfl)⟩⟩
  · exact ⟨⟨by decide, by decide⟩, im_X12_keep, Or.inl ⟨np_X12_keep, lw_g (lw_at lw_m12 212 rfl) rfl, Or.inl (lw_g (lw_at lw_m12 200 rfl) rfl)⟩⟩
  · exact ⟨⟨by decide, by decide⟩, im_X12_keep, Or.inl ⟨np_X12_keep, lw_g (lw_at lw_m12 221 rfl) rfl, Or.inl (lw_g (lw_at lw_m12 200 rfl) rfl)⟩⟩
  · exact ⟨⟨by decide, by decide⟩, im_X12_keep, Or.inl ⟨np_X12_keep, lw_g (lw_at lw_m12 226 rfl) rfl, Or.inl (lw_g (lw_at lw_m12 200 rfl) rfl)⟩⟩
  · exact ⟨⟨by decide, by decide⟩, im_X12_keep, Or.inl ⟨np_X12_keep, lw_g (lw_at lw_m12 209 rfl) rfl, Or.inl (lw_g (lw_at lw_m12 200 rfl) rfl)⟩⟩
  · exact ⟨⟨by decide, by decide⟩, im_X12_keep, Or.inl ⟨np_X12_keep, lw_g (lw_at lw_m12 210 rfl) rfl, Or.inl (lw_g (lw_at lw_m12 200 rfl) rfl)⟩⟩
  · exact ⟨⟨by decide, by decide⟩, im_X12_keep, Or.inl ⟨np_X12_keep, lw_g (lw_at lw_m12 213 rfl) rfl, Or.inl (lw_g (lw_at lw_m12 200 rfl) rfl)⟩⟩
  · exact ⟨⟨by decide, by decide⟩, im_X12_keep, Or.inl ⟨np_X12_keep, lw_g (lw_at lw_m12 214 rfl) rfl, Or.inl (lw_g (lw_at lw_m12 200 rfl) rfl)⟩⟩
  · exact ⟨⟨by decide, by decide⟩, im_X12_keep, Or.inl ⟨np_X12_keep, lw_g (lw_at lw_m12 215 rfl) rfl, Or.inl (lw_g (lw_at lw_m12 200 rfl) rfl)⟩⟩
  · exact ⟨⟨by decide, by decide⟩, im_X12_keep, Or.inl ⟨np_X12_keep, lw_g (lw_at lw_m12 217 rfl) rfl, Or.inl (lw_g (lw_at lw_m12 200 rfl) rfl)⟩⟩
  · exact ⟨⟨by decide, by decide⟩, im_X12_keep, Or.inl ⟨np_X12_keep, lw_g (lw_at lw_m12 218 rfl) rfl, Or.inl (lw_g (lw_at lw_m12 200 rfl) rfl)⟩⟩
  · exact ⟨⟨by decide, by decide⟩, im_X12_keep, Or.inl ⟨np_X12_keep, lw_g (lw_at lw_m12 219 rfl) rfl, Or.inl (lw_g (lw_at lw_m12 200 rfl) rfl)⟩⟩
  · exact ⟨⟨by decide, by decide⟩, im_X12_keep, Or.inl ⟨np_X12_keep, lw_g (lw_at lw_m12 220 rfl) rfl, Or.inl (lw_g (lw_at lw_m12 200 rfl) rfl)⟩⟩
  · exact ⟨⟨by decide, by decide⟩, im_X12_keep, Or.inl ⟨np_X12_keep, lw_g (lw_at lw_m12 222 rfl) rfl, Or.inl (lw_g (lw_at lw_m12 200 rfl) rfl)⟩⟩
  · exact ⟨⟨by decide, by decide⟩, im_X12_keep, Or.inl ⟨np_X12_keep, lw_g (lw_at lw_m12 223 rfl) rfl, Or.inl (lw_g (lw_at lw_m12 200 rfl) rfl)⟩⟩
  · exact ⟨⟨by decide, by decide⟩, im_X12_keep, Or.inl ⟨np_X12_keep, lw_g (lw_at lw_m12 224 rfl) rfl, Or.inl (lw_g (lw_at lw_m12 200 rfl) rfl)⟩⟩⟩
theorem ow25_11_6 : VMk "AlgolHouse$Node" 71 24922257 := ⟨mok_X6_real, by decide, fun t ht => by
  obtain rfl : t = 9 := Nat.le_antisymm (Nat.le_trans ht.2 (by decide)) (Nat.le_trans (by decide) ht.1)
  exact ⟨⟨by decide, by decide⟩, im_X6_real, Or.inl ⟨np_X6_real, lw_g (lw_at lw_m11 4 rfl) rfl, Or.inl (lw_g (lw_at lw_m12 228 rfl) rfl)⟩⟩⟩
theorem ow25_11 : ∀ q ∈ ([(24, 165774082), (28, 166822658), (36, 118558898), (54, 23145044), (60, 15474756), (64, 119869618), (71, 24922257)] : List (Nat × Nat)), VMk "AlgolHouse$Node" q.1 q.2 := List.forall_mem_cons.mpr ⟨ow25_11_0, List.forall_mem_cons.mpr ⟨ow25_11_1, List.forall_mem_cons.mpr ⟨ow25_11_2, List.forall_mem_cons.mpr ⟨ow25_11_3, List.forall_mem_cons.mpr ⟨ow25_11_4, List.forall_mem_cons.mpr ⟨ow25_11_5, List.forall_mem_cons.mpr ⟨ow25_11_6, fun q h => by cases h⟩⟩⟩⟩⟩⟩⟩
theorem ow25_12 : ∀ q ∈ ([] : List (Nat × Nat)), ∀ n, pN q.2 n → PMk "AlgolHouse$Node" q.1 q.2 n := fun q h => by cases h
theorem ow25_13 : ∀ q ∈ ([(3, 0)] : List (Nat × Nat)), Cond.methodLink "AlgolHouse$Node" q.1 Lib.objectInit ∈ lw_all := List.forall_mem_cons.mpr ⟨lw_g (lw_at lw_m5 89 rfl) rfl, fun q h => by cases h⟩
theorem ow25_14 : ∀ q ∈ ([] : List (Nat × Nat)), JMk "AlgolHouse$Node" q.1 q.2 := fun q h => by cases h
theorem ow25_15 : ∀ q ∈ ([] : List (Nat × Nat)), exT q.2 ∧ NLk "AlgolHouse$Node" q.1 q.2 := fun q h => by cases h
theorem ow25_16 : ∀ q ∈ ([] : List (Nat × Nat)), exT q.2 ∧ Cond.methodLink "AlgolHouse$Node" q.1 ⟨cN q.2, "<init>", "()V"⟩ ∈ lw_all := fun q h => by cases h
def Om25 : Om := [[(14, 748831790), (20, 740443180), (32, 773997614), (40, 757220398), (44, 243533842), (50, 235145234), (68, 1386564244), (77, 1378175638), (81, 671683110)], [(32, 773997614), (78, 782386222)], [(14, 748831790), (20, 740443180)], [], [], [(9, 48)], [], [(15, 4363)], [], [], [(11, 164987650)], [(24, 165774082), (28, 166822658), (36, 118558898), (54, 23145044), (60, 15474756), (64, 119869618), (71, 24922257)], [], [(3, 0)], [], [], []]
def Ok25 : List (Nat × Int) := []
def Ol25 : List (Nat × Int) := []
theorem ow25 {s0 : State} (hN : NCs s0) : OwnOK s0 "AlgolHouse$Node" Om25 Ok25 Ol25 := ⟨ow25_k, ow25_l, ow25_0, ow25_1, ow25_2, ow25_3, ow25_4, ow25_5, ow25_6, ow25_7, ow25_8 hN, ow25_9, ow25_10, ow25_11, ow25_12, ow25_13, ow25_14, ow25_15, ow25_16⟩
theorem ow26_k : ∀ q ∈ ([] : List (Nat × Int)), Cond.constant "AlgolHouse$Op" q.1 (Int32.ofInt q.2) ∈ lw_all := fun q h => by cases h
theorem ow26_l : ∀ q ∈ ([] : List (Nat × Int)), Cond.constantLong "AlgolHouse$Op" q.1 (Int64.ofInt q.2) ∈ lw_all := fun q h => by cases h
theorem ow26_0 : ∀ q ∈ ([(7, 856628797), (21, 251922450), (30, 865017406), (34, 1554600614), (46, 126027276)] : List (Nat × Nat)), q.2 ∈ iFs ∧ FLk "AlgolHouse$Op" q.1 q.2 := List.forall_mem_cons.mpr ⟨⟨List.mem_of_getElem? (i := 102) rfl, ⟨"AlgolHouse$Op", Or.inl (lw_g (lw_at lw_m10 153 rfl) rfl), Or.inl rfl⟩⟩, List.forall_mem_cons.mpr ⟨⟨List.mem_of_getElem? (i := 30) rfl, ⟨"AlgolHouse$Judge", Or.inr ⟨_, lw_at lw_m3 136 rfl⟩, Or.inl rfl⟩⟩, List.forall_mem_cons.mpr ⟨⟨List.mem_of_getElem? (i := 103) rfl, ⟨"AlgolHouse$Op", Or.inl (lw_g (lw_at lw_m10 154 rfl) rfl), Or.inl rfl⟩⟩, List.forall_mem_cons.mpr ⟨⟨List.mem_of_getElem? (i := 185) rfl, ⟨"AlgolHouse$Scope", Or.inr ⟨_, lw_at lw_m11 112 rfl⟩, Or.inl rfl⟩⟩, List.forall_mem_cons.mpr ⟨⟨List.mem_of_getElem? (i := 15) rfl, ⟨"AlgolHouse$Frame", Or.inr ⟨_, lw_at lw_m15 155 rfl⟩, Or.inl rfl⟩⟩, fun q h => by cases h⟩⟩⟩⟩⟩
theorem ow26_1 : ∀ q ∈ ([(30, 865017406), (46, 126027276)] : List (Nat × Nat)), q.2 ∈ iFs ∧ PLk "AlgolHouse$Op" q.1 q.2 := List.forall_mem_cons.mpr ⟨⟨List.mem_of_getElem? (i := 103) rfl, ⟨"AlgolHouse$Op", Or.inl (lw_g (lw_at lw_m10 154 rfl) rfl), Or.inl rfl⟩, rfl⟩, List.forall_mem_cons.mpr ⟨⟨List.mem_of_getElem? (i := 15) rfl, ⟨"AlgolHouse$Frame", Or.inr ⟨_, lw_at lw_m15 155 rfl⟩, Or.inl rfl⟩, rfl⟩, fun q h => by cases h⟩⟩
theorem ow26_2 : ∀ q ∈ ([(7, 856628797)] : List (Nat × Nat)), q.2 ∈ iFs ∧ PFk "AlgolHouse$Op" q.1 q.2 := List.forall_mem_cons.mpr ⟨⟨List.mem_of_getElem? (i := 102) rfl, rfl, rfl, "AlgolHouse$Op", lw_g (lw_at lw_m10 153 rfl) rfl, Or.inl rfl⟩, fun q h => by cases h⟩
theorem ow26_3 : ∀ q ∈ ([] : List (Nat × Nat)), q.2 ∈ sFs ∧ FLk "AlgolHouse$Op" q.1 q.2 := fun q h => by cases h
theorem ow26_4 : ∀ q ∈ ([] : List (Nat × Nat)), TLk "AlgolHouse$Op" q.1 q.2 ∧ q.2 % 4 = 2 := fun q h => by cases h
theorem ow26_5 : ∀ q ∈ ([(19, 8)] : List (Nat × Nat)), mdT q.2 = true ∧ NLk "AlgolHouse$Op" q.1 q.2 := List.forall_mem_cons.mpr ⟨⟨rfl, lw_g (lw_at lw_m11 202 rfl) rfl, lw_g (lw_at lw_m11 203 rfl) rfl, lw_g (lw_at lw_m1 69 rfl) rfl⟩, fun q h => by cases h⟩
theorem ow26_6 : ∀ q ∈ ([] : List (Nat × Nat)), mdA q.2 = true ∧ ak q.2 = 2 ∧ ALk "AlgolHouse$Op" q.1 q.2 := fun q h => by cases h
theorem ow26_7_0 : XLk "AlgolHouse$Op" 17 3870 := (Or.inl ⟨"AlgolHouse$Routine", lw_g (lw_at lw_m13 172 rfl) rfl, fun t h1 h2 => by
  obtain rfl : t = 30 := by omega
  exact ⟨⟨by omega, by omega⟩, Or.inl rfl⟩⟩)
theorem ow26_7 : ∀ q ∈ ([(17, 3870)] : List (Nat × Nat)), XLk "AlgolHouse$Op" q.1 q.2 := List.forall_mem_cons.mpr ⟨ow26_7_0, fun q h => by cases h⟩
theorem ow26_8 {s0 : State} (hN : NCs s0) : ∀ q ∈ ([] : List (Nat × Nat)), YLk s0 "AlgolHouse$Op" q.1 q.2 := fun q h => by cases h
theorem ow26_9 : ∀ q ∈ ([] : List (Nat × Nat)), q.2 = ACN ∧ ACk "AlgolHouse$Op" q.1 ∨ q.2 ≠ ACN ∧ SMk "AlgolHouse$Op" q.1 q.2 := fun q h => by cases h
theorem ow26_10 : ∀ q ∈ ([(1, 127959266), (27, 161235076)] : List (Nat × Nat)), IMk "AlgolHouse$Op" q.1 q.2 ∧ ∀ t, inT (q.2 / 16 % 128) (q.2 / 2048 % 128) t → inT 1 55 t := List.forall_mem_cons.mpr ⟨⟨⟨mok_X19_init, np_X19_init, by decide, rfl, im_X19_init, ⟨_, _, rfl⟩, Or.inl (lw_g (lw_at lw_m10 152 rfl) rfl)⟩, fun t ht => ⟨Nat.le_trans (by decide) ht.1, Nat.le_trans ht.2 (by decide)⟩⟩, List.forall_mem_cons.mpr ⟨⟨⟨mok_X42_init, np_X42_init, by decide, rfl, im_X42_init, ⟨_, _, rfl⟩, Or.inl (lw_g (lw_at lw_m11 204 rfl) rfl)⟩, fun t ht => ⟨Nat.le_trans (by decide) ht.1, Nat.le_trans ht.2 (by decide)⟩⟩, fun q h => by cases h⟩⟩
theorem ow26_11_0 : VMk "AlgolHouse$Op" 40 165774082 := ⟨mok_J6_add, by decide, fun t ht => by
  obtain rfl : t = 48 := Nat.le_antisymm (Nat.le_trans ht.2 (by decide)) (Nat.le_trans (by decide) ht.1)
  exact ⟨⟨by decide, by decide⟩, im_J6_add, Or.inl ⟨np_J6_add, lw_g (lw_at lw_m6 44 rfl) rfl, Or.inl (lw_g (lw_at lw_m11 214 rfl) rfl)⟩⟩⟩
theorem ow26_11_1 : VMk "AlgolHouse$Op" 52 26488930 := ⟨mok_X7_push, by decide, fun t ht => by
  obtain rfl : t = 6 := Nat.le_antisymm (Nat.le_trans ht.2 (by decide)) (Nat.le_trans (by decide) ht.1)
  exact ⟨⟨by decide, by decide⟩, im_X7_push, Or.inl ⟨np_X7_push, lw_g (lw_at lw_m15 124 rfl) rfl, Or.inl (lw_g (lw_at lw_m17 119 rfl) rfl)⟩⟩⟩
theorem ow26_11_2 : VMk "AlgolHouse$Op" 58 29634659 := ⟨mok_X7_done, by decide, fun t ht => by
  obtain rfl : t = 6 := Nat.le_antisymm (Nat.le_trans ht.2 (by decide)) (Nat.le_trans (by decide) ht.1)
  exact ⟨⟨by decide, by decide⟩, im_X7_done, Or.inl ⟨np_X7_done, lw_g (lw_at lw_m16 80 rfl) rfl, Or.inl (lw_g (lw_at lw_m17 120 rfl) rfl)⟩⟩⟩
theorem ow26_11 : ∀ q ∈ ([(40, 165774082), (52, 26488930), (58, 29634659)] : List (Nat × Nat)), VMk "AlgolHouse$Op" q.1 q.2 := List.forall_mem_cons.mpr ⟨ow26_11_0, List.forall_mem_cons.mpr ⟨ow26_11_1, List.forall_mem_cons.mpr ⟨ow26_11_2, fun q h => by cases h⟩⟩⟩
theorem ow26_12_0 : PMk "AlgolHouse$Op" 13 45 2 := ⟨by decide, fun t m h => by
  rcases dsp_45 h with ⟨rfl, rfl⟩
  · exact ⟨mok_X12_part, ⟨by decide, by decide⟩, im_X12_part, Or.inr ⟨⟨"AlgolHouse$Op", "part", "(I)LAlgolHouse$Node;"⟩, "AlgolHouse$Node", by decide +kernel, lw_g (lw_at lw_m13 169 rfl) rfl, lw_g (lw_at lw_m13 170 rfl) rfl, Or.inl (lw_at lw_m10 110 rfl), ⟨by decide +kernel, by decide +kernel⟩, lw_g (lw_at lw_m13 171 rfl) rfl⟩⟩⟩
theorem ow26_12 : ∀ q ∈ ([(13, 45)] : List (Nat × Nat)), ∀ n, pN q.2 n → PMk "AlgolHouse$Op" q.1 q.2 n := List.forall_mem_cons.mpr ⟨(fun n hn => by cases hn; exact ow26_12_0), fun q h => by cases h⟩
theorem ow26_13 : ∀ q ∈ ([] : List (Nat × Nat)), Cond.methodLink "AlgolHouse$Op" q.1 Lib.objectInit ∈ lw_all := fun q h => by cases h
theorem ow26_14 : ∀ q ∈ ([] : List (Nat × Nat)), JMk "AlgolHouse$Op" q.1 q.2 := fun q h => by cases h
theorem ow26_15 : ∀ q ∈ ([] : List (Nat × Nat)), exT q.2 ∧ NLk "AlgolHouse$Op" q.1 q.2 := fun q h => by cases h
theorem ow26_16 : ∀ q ∈ ([] : List (Nat × Nat)), exT q.2 ∧ Cond.methodLink "AlgolHouse$Op" q.1 ⟨cN q.2, "<init>", "()V"⟩ ∈ lw_all := fun q h => by cases h
def Om26 : Om := [[(7, 856628797), (21, 251922450), (30, 865017406), (34, 1554600614), (46, 126027276)], [(30, 865017406), (46, 126027276)], [(7, 856628797)], [], [], [(19, 8)], [], [(17, 3870)], [], [], [(1, 127959266), (27, 161235076)], [(40, 165774082), (52, 26488930), (58, 29634659)], [(13, 45)], [], [], [], []]
def Ok26 : List (Nat × Int) := []
def Ol26 : List (Nat × Int) := []
theorem ow26 {s0 : State} (hN : NCs s0) : OwnOK s0 "AlgolHouse$Op" Om26 Ok26 Ol26 := ⟨ow26_k, ow26_l, ow26_0, ow26_1, ow26_2, ow26_3, ow26_4, ow26_5, ow26_6, ow26_7, ow26_8 hN, ow26_9, ow26_10, ow26_11, ow26_12, ow26_13, ow26_14, ow26_15, ow26_16⟩
theorem ow27_k : ∀ q ∈ ([] : List (Nat × Int)), Cond.constant "AlgolHouse$Operation" q.1 (Int32.ofInt q.2) ∈ lw_all := fun q h => by cases h
theorem ow27_l : ∀ q ∈ ([] : List (Nat × Int)), Cond.constantLong "AlgolHouse$Operation" q.1 (Int64.ofInt q.2) ∈ lw_all := fun q h => by cases h
theorem ow27_0 : ∀ q ∈ ([] : List (Nat × Nat)), q.2 ∈ iFs ∧ FLk "AlgolHouse$Operation" q.1 q.2 := fun q h => by cases h
theorem ow27_1 : ∀ q ∈ ([] : List (Nat × Nat)), q.2 ∈ iFs ∧ PLk "AlgolHouse$Operation" q.1 q.2 := fun q h => by cases h
theorem ow27_2 : ∀ q ∈ ([] : List (Nat × Nat)), q.2 ∈ iFs ∧ PFk "AlgolHouse$Operation" q.1 q.2 := fun q h => by cases h
theorem ow27_3 : ∀ q ∈ ([] : List (Nat × Nat)), q.2 ∈ sFs ∧ FLk "AlgolHouse$Operation" q.1 q.2 := fun q h => by cases h
theorem ow27_4 : ∀ q ∈ ([] : List (Nat × Nat)), TLk "AlgolHouse$Operation" q.1 q.2 ∧ q.2 % 4 = 2 := fun q h => by cases h
theorem ow27_5 : ∀ q ∈ ([] : List (Nat × Nat)), mdT q.2 = true ∧ NLk "AlgolHouse$Operation" q.1 q.2 := fun q h => by cases h
theorem ow27_6 : ∀ q ∈ ([] : List (Nat × Nat)), mdA q.2 = true ∧ ak q.2 = 2 ∧ ALk "AlgolHouse$Operation" q.1 q.2 := fun q h => by cases h
theorem ow27_7 : ∀ q ∈ ([] : List (Nat × Nat)), XLk "AlgolHouse$Operation" q.1 q.2 := fun q h => by cases h
theorem ow27_8 {s0 : State} (hN : NCs s0) : ∀ q ∈ ([] : List (Nat × Nat)), YLk s0 "AlgolHouse$Operation" q.1 q.2 := fun q h => by cases h
theorem ow27_9 : ∀ q ∈ ([] : List (Nat × Nat)), q.2 = ACN ∧ ACk "AlgolHouse$Operation" q.1 ∨ q.2 ≠ ACN ∧ SMk "AlgolHouse$Operation" q.1 q.2 := fun q h => by cases h
theorem ow27_10 : ∀ q ∈ ([(1, 160972916)] : List (Nat × Nat)), IMk "AlgolHouse$Operation" q.1 q.2 ∧ ∀ t, inT (q.2 / 16 % 128) (q.2 / 2048 % 128) t → inT 1 55 t := List.forall_mem_cons.mpr ⟨⟨⟨mok_X41_init, np_X41_init, by decide, rfl, im_X41_init, ⟨_, _, rfl⟩, Or.inl (lw_g (lw_at lw_m11 207 rfl) rfl)⟩, fun t ht => ⟨Nat.le_trans (by decide) ht.1, Nat.le_trans ht.2 (by decide)⟩⟩, fun q h => by cases h⟩
theorem ow27_11 : ∀ q ∈ ([] : List (Nat × Nat)), VMk "AlgolHouse$Operation" q.1 q.2 := fun q h => by cases h
theorem ow27_12 : ∀ q ∈ ([] : List (Nat × Nat)), ∀ n, pN q.2 n → PMk "AlgolHouse$Operation" q.1 q.2 n := fun q h => by cases h
theorem ow27_13 : ∀ q ∈ ([] : List (Nat × Nat)), Cond.methodLink "AlgolHouse$Operation" q.1 Lib.objectInit ∈ lw_all := fun q h => by cases h
theorem ow27_14 : ∀ q ∈ ([] : List (Nat × Nat)), JMk "AlgolHouse$Operation" q.1 q.2 := fun q h => by cases h
theorem ow27_15 : ∀ q ∈ ([] : List (Nat × Nat)), exT q.2 ∧ NLk "AlgolHouse$Operation" q.1 q.2 := fun q h => by cases h
theorem ow27_16 : ∀ q ∈ ([] : List (Nat × Nat)), exT q.2 ∧ Cond.methodLink "AlgolHouse$Operation" q.1 ⟨cN q.2, "<init>", "()V"⟩ ∈ lw_all := fun q h => by cases h
def Om27 : Om := [[], [], [], [], [], [], [], [], [], [], [(1, 160972916)], [], [], [], [], [], []]
def Ok27 : List (Nat × Int) := []
def Ol27 : List (Nat × Int) := []
theorem ow27 {s0 : State} (hN : NCs s0) : OwnOK s0 "AlgolHouse$Operation" Om27 Ok27 Ol27 := ⟨ow27_k, ow27_l, ow27_0, ow27_1, ow27_2, ow27_3, ow27_4, ow27_5, ow27_6, ow27_7, ow27_8 hN, ow27_9, ow27_10, ow27_11, ow27_12, ow27_13, ow27_14, ow27_15, ow27_16⟩
theorem ow28_k : ∀ q ∈ ([] : List (Nat × Int)), Cond.constant "AlgolHouse$Outcome" q.1 (Int32.ofInt q.2) ∈ lw_all := fun q h => by cases h
theorem ow28_l : ∀ q ∈ ([] : List (Nat × Int)), Cond.constantLong "AlgolHouse$Outcome" q.1 (Int64.ofInt q.2) ∈ lw_all := fun q h => by cases h
theorem ow28_0 : ∀ q ∈ ([(13, 512101400), (18, 1235437196), (19, 520490008), (22, 1243825804), (25, 503712792), (28, 1252214414), (32, 1260603022), (36, 486935578), (43, 495324186)] : List (Nat × Nat)), q.2 ∈ iFs ∧ FLk "AlgolHouse$Outcome" q.1 q.2 := List.forall_mem_cons.mpr ⟨⟨List.mem_of_getElem? (i := 61) rfl, ⟨"AlgolHouse$Machine", Or.inr ⟨_, lw_at lw_m4 52 rfl⟩, Or.inl rfl⟩⟩, List.forall_mem_cons.mpr ⟨⟨List.mem_of_getElem? (i := 147) rfl, ⟨"AlgolHouse$Outcome", Or.inl (lw_g (lw_at lw_m18 76 rfl) rfl), Or.inl rfl⟩⟩, List.forall_mem_cons.mpr ⟨⟨List.mem_of_getElem? (i := 62) rfl, ⟨"AlgolHouse$Machine", Or.inr ⟨_, lw_at lw_m4 55 rfl⟩, Or.inl rfl⟩⟩, List.forall_mem_cons.mpr ⟨⟨List.mem_of_getElem? (i := 148) rfl, ⟨"AlgolHouse$Outcome", Or.inl (lw_g (lw_at lw_m18 78 rfl) rfl), Or.inl rfl⟩⟩, List.forall_mem_cons.mpr ⟨⟨List.mem_of_getElem? (i := 60) rfl, ⟨"AlgolHouse$Machine", Or.inr ⟨_, lw_at lw_m4 49 rfl⟩, Or.inl rfl⟩⟩, List.forall_mem_cons.mpr ⟨⟨List.mem_of_getElem? (i := 149) rfl, ⟨"AlgolHouse$Outcome", Or.inl (lw_g (lw_at lw_m18 80 rfl) rfl), Or.inl rfl⟩⟩, List.forall_mem_cons.mpr ⟨⟨List.mem_of_getElem? (i := 150) rfl, ⟨"AlgolHouse$Outcome", Or.inl (lw_g (lw_at lw_m18 82 rfl) rfl), Or.inl rfl⟩⟩, List.forall_mem_cons.mpr ⟨⟨List.mem_of_getElem? (i := 58) rfl, ⟨"AlgolHouse$Machine", Or.inr ⟨_, lw_at lw_m4 43 rfl⟩, Or.inl rfl⟩⟩, List.forall_mem_cons.mpr ⟨⟨List.mem_of_getElem? (i := 59) rfl, ⟨"AlgolHouse$Machine", Or.inr ⟨_, lw_at lw_m4 46 rfl⟩, Or.inl rfl⟩⟩, fun q h => by cases h⟩⟩⟩⟩⟩⟩⟩⟩⟩
theorem ow28_1 : ∀ q ∈ ([(7, 1268991628)] : List (Nat × Nat)), q.2 ∈ iFs ∧ PLk "AlgolHouse$Outcome" q.1 q.2 := List.forall_mem_cons.mpr ⟨⟨List.mem_of_getElem? (i := 151) rfl, ⟨"AlgolHouse$Outcome", Or.inl (lw_g (lw_at lw_m18 83 rfl) rfl), Or.inl rfl⟩, rfl⟩, fun q h => by cases h⟩
theorem ow28_2 : ∀ q ∈ ([(18, 1235437196), (22, 1243825804), (28, 1252214414), (32, 1260603022)] : List (Nat × Nat)), q.2 ∈ iFs ∧ PFk "AlgolHouse$Outcome" q.1 q.2 := List.forall_mem_cons.mpr ⟨⟨List.mem_of_getElem? (i := 147) rfl, rfl, rfl, "AlgolHouse$Outcome", lw_g (lw_at lw_m18 76 rfl) rfl, Or.inl rfl⟩, List.forall_mem_cons.mpr ⟨⟨List.mem_of_getElem? (i := 148) rfl, rfl, rfl, "AlgolHouse$Outcome", lw_g (lw_at lw_m18 78 rfl) rfl, Or.inl rfl⟩, List.forall_mem_cons.mpr ⟨⟨List.mem_of_getElem? (i := 149) rfl, rfl, rfl, "AlgolHouse$Outcome", lw_g (lw_at lw_m18 80 rfl) rfl, Or.inl rfl⟩, List.forall_mem_cons.mpr ⟨⟨List.mem_of_getElem? (i := 150) rfl, rfl, rfl, "AlgolHouse$Outcome", lw_g (lw_at lw_m18 82 rfl) rfl, Or.inl rfl⟩, fun q h => by cases h⟩⟩⟩⟩
theorem ow28_3 : ∀ q ∈ ([] : List (Nat × Nat)), q.2 ∈ sFs ∧ FLk "AlgolHouse$Outcome" q.1 q.2 := fun q h => by cases h
theorem ow28_4 : ∀ q ∈ ([] : List (Nat × Nat)), TLk "AlgolHouse$Outcome" q.1 q.2 ∧ q.2 % 4 = 2 := fun q h => by cases h
theorem ow28_5 : ∀ q ∈ ([] : List (Nat × Nat)), mdT q.2 = true ∧ NLk "AlgolHouse$Outcome" q.1 q.2 := fun q h => by cases h
theorem ow28_6 : ∀ q ∈ ([] : List (Nat × Nat)), mdA q.2 = true ∧ ak q.2 = 2 ∧ ALk "AlgolHouse$Outcome" q.1 q.2 := fun q h => by cases h
theorem ow28_7 : ∀ q ∈ ([] : List (Nat × Nat)), XLk "AlgolHouse$Outcome" q.1 q.2 := fun q h => by cases h
theorem ow28_8 {s0 : State} (hN : NCs s0) : ∀ q ∈ ([] : List (Nat × Nat)), YLk s0 "AlgolHouse$Outcome" q.1 q.2 := fun q h => by cases h
theorem ow28_9 : ∀ q ∈ ([(37, 235929605)] : List (Nat × Nat)), q.2 = ACN ∧ ACk "AlgolHouse$Outcome" q.1 ∨ q.2 ≠ ACN ∧ SMk "AlgolHouse$Outcome" q.1 q.2 := List.forall_mem_cons.mpr ⟨Or.inl ⟨rfl, lw_g (lw_at lw_m18 75 rfl) rfl, lw_g (lw_at lw_m2 138 rfl) rfl, lw_g (lw_at lw_m2 137 rfl) rfl, lw_g (lw_at lw_m1 23 rfl) rfl⟩, fun q h => by cases h⟩
theorem ow28_10 : ∀ q ∈ ([] : List (Nat × Nat)), IMk "AlgolHouse$Outcome" q.1 q.2 ∧ ∀ t, inT (q.2 / 16 % 128) (q.2 / 2048 % 128) t → inT 1 55 t := fun q h => by cases h
theorem ow28_11 : ∀ q ∈ ([] : List (Nat × Nat)), VMk "AlgolHouse$Outcome" q.1 q.2 := fun q h => by cases h
theorem ow28_12 : ∀ q ∈ ([] : List (Nat × Nat)), ∀ n, pN q.2 n → PMk "AlgolHouse$Outcome" q.1 q.2 n := fun q h => by cases h
theorem ow28_13 : ∀ q ∈ ([(1, 0)] : List (Nat × Nat)), Cond.methodLink "AlgolHouse$Outcome" q.1 Lib.objectInit ∈ lw_all := List.forall_mem_cons.mpr ⟨lw_g (lw_at lw_m18 74 rfl) rfl, fun q h => by cases h⟩
theorem ow28_14 : ∀ q ∈ ([] : List (Nat × Nat)), JMk "AlgolHouse$Outcome" q.1 q.2 := fun q h => by cases h
theorem ow28_15 : ∀ q ∈ ([] : List (Nat × Nat)), exT q.2 ∧ NLk "AlgolHouse$Outcome" q.1 q.2 := fun q h => by cases h
theorem ow28_16 : ∀ q ∈ ([] : List (Nat × Nat)), exT q.2 ∧ Cond.methodLink "AlgolHouse$Outcome" q.1 ⟨cN q.2, "<init>", "()V"⟩ ∈ lw_all := fun q h => by cases h
def Om28 : Om := [[(13, 512101400), (18, 1235437196), (19, 520490008), (22, 1243825804), (25, 503712792), (28, 1252214414), (32, 1260603022), (36, 486935578), (43, 495324186)], [(7, 1268991628)], [(18, 1235437196), (22, 1243825804), (28, 1252214414), (32, 1260603022)], [], [], [], [], [], [], [(37, 235929605)], [], [], [], [(1, 0)], [], [], []]
def Ok28 : List (Nat × Int) := []
def Ol28 : List (Nat × Int) := []
theorem ow28 {s0 : State} (hN : NCs s0) : OwnOK s0 "AlgolHouse$Outcome" Om28 Ok28 Ol28 := ⟨ow28_k, ow28_l, ow28_0, ow28_1, ow28_2, ow28_3, ow28_4, ow28_5, ow28_6, ow28_7, ow28_8 hN, ow28_9, ow28_10, ow28_11, ow28_12, ow28_13, ow28_14, ow28_15, ow28_16⟩
theorem ow30_k : ∀ q ∈ ([] : List (Nat × Int)), Cond.constant "AlgolHouse$Path" q.1 (Int32.ofInt q.2) ∈ lw_all := fun q h => by cases h
theorem ow30_l : ∀ q ∈ ([] : List (Nat × Int)), Cond.constantLong "AlgolHouse$Path" q.1 (Int64.ofInt q.2) ∈ lw_all := fun q h => by cases h
theorem ow30_0 : ∀ q ∈ ([(9, 1378175638), (15, 1386564244), (25, 1394952854), (33, 638128676), (40, 671683110)] : List (Nat × Nat)), q.2 ∈ iFs ∧ FLk "AlgolHouse$Path" q.1 q.2 := List.forall_mem_cons.mpr ⟨⟨List.mem_of_getElem? (i := 164) rfl, ⟨"AlgolHouse$Path", Or.inl (lw_g (lw_at lw_m1 231 rfl) rfl), Or.inl rfl⟩⟩, List.forall_mem_cons.mpr ⟨⟨List.mem_of_getElem? (i := 165) rfl, ⟨"AlgolHouse$Path", Or.inl (lw_g (lw_at lw_m1 233 rfl) rfl), Or.inl rfl⟩⟩, List.forall_mem_cons.mpr ⟨⟨List.mem_of_getElem? (i := 166) rfl, ⟨"AlgolHouse$Path", Or.inl (lw_g (lw_at lw_m1 235 rfl) rfl), Or.inl rfl⟩⟩, List.forall_mem_cons.mpr ⟨⟨List.mem_of_getElem? (i := 76) rfl, ⟨"AlgolHouse$Mode", Or.inr ⟨_, lw_at lw_m3 75 rfl⟩, Or.inl rfl⟩⟩, List.forall_mem_cons.mpr ⟨⟨List.mem_of_getElem? (i := 80) rfl, ⟨"AlgolHouse$Mode", Or.inr ⟨_, lw_at lw_m3 99 rfl⟩, Or.inl rfl⟩⟩, fun q h => by cases h⟩⟩⟩⟩⟩
theorem ow30_1 : ∀ q ∈ ([(15, 1386564244), (25, 1394952854)] : List (Nat × Nat)), q.2 ∈ iFs ∧ PLk "AlgolHouse$Path" q.1 q.2 := List.forall_mem_cons.mpr ⟨⟨List.mem_of_getElem? (i := 165) rfl, ⟨"AlgolHouse$Path", Or.inl (lw_g (lw_at lw_m1 233 rfl) rfl), Or.inl rfl⟩, rfl⟩, List.forall_mem_cons.mpr ⟨⟨List.mem_of_getElem? (i := 166) rfl, ⟨"AlgolHouse$Path", Or.inl (lw_g (lw_at lw_m1 235 rfl) rfl), Or.inl rfl⟩, rfl⟩, fun q h => by cases h⟩⟩
theorem ow30_2 : ∀ q ∈ ([(9, 1378175638)] : List (Nat × Nat)), q.2 ∈ iFs ∧ PFk "AlgolHouse$Path" q.1 q.2 := List.forall_mem_cons.mpr ⟨⟨List.mem_of_getElem? (i := 164) rfl, rfl, rfl, "AlgolHouse$Path", lw_g (lw_at lw_m1 231 rfl) rfl, Or.inl rfl⟩, fun q h => by cases h⟩
theorem ow30_3 : ∀ q ∈ ([] : List (Nat × Nat)), q.2 ∈ sFs ∧ FLk "AlgolHouse$Path" q.1 q.2 := fun q h => by cases h
theorem ow30_4 : ∀ q ∈ ([] : List (Nat × Nat)), TLk "AlgolHouse$Path" q.1 q.2 ∧ q.2 % 4 = 2 := fun q h => by cases h
theorem ow30_5 : ∀ q ∈ ([] : List (Nat × Nat)), mdT q.2 = true ∧ NLk "AlgolHouse$Path" q.1 q.2 := fun q h => by cases h
theorem ow30_6 : ∀ q ∈ ([] : List (Nat × Nat)), mdA q.2 = true ∧ ak q.2 = 2 ∧ ALk "AlgolHouse$Path" q.1 q.2 := fun q h => by cases h
theorem ow30_7 : ∀ q ∈ ([] : List (Nat × Nat)), XLk "AlgolHouse$Path" q.1 q.2 := fun q h => by cases h
theorem ow30_8 {s0 : State} (hN : NCs s0) : ∀ q ∈ ([] : List (Nat × Nat)), YLk s0 "AlgolHouse$Path" q.1 q.2 := fun q h => by cases h
theorem ow30_9 : ∀ q ∈ ([] : List (Nat × Nat)), q.2 = ACN ∧ ACk "AlgolHouse$Path" q.1 ∨ q.2 ≠ ACN ∧ SMk "AlgolHouse$Path" q.1 q.2 := fun q h => by cases h
theorem ow30_10 : ∀ q ∈ ([] : List (Nat × Nat)), IMk "AlgolHouse$Path" q.1 q.2 ∧ ∀ t, inT (q.2 / 16 % 128) (q.2 / 2048 % 128) t → inT 1 55 t := fun q h => by cases h
theorem ow30_11_0 : VMk "AlgolHouse$Path" 19 24922257 := ⟨mok_X6_real, by decide, fun t ht => by
  obtain rfl : t = 9 := Nat.le_antisymm (Nat.le_trans ht.2 (by decide)) (Nat.le_trans (by decide) ht.1)
  exact ⟨⟨by decide, by decide⟩, im_X6_real, Or.inl ⟨np_X6_real, lw_g (lw_at lw_m11 4 rfl) rfl, Or.inl (lw_g (lw_at lw_m12 171 rfl) rfl)⟩⟩⟩
theorem ow30_11_1 : VMk "AlgolHouse$Path" 29 25184401 := ⟨mok_X6_isCall, by decide, fun t ht => by
  obtain rfl : t = 9 := Nat.le_antisymm (Nat.le_trans ht.2 (by decide)) (Nat.le_trans (by decide) ht.1)
  exact ⟨⟨by decide, by decide⟩, im_X6_isCall, Or.inl ⟨np_X6_isCall, lw_g (lw_at lw_m11 49 rfl) rfl, Or.inl (lw_g (lw_at lw_m12 197 rfl) rfl)⟩⟩⟩
theorem ow30_11_2 : VMk "AlgolHouse$Path" 36 23931474 := ⟨mok_X5_add, by decide, fun t ht => by
  obtain rfl : t = 37 := Nat.le_antisymm (Nat.le_trans ht.2 (by decide)) (Nat.le_trans (by decide) ht.1)
  exact ⟨⟨by decide, by decide⟩, im_X5_add, Or.inl ⟨np_X5_add, lw_g (lw_ms _ (List.mem_map.mpr ⟨_, List.mem_of_getElem? (i := 84) rfl, rfl⟩)) rfl, Or.inl (lw_g (lw_at lw_m12 189 rfl) rfl)⟩⟩⟩
theorem ow30_11_3 : VMk "AlgolHouse$Path" 43 19681443 := ⟨mok_X4_one, by decide, fun t ht => by
  obtain rfl : t = 10 := Nat.le_antisymm (Nat.le_trans ht.2 (by decide)) (Nat.le_trans (by decide) ht.1)
  exact ⟨⟨by decide, by decide⟩, im_X4_one, Or.inl ⟨np_X4_one, lw_g (lw_at lw_m11 9 rfl) rfl, Or.inl (lw_g (lw_at lw_m12 180 rfl) rfl)⟩⟩⟩
theorem ow30_11_4 : VMk "AlgolHouse$Path" 49 22302883 := ⟨mok_X4_unites, by decide, fun t ht => by
  obtain rfl : t = 10 := Nat.le_antisymm (Nat.le_trans ht.2 (by decide)) (Nat.le_trans (by decide) ht.1)
  exact ⟨⟨by decide, by decide⟩, im_X4_unites, Or.inl ⟨np_X4_unites, lw_g (lw_at lw_m12 183 rfl) rfl, Or.inl (lw_g (lw_at lw_m12 181 rfl) rfl)⟩⟩⟩
theorem ow30_11_5 : VMk "AlgolHouse$Path" 52 24193618 := ⟨mok_X5_goes, by decide, fun t ht => by
  obtain rfl : t = 37 := Nat.le_antisymm (Nat.le_trans ht.2 (by decide)) (Nat.le_trans (by decide) ht.1)
  exact ⟨⟨by decide, by decide⟩, im_X5_goes, Or.inl ⟨np_X5_goes, lw_g (lw_at lw_m12 195 rfl) rfl, Or.inl (lw_g (lw_at lw_m12 193 rfl) rfl)⟩⟩⟩
theorem ow30_11_6 : VMk "AlgolHouse$Path" 56 23407186 := ⟨mok_X5_begin, by decide, fun t ht => by
  obtain rfl : t = 37 := Nat.le_antisymm (Nat.le_trans ht.2 (by decide)) (Nat.le_trans (by decide) ht.1)
  exact ⟨⟨by decide, by decide⟩, im_X5_begin, Or.inl ⟨np_X5_begin, lw_g (lw_at lw_m12 174 rfl) rfl, Or.inl (lw_g (lw_at lw_m12 172 rfl) rfl)⟩⟩⟩
theorem ow30_11_7 : VMk "AlgolHouse$Path" 60 23669332 := ⟨mok_X5_firm, by decide, fun t ht => by
  obtain rfl : t = 37 := Nat.le_antisymm (Nat.le_trans ht.2 (by decide)) (Nat.le_trans (by decide) ht.1)
  exact ⟨⟨by decide, by decide⟩, im_X5_firm, Or.inl ⟨np_X5_firm, lw_g (lw_at lw_m12 178 rfl) rfl, Or.inl (lw_g (lw_at lw_m12 176 rfl) rfl)⟩⟩⟩
theorem ow30_11_8 : VMk "AlgolHouse$Path" 64 23145044 := ⟨mok_X5_strong, by decide, fun t ht => by
  obtain rfl : t = 37 := Nat.le_antisymm (Nat.le_trans ht.2 (by decide)) (Nat.le_trans (by decide) ht.1)
  exact ⟨⟨by decide, by decide⟩, im_X5_strong, Or.inl ⟨np_X5_strong, lw_g (lw_at lw_m12 169 rfl) rfl, Or.inl (lw_g (lw_at lw_m12 198 rfl) rfl)⟩⟩⟩
theorem ow30_11 : ∀ q ∈ ([(19, 24922257), (29, 25184401), (36, 23931474), (43, 19681443), (49, 22302883), (52, 24193618), (56, 23407186), (60, 23669332), (64, 23145044)] : List (Nat × Nat)), VMk "AlgolHouse$Path" q.1 q.2 := List.forall_mem_cons.mpr ⟨ow30_11_0, List.forall_mem_cons.mpr ⟨ow30_11_1, List.forall_mem_cons.mpr ⟨ow30_11_2, List.forall_mem_cons.mpr ⟨ow30_11_3, List.forall_mem_cons.mpr ⟨ow30_11_4, List.forall_mem_cons.mpr ⟨ow30_11_5, List.forall_mem_cons.mpr ⟨ow30_11_6, List.forall_mem_cons.mpr ⟨ow30_11_7, List.forall_mem_cons.mpr ⟨ow30_11_8, fun q h => by cases h⟩⟩⟩⟩⟩⟩⟩⟩⟩
theorem ow30_12 : ∀ q ∈ ([] : List (Nat × Nat)), ∀ n, pN q.2 n → PMk "AlgolHouse$Path" q.1 q.2 n := fun q h => by cases h
theorem ow30_13 : ∀ q ∈ ([(3, 0)] : List (Nat × Nat)), Cond.methodLink "AlgolHouse$Path" q.1 Lib.objectInit ∈ lw_all := List.forall_mem_cons.mpr ⟨lw_g (lw_at lw_m1 230 rfl) rfl, fun q h => by cases h⟩
theorem ow30_14 : ∀ q ∈ ([] : List (Nat × Nat)), JMk "AlgolHouse$Path" q.1 q.2 := fun q h => by cases h
theorem ow30_15 : ∀ q ∈ ([] : List (Nat × Nat)), exT q.2 ∧ NLk "AlgolHouse$Path" q.1 q.2 := fun q h => by cases h
theorem ow30_16 : ∀ q ∈ ([] : List (Nat × Nat)), exT q.2 ∧ Cond.methodLink "AlgolHouse$Path" q.1 ⟨cN q.2, "<init>", "()V"⟩ ∈ lw_all := fun q h => by cases h
def Om30 : Om := [[(9, 1378175638), (15, 1386564244), (25, 1394952854), (33, 638128676), (40, 671683110)], [(15, 1386564244), (25, 1394952854)], [(9, 1378175638)], [], [], [], [], [], [], [], [], [(19, 24922257), (29, 25184401), (36, 23931474), (43, 19681443), (49, 22302883), (52, 24193618), (56, 23407186), (60, 23669332), (64, 23145044)], [], [(3, 0)], [], [], []]
def Ok30 : List (Nat × Int) := []
def Ol30 : List (Nat × Int) := []
theorem ow30 {s0 : State} (hN : NCs s0) : OwnOK s0 "AlgolHouse$Path" Om30 Ok30 Ol30 := ⟨ow30_k, ow30_l, ow30_0, ow30_1, ow30_2, ow30_3, ow30_4, ow30_5, ow30_6, ow30_7, ow30_8 hN, ow30_9, ow30_10, ow30_11, ow30_12, ow30_13, ow30_14, ow30_15, ow30_16⟩
theorem ow31_k : ∀ q ∈ ([] : List (Nat × Int)), Cond.constant "AlgolHouse$Place" q.1 (Int32.ofInt q.2) ∈ lw_all := fun q h => by cases h
theorem ow31_l : ∀ q ∈ ([] : List (Nat × Int)), Cond.constantLong "AlgolHouse$Place" q.1 (Int64.ofInt q.2) ∈ lw_all := fun q h => by cases h
theorem ow31_0 : ∀ q ∈ ([(7, 1436961946), (13, 1445350554), (16, 1453739162), (19, 1470516376)] : List (Nat × Nat)), q.2 ∈ iFs ∧ FLk "AlgolHouse$Place" q.1 q.2 := List.forall_mem_cons.mpr ⟨⟨List.mem_of_getElem? (i := 171) rfl, ⟨"AlgolHouse$Place", Or.inl (lw_g (lw_at lw_m16 42 rfl) rfl), Or.inl rfl⟩⟩, List.forall_mem_cons.mpr ⟨⟨List.mem_of_getElem? (i := 172) rfl, ⟨"AlgolHouse$Place", Or.inl (lw_g (lw_at lw_m16 44 rfl) rfl), Or.inl rfl⟩⟩, List.forall_mem_cons.mpr ⟨⟨List.mem_of_getElem? (i := 173) rfl, ⟨"AlgolHouse$Place", Or.inl (lw_g (lw_at lw_m16 46 rfl) rfl), Or.inl rfl⟩⟩, List.forall_mem_cons.mpr ⟨⟨List.mem_of_getElem? (i := 175) rfl, ⟨"AlgolHouse$Place", Or.inl (lw_g (lw_at lw_m16 51 rfl) rfl), Or.inl rfl⟩⟩, fun q h => by cases h⟩⟩⟩⟩
theorem ow31_1 : ∀ q ∈ ([(7, 1436961946), (13, 1445350554), (16, 1453739162), (19, 1470516376)] : List (Nat × Nat)), q.2 ∈ iFs ∧ PLk "AlgolHouse$Place" q.1 q.2 := List.forall_mem_cons.mpr ⟨⟨List.mem_of_getElem? (i := 171) rfl, ⟨"AlgolHouse$Place", Or.inl (lw_g (lw_at lw_m16 42 rfl) rfl), Or.inl rfl⟩, rfl⟩, List.forall_mem_cons.mpr ⟨⟨List.mem_of_getElem? (i := 172) rfl, ⟨"AlgolHouse$Place", Or.inl (lw_g (lw_at lw_m16 44 rfl) rfl), Or.inl rfl⟩, rfl⟩, List.forall_mem_cons.mpr ⟨⟨List.mem_of_getElem? (i := 173) rfl, ⟨"AlgolHouse$Place", Or.inl (lw_g (lw_at lw_m16 46 rfl) rfl), Or.inl rfl⟩, rfl⟩, List.forall_mem_cons.mpr ⟨⟨List.mem_of_getElem? (i := 175) rfl, ⟨"AlgolHouse$Place", Or.inl (lw_g (lw_at lw_m16 51 rfl) rfl), Or.inl rfl⟩, rfl⟩, fun q h => by cases h⟩⟩⟩⟩
theorem ow31_2 : ∀ q ∈ ([] : List (Nat × Nat)), q.2 ∈ iFs ∧ PFk "AlgolHouse$Place" q.1 q.2 := fun q h => by cases h
theorem ow31_3 : ∀ q ∈ ([] : List (Nat × Nat)), q.2 ∈ sFs ∧ FLk "AlgolHouse$Place" q.1 q.2 := fun q h => by cases h
theorem ow31_4 : ∀ q ∈ ([] : List (Nat × Nat)), TLk "AlgolHouse$Place" q.1 q.2 ∧ q.2 % 4 = 2 := fun q h => by cases h
theorem ow31_5 : ∀ q ∈ ([] : List (Nat × Nat)), mdT q.2 = true ∧ NLk "AlgolHouse$Place" q.1 q.2 := fun q h => by cases h
theorem ow31_6 : ∀ q ∈ ([] : List (Nat × Nat)), mdA q.2 = true ∧ ak q.2 = 2 ∧ ALk "AlgolHouse$Place" q.1 q.2 := fun q h => by cases h
theorem ow31_7 : ∀ q ∈ ([] : List (Nat × Nat)), XLk "AlgolHouse$Place" q.1 q.2 := fun q h => by cases h
theorem ow31_8 {s0 : State} (hN : NCs s0) : ∀ q ∈ ([] : List (Nat × Nat)), YLk s0 "AlgolHouse$Place" q.1 q.2 := fun q h => by cases h
theorem ow31_9 : ∀ q ∈ ([] : List (Nat × Nat)), q.2 = ACN ∧ ACk "AlgolHouse$Place" q.1 ∨ q.2 ≠ ACN ∧ SMk "AlgolHouse$Place" q.1 q.2 := fun q h => by cases h
theorem ow31_10 : ∀ q ∈ ([] : List (Nat × Nat)), IMk "AlgolHouse$Place" q.1 q.2 ∧ ∀ t, inT (q.2 / 16 % 128) (q.2 / 2048 % 128) t → inT 1 55 t := fun q h => by cases h
theorem ow31_11 : ∀ q ∈ ([] : List (Nat × Nat)), VMk "AlgolHouse$Place" q.1 q.2 := fun q h => by cases h
theorem ow31_12 : ∀ q ∈ ([] : List (Nat × Nat)), ∀ n, pN q.2 n → PMk "AlgolHouse$Place" q.1 q.2 n := fun q h => by cases h
theorem ow31_13 : ∀ q ∈ ([(1, 0)] : List (Nat × Nat)), Cond.methodLink "AlgolHouse$Place" q.1 Lib.objectInit ∈ lw_all := List.forall_mem_cons.mpr ⟨lw_g (lw_at lw_m16 35 rfl) rfl, fun q h => by cases h⟩
theorem ow31_14 : ∀ q ∈ ([] : List (Nat × Nat)), JMk "AlgolHouse$Place" q.1 q.2 := fun q h => by cases h
theorem ow31_15 : ∀ q ∈ ([] : List (Nat × Nat)), exT q.2 ∧ NLk "AlgolHouse$Place" q.1 q.2 := fun q h => by cases h
theorem ow31_16 : ∀ q ∈ ([] : List (Nat × Nat)), exT q.2 ∧ Cond.methodLink "AlgolHouse$Place" q.1 ⟨cN q.2, "<init>", "()V"⟩ ∈ lw_all := fun q h => by cases h
def Om31 : Om := [[(7, 1436961946), (13, 1445350554), (16, 1453739162), (19, 1470516376)], [(7, 1436961946), (13, 1445350554), (16, 1453739162), (19, 1470516376)], [], [], [], [], [], [], [], [], [], [], [], [(1, 0)], [], [], []]
def Ok31 : List (Nat × Int) := []
def Ol31 : List (Nat × Int) := []
theorem ow31 {s0 : State} (hN : NCs s0) : OwnOK s0 "AlgolHouse$Place" Om31 Ok31 Ol31 := ⟨ow31_k, ow31_l, ow31_0, ow31_1, ow31_2, ow31_3, ow31_4, ow31_5, ow31_6, ow31_7, ow31_8 hN, ow31_9, ow31_10, ow31_11, ow31_12, ow31_13, ow31_14, ow31_15, ow31_16⟩
theorem ow32_k : ∀ q ∈ ([] : List (Nat × Int)), Cond.constant "AlgolHouse$Plain" q.1 (Int32.ofInt q.2) ∈ lw_all := fun q h => by cases h
theorem ow32_l : ∀ q ∈ ([] : List (Nat × Int)), Cond.constantLong "AlgolHouse$Plain" q.1 (Int64.ofInt q.2) ∈ lw_all := fun q h => by cases h
theorem ow32_0 : ∀ q ∈ ([(7, 1092368496), (13, 1100757105), (17, 268699666), (23, 277088274), (26, 285476882)] : List (Nat × Nat)), q.2 ∈ iFs ∧ FLk "AlgolHouse$Plain" q.1 q.2 := List.forall_mem_cons.mpr ⟨⟨List.mem_of_getElem? (i := 130) rfl, ⟨"AlgolHouse$Plain", Or.inl (lw_g (lw_at lw_m9 51 rfl) rfl), Or.inl rfl⟩⟩, List.forall_mem_cons.mpr ⟨⟨List.mem_of_getElem? (i := 131) rfl, ⟨"AlgolHouse$Plain", Or.inl (lw_g (lw_at lw_m9 52 rfl) rfl), Or.inl rfl⟩⟩, List.forall_mem_cons.mpr ⟨⟨List.mem_of_getElem? (i := 32) rfl, ⟨"AlgolHouse$Judge", Or.inr ⟨_, lw_at lw_m3 140 rfl⟩, Or.inl rfl⟩⟩, List.forall_mem_cons.mpr ⟨⟨List.mem_of_getElem? (i := 33) rfl, ⟨"AlgolHouse$Judge", Or.inr ⟨_, lw_at lw_m3 145 rfl⟩, Or.inl rfl⟩⟩, List.forall_mem_cons.mpr ⟨⟨List.mem_of_getElem? (i := 34) rfl, ⟨"AlgolHouse$Judge", Or.inr ⟨_, lw_at lw_m3 148 rfl⟩, Or.inl rfl⟩⟩, fun q h => by cases h⟩⟩⟩⟩⟩
theorem ow32_1 : ∀ q ∈ ([(29, 757220398)] : List (Nat × Nat)), q.2 ∈ iFs ∧ PLk "AlgolHouse$Plain" q.1 q.2 := List.forall_mem_cons.mpr ⟨⟨List.mem_of_getElem? (i := 90) rfl, ⟨"AlgolHouse$Plain", Or.inl (lw_g (lw_at lw_m5 170 rfl) rfl), Or.inr (lw_g (lw_at lw_m5 171 rfl) rfl)⟩, rfl⟩, fun q h => by cases h⟩
theorem ow32_2 : ∀ q ∈ ([(7, 1092368496), (13, 1100757105)] : List (Nat × Nat)), q.2 ∈ iFs ∧ PFk "AlgolHouse$Plain" q.1 q.2 := List.forall_mem_cons.mpr ⟨⟨List.mem_of_getElem? (i := 130) rfl, rfl, rfl, "AlgolHouse$Plain", lw_g (lw_at lw_m9 51 rfl) rfl, Or.inl rfl⟩, List.forall_mem_cons.mpr ⟨⟨List.mem_of_getElem? (i := 131) rfl, rfl, rfl, "AlgolHouse$Plain", lw_g (lw_at lw_m9 52 rfl) rfl, Or.inl rfl⟩, fun q h => by cases h⟩⟩
theorem ow32_3 : ∀ q ∈ ([] : List (Nat × Nat)), q.2 ∈ sFs ∧ FLk "AlgolHouse$Plain" q.1 q.2 := fun q h => by cases h
theorem ow32_4 : ∀ q ∈ ([] : List (Nat × Nat)), TLk "AlgolHouse$Plain" q.1 q.2 ∧ q.2 % 4 = 2 := fun q h => by cases h
theorem ow32_5 : ∀ q ∈ ([] : List (Nat × Nat)), mdT q.2 = true ∧ NLk "AlgolHouse$Plain" q.1 q.2 := fun q h => by cases h
theorem ow32_6 : ∀ q ∈ ([] : List (Nat × Nat)), mdA q.2 = true ∧ ak q.2 = 2 ∧ ALk "AlgolHouse$Plain" q.1 q.2 := fun q h => by cases h
theorem ow32_7 : ∀ q ∈ ([] : List (Nat × Nat)), XLk "AlgolHouse$Plain" q.1 q.2 := fun q h => by cases h
theorem ow32_8 {s0 : State} (hN : NCs s0) : ∀ q ∈ ([] : List (Nat × Nat)), YLk s0 "AlgolHouse$Plain" q.1 q.2 := fun q h => by cases h
theorem ow32_9 : ∀ q ∈ ([] : List (Nat × Nat)), q.2 = ACN ∧ ACk "AlgolHouse$Plain" q.1 ∨ q.2 ≠ ACN ∧ SMk "AlgolHouse$Plain" q.1 q.2 := fun q h => by cases h
theorem ow32_10 : ∀ q ∈ ([(1, 118034610)] : List (Nat × Nat)), IMk "AlgolHouse$Plain" q.1 q.2 ∧ ∀ t, inT (q.2 / 16 % 128) (q.2 / 2048 % 128) t → inT 1 55 t := List.forall_mem_cons.mpr ⟨⟨⟨mok_X12_init, np_X12_init, by decide, rfl, im_X12_init, ⟨_, _, rfl⟩, Or.inl (lw_g (lw_at lw_m9 50 rfl) rfl)⟩, fun t ht => ⟨Nat.le_trans (by decide) ht.1, Nat.le_trans ht.2 (by decide)⟩⟩, fun q h => by cases h⟩
theorem ow32_11_0 : VMk "AlgolHouse$Plain" 32 32256098 := ⟨mok_X7_number, by decide, fun t ht => by
  obtain rfl : t = 6 := Nat.le_antisymm (Nat.le_trans ht.2 (by decide)) (Nat.le_trans (by decide) ht.1)
  exact ⟨⟨by decide, by decide⟩, im_X7_number, Or.inl ⟨np_X7_number, lw_g (lw_at lw_m17 8 rfl) rfl, Or.inl (lw_g (lw_at lw_m17 124 rfl) rfl)⟩⟩⟩
theorem ow32_11_1 : VMk "AlgolHouse$Plain" 38 29634659 := ⟨mok_X7_done, by decide, fun t ht => by
  obtain rfl : t = 6 := Nat.le_antisymm (Nat.le_trans ht.2 (by decide)) (Nat.le_trans (by decide) ht.1)
  exact ⟨⟨by decide, by decide⟩, im_X7_done, Or.inl ⟨np_X7_done, lw_g (lw_at lw_m16 80 rfl) rfl, Or.inl (lw_g (lw_at lw_m17 125 rfl) rfl)⟩⟩⟩
theorem ow32_11 : ∀ q ∈ ([(32, 32256098), (38, 29634659)] : List (Nat × Nat)), VMk "AlgolHouse$Plain" q.1 q.2 := List.forall_mem_cons.mpr ⟨ow32_11_0, List.forall_mem_cons.mpr ⟨ow32_11_1, fun q h => by cases h⟩⟩
theorem ow32_12 : ∀ q ∈ ([] : List (Nat × Nat)), ∀ n, pN q.2 n → PMk "AlgolHouse$Plain" q.1 q.2 n := fun q h => by cases h
theorem ow32_13 : ∀ q ∈ ([] : List (Nat × Nat)), Cond.methodLink "AlgolHouse$Plain" q.1 Lib.objectInit ∈ lw_all := fun q h => by cases h
theorem ow32_14 : ∀ q ∈ ([] : List (Nat × Nat)), JMk "AlgolHouse$Plain" q.1 q.2 := fun q h => by cases h
theorem ow32_15 : ∀ q ∈ ([] : List (Nat × Nat)), exT q.2 ∧ NLk "AlgolHouse$Plain" q.1 q.2 := fun q h => by cases h
theorem ow32_16 : ∀ q ∈ ([] : List (Nat × Nat)), exT q.2 ∧ Cond.methodLink "AlgolHouse$Plain" q.1 ⟨cN q.2, "<init>", "()V"⟩ ∈ lw_all := fun q h => by cases h
def Om32 : Om := [[(7, 1092368496), (13, 1100757105), (17, 268699666), (23, 277088274), (26, 285476882)], [(29, 757220398)], [(7, 1092368496), (13, 1100757105)], [], [], [], [], [], [], [], [(1, 118034610)], [(32, 32256098), (38, 29634659)], [], [], [], [], []]
def Ok32 : List (Nat × Int) := []
def Ol32 : List (Nat × Int) := []
theorem ow32 {s0 : State} (hN : NCs s0) : OwnOK s0 "AlgolHouse$Plain" Om32 Ok32 Ol32 := ⟨ow32_k, ow32_l, ow32_0, ow32_1, ow32_2, ow32_3, ow32_4, ow32_5, ow32_6, ow32_7, ow32_8 hN, ow32_9, ow32_10, ow32_11, ow32_12, ow32_13, ow32_14, ow32_15, ow32_16⟩
theorem ow33_k : ∀ q ∈ ([] : List (Nat × Int)), Cond.constant "AlgolHouse$Print" q.1 (Int32.ofInt q.2) ∈ lw_all := fun q h => by cases h
theorem ow33_l : ∀ q ∈ ([] : List (Nat × Int)), Cond.constantLong "AlgolHouse$Print" q.1 (Int64.ofInt q.2) ∈ lw_all := fun q h => by cases h
theorem ow33_0 : ∀ q ∈ ([(9, 243533842), (31, 1394952854), (35, 638128676), (45, 740443180), (56, 1109211764), (59, 293865490), (65, 126027276), (76, 436603930), (80, 1563055275), (86, 740443180), (88, 1571443881)] : List (Nat × Nat)), q.2 ∈ iFs ∧ FLk "AlgolHouse$Print" q.1 q.2 := List.forall_mem_cons.mpr ⟨⟨List.mem_of_getElem? (i := 29) rfl, ⟨"AlgolHouse$Judge", Or.inr ⟨_, lw_at lw_m3 131 rfl⟩, Or.inl rfl⟩⟩, List.forall_mem_cons.mpr ⟨⟨List.mem_of_getElem? (i := 166) rfl, ⟨"AlgolHouse$Path", Or.inr ⟨_, lw_at lw_m1 236 rfl⟩, Or.inl rfl⟩⟩, List.forall_mem_cons.mpr ⟨⟨List.mem_of_getElem? (i := 76) rfl, ⟨"AlgolHouse$Mode", Or.inr ⟨_, lw_at lw_m3 74 rfl⟩, Or.inl rfl⟩⟩, List.forall_mem_cons.mpr ⟨⟨List.mem_of_getElem? (i := 88) rfl, ⟨"AlgolHouse$Node", Or.inl (lw_g (lw_at lw_m5 96 rfl) rfl), Or.inl rfl⟩⟩, List.forall_mem_cons.mpr ⟨⟨List.mem_of_getElem? (i := 132) rfl, ⟨"AlgolHouse$Print", Or.inl (lw_g (lw_at lw_m9 221 rfl) rfl), Or.inl rfl⟩⟩, List.forall_mem_cons.mpr ⟨⟨List.mem_of_getElem? (i := 35) rfl, ⟨"AlgolHouse$Judge", Or.inr ⟨_, lw_at lw_m3 152 rfl⟩, Or.inl rfl⟩⟩, List.forall_mem_cons.mpr ⟨⟨List.mem_of_getElem? (i := 15) rfl, ⟨"AlgolHouse$Frame", Or.inr ⟨_, lw_at lw_m15 151 rfl⟩, Or.inl rfl⟩⟩, List.forall_mem_cons.mpr ⟨⟨List.mem_of_getElem? (i := 52) rfl, ⟨"AlgolHouse$Machine", Or.inr ⟨_, lw_at lw_m4 17 rfl⟩, Or.inl rfl⟩⟩, List.forall_mem_cons.mpr ⟨⟨List.mem_of_getElem? (i := 186) rfl, ⟨"AlgolHouse$Value", Or.inr ⟨_, lw_at lw_m16 127 rfl⟩, Or.inl rfl⟩⟩, List.forall_mem_cons.mpr ⟨⟨List.mem_of_getElem? (i := 88) rfl, ⟨"AlgolHouse$Print", Or.inl (lw_g (lw_at lw_m5 107 rfl) rfl), Or.inr (lw_g (lw_at lw_m5 108 rfl) rfl)⟩⟩, List.forall_mem_cons.mpr ⟨⟨List.mem_of_getElem? (i := 187) rfl, ⟨"AlgolHouse$Value", Or.inr ⟨_, lw_at lw_m16 140 rfl⟩, Or.inl rfl⟩⟩, fun q h => by cases h⟩⟩⟩⟩⟩⟩⟩⟩⟩⟩⟩
theorem ow33_1 : ∀ q ∈ ([(56, 1109211764), (62, 757220398), (65, 126027276)] : List (Nat × Nat)), q.2 ∈ iFs ∧ PLk "AlgolHouse$Print" q.1 q.2 := List.forall_mem_cons.mpr ⟨⟨List.mem_of_getElem? (i := 132) rfl, ⟨"AlgolHouse$Print", Or.inl (lw_g (lw_at lw_m9 221 rfl) rfl), Or.inl rfl⟩, rfl⟩, List.forall_mem_cons.mpr ⟨⟨List.mem_of_getElem? (i := 90) rfl, ⟨"AlgolHouse$Print", Or.inl (lw_g (lw_at lw_m5 174 rfl) rfl), Or.inr (lw_g (lw_at lw_m5 175 rfl) rfl)⟩, rfl⟩, List.forall_mem_cons.mpr ⟨⟨List.mem_of_getElem? (i := 15) rfl, ⟨"AlgolHouse$Frame", Or.inr ⟨_, lw_at lw_m15 151 rfl⟩, Or.inl rfl⟩, rfl⟩, fun q h => by cases h⟩⟩⟩
theorem ow33_2 : ∀ q ∈ ([] : List (Nat × Nat)), q.2 ∈ iFs ∧ PFk "AlgolHouse$Print" q.1 q.2 := fun q h => by cases h
theorem ow33_3 : ∀ q ∈ ([] : List (Nat × Nat)), q.2 ∈ sFs ∧ FLk "AlgolHouse$Print" q.1 q.2 := fun q h => by cases h
theorem ow33_4 : ∀ q ∈ ([] : List (Nat × Nat)), TLk "AlgolHouse$Print" q.1 q.2 ∧ q.2 % 4 = 2 := fun q h => by cases h
theorem ow33_5 : ∀ q ∈ ([] : List (Nat × Nat)), mdT q.2 = true ∧ NLk "AlgolHouse$Print" q.1 q.2 := fun q h => by cases h
theorem ow33_6 : ∀ q ∈ ([] : List (Nat × Nat)), mdA q.2 = true ∧ ak q.2 = 2 ∧ ALk "AlgolHouse$Print" q.1 q.2 := fun q h => by cases h
theorem ow33_7 : ∀ q ∈ ([] : List (Nat × Nat)), XLk "AlgolHouse$Print" q.1 q.2 := fun q h => by cases h
theorem ow33_8 {s0 : State} (hN : NCs s0) : ∀ q ∈ ([] : List (Nat × Nat)), YLk s0 "AlgolHouse$Print" q.1 q.2 := fun q h => by cases h
theorem ow33_9 : ∀ q ∈ ([] : List (Nat × Nat)), q.2 = ACN ∧ ACk "AlgolHouse$Print" q.1 ∨ q.2 ≠ ACN ∧ SMk "AlgolHouse$Print" q.1 q.2 := fun q h => by cases h
theorem ow33_10 : ∀ q ∈ ([(3, 118034610)] : List (Nat × Nat)), IMk "AlgolHouse$Print" q.1 q.2 ∧ ∀ t, inT (q.2 / 16 % 128) (q.2 / 2048 % 128) t → inT 1 55 t := List.forall_mem_cons.mpr ⟨⟨⟨mok_X12_init, np_X12_init, by decide, rfl, im_X12_init, ⟨_, _, rfl⟩, Or.inl (lw_g (lw_at lw_m9 220 rfl) rfl)⟩, fun t ht => ⟨Nat.le_trans (by decide) ht.1, Nat.le_trans ht.2 (by decide)⟩⟩, fun q h => by cases h⟩
theorem ow33_11_0 : VMk "AlgolHouse$Print" 21 16261186 := ⟨mok_X3_lead, by decide, fun t ht => by
  obtain rfl : t = 4 := Nat.le_antisymm (Nat.le_trans ht.2 (by decide)) (Nat.le_trans (by decide) ht.1)
  exact ⟨⟨by decide, by decide⟩, im_X3_lead, Or.inl ⟨np_X3_lead, lw_g (lw_at lw_m12 19 rfl) rfl, Or.inl (lw_g (lw_at lw_m14 21 rfl) rfl)⟩⟩⟩
theorem ow33_11_1 : VMk "AlgolHouse$Print" 25 23407186 := ⟨mok_X5_begin, by decide, fun t ht => by
  obtain rfl : t = 37 := Nat.le_antisymm (Nat.le_trans ht.2 (by decide)) (Nat.le_trans (by decide) ht.1)
  exact ⟨⟨by decide, by decide⟩, im_X5_begin, Or.inl ⟨np_X5_begin, lw_g (lw_at lw_m12 174 rfl) rfl, Or.inl (lw_g (lw_at lw_m14 22 rfl) rfl)⟩⟩⟩
theorem ow33_11_2 : VMk "AlgolHouse$Print" 41 24193618 := ⟨mok_X5_goes, by decide, fun t ht => by
  obtain rfl : t = 37 := Nat.le_antisymm (Nat.le_trans ht.2 (by decide)) (Nat.le_trans (by decide) ht.1)
  exact ⟨⟨by decide, by decide⟩, im_X5_goes, Or.inl ⟨np_X5_goes, lw_g (lw_at lw_m12 195 rfl) rfl, Or.inl (lw_g (lw_at lw_m14 23 rfl) rfl)⟩⟩⟩
theorem ow33_11_3 : VMk "AlgolHouse$Print" 48 15474756 := ⟨mok_X3_need, by decide, fun t ht => by
  obtain rfl : t = 4 := Nat.le_antisymm (Nat.le_trans ht.2 (by decide)) (Nat.le_trans (by decide) ht.1)
  exact ⟨⟨by decide, by decide⟩, im_X3_need, Or.inl ⟨np_X3_need, lw_g (lw_at lw_m11 139 rfl) rfl, Or.inl (lw_g (lw_at lw_m14 24 rfl) rfl)⟩⟩⟩
theorem ow33_11_4 : VMk "AlgolHouse$Print" 52 119869618 := ⟨mok_X12_keep, by decide, fun t ht => by
  rcases tg_11_34 (Nat.le_trans (by decide) ht.1) (Nat.le_trans ht.2 (by decide)) with rfl | rfl | rfl | rfl | rfl | rfl | rfl | rfl | rfl | rfl | rfl | rfl | rfl | rfl | rfl | rfl | rfl | rfl | rfl | rfl | rfl | rfl | rfl | rfl
  · exact ⟨⟨by decide, by decide⟩, im_X12_keep, Or.inl ⟨np_X12_keep, lw_g (lw_at lw_m12 203 rfl) rfl, Or.inl (lw_g (lw_at lw_m14 25 rfl) rfl)⟩⟩
  · exact ⟨⟨by decide, by decide⟩, im_X12_keep, Or.inl ⟨np_X12_keep, lw_g (lw_at lw_m12 204 rfl) rfl, Or.inl (lw_g (lw_at lw_m14 25 rfl) rfl)⟩⟩
  · exact ⟨⟨by decide, by decide⟩, im_X12_keep, Or.inl ⟨np_X12_keep, lw_g (lw_at lw_m12 206 rfl) rfl, Or.inl (lw_g (lw_at lw_m14 25 rfl) rfl)⟩⟩
  · exact ⟨⟨by decide, by decide⟩, im_X12_keep, Or.inl ⟨np_X12_keep, lw_g (lw_at lw_m12 211 rfl) rfl, Or.inl (lw_g (lw_at lw_m14 25 rfl) rfl)⟩⟩
  · exact ⟨⟨by decide, by decide⟩, im_X12_keep, Or.inl ⟨np_X12_keep, lw_g (lw_at lw_m12 216 rfl) rfl, Or.inl (lw_g (lw_at lw_m14 25 rfl) rfl)⟩⟩
  · exact ⟨⟨by decide, by decide⟩, im_X12_keep, Or.inl ⟨np_X12_keep, lw_g (lw_at lw_m12 225 rfl) rfl, Or.inl (lw_g (lw_at lw_m14 25 rfl) rfl)⟩⟩
  · exact ⟨⟨by decide, by decide⟩, im_X12_keep, Or.inl ⟨np_X12_keep, lw_g (lw_at lw_m12 207 rfl) rfl, Or.inl (lw_g (lw_at lw_m14 25 rfl) rfl)⟩⟩
  · exact ⟨⟨by decide, by decide⟩, im_X12_keep, Or.inl ⟨np_X12_keep, lw_g (lw_at lw_m12 208 rfl) rfl, Or.inl (lw_g (lw_at lw_m14 25 rfl) rfl)⟩⟩
  · exact ⟨⟨by decide, by decide⟩, im_X12_keep, Or.inl ⟨np_X12_keep, lw_g (lw_at lw_m12 205 rfl) rfl, Or.inl (lw_g (lw_at lw_m14 25 rfl) rfl)⟩⟩
  · exact ⟨⟨by decide, by decide⟩, im_X12_keep, Or.inl ⟨np_X12_keep, lw_g (lw_at lw_m12 212 rfl) rfl, Or.inl (lw_g (lw_at lw_m14 25 rfl) rfl)⟩⟩
  · exact ⟨⟨by decide, by decide⟩, im_X12_keep, Or.inl ⟨np_X12_keep, lw_g (lw_at lw_m12 221 rfl) rfl, Or.inl (lw_g (lw_at lw_m14 25 rfl) rfl)⟩⟩
  · exact ⟨⟨by decide, by decide⟩, im_X12_keep, Or.inl ⟨np_X12_keep, lw_g (lw_at lw_m12 226 rfl) rfl, Or.inl (lw_g (lw_at lw_m14 25 rfl) rfl)⟩⟩
  · exact ⟨⟨by decide, by decide⟩, im_X12_keep, Or.inl ⟨np_X12_keep, lw_g (lw_at lw_m12 209 rfl) rfl, Or.inl (lw_g (lw_at lw_m14 25 rfl) rfl)⟩⟩
  · exact ⟨⟨by decide, by decide⟩, im_X12_keep, Or.inl ⟨np_X12_keep, lw_g (lw_at lw_m12 210 rfl) rfl, Or.inl (lw_g (lw_at lw_m14 25 rfl) rfl)⟩⟩
  · exact ⟨⟨by decide, by decide⟩, im_X12_keep, Or.inl ⟨np_X12_keep, lw_g (lw_at lw_m12 213 rfl) rfl, Or.inl (lw_g (lw_at lw_m14 25 rfl) rfl)⟩⟩
  · exact ⟨⟨by decide, by decide⟩, im_X12_keep, Or.inl ⟨np_X12_keep, lw_g (lw_at lw_m12 214 rfl) rfl, Or.inl (lw_g (lw_at lw_m14 25 rfl) rfl)⟩⟩
  · exact ⟨⟨by decide, by decide⟩, im_X12_keep, Or.inl ⟨np_X12_keep, lw_g (lw_at lw_m12 215 rfl) rfl, Or.inl (lw_g (lw_at lw_m14 25 rfl) rfl)⟩⟩
  · exact ⟨⟨by decide, by decide⟩, im_X12_keep, Or.inl ⟨np_X12_keep, lw_g (lw_at lw_m12 217 rfl) rfl, Or.inl (lw_g (lw_at lw_m14 25 rfl) rfl)⟩⟩
  · exact ⟨⟨by decide, by decide⟩, im_X12_keep, Or.inl ⟨np_X12_keep, lw_g (lw_at lw_m12 218 rfl) rfl, Or.inl (lw_g (lw_at lw_m14 25 rfl) rfl)⟩⟩
  · exact ⟨⟨by decide, by decide⟩, im_X12_keep, Or.inl ⟨np_X12_keep, lw_g (lw_at lw_m12 219 rfl) rfl, Or.inl (lw_g (lw_at lw_m14 25 rfl) rfl)⟩⟩
  · exact ⟨⟨by decide, by decide⟩, im_X12_keep, Or.inl ⟨np_X12_keep, lw_g (lw_at lw_m12 220 rfl) rfl, Or.inl (lw_g (lw_at lw_m14 25 rfl) rfl)⟩⟩
  · exact ⟨⟨by decide, by decide⟩, im_X12_keep, Or.inl ⟨np_X12_keep, lw_g (lw_at lw_m12 222 rfl) rfl, Or.inl (lw_g (lw_at lw_m14 25 rfl) rfl)⟩⟩
  · exact ⟨⟨by decide, by decide⟩, im_X12_keep, Or.inl ⟨np_X12_keep, lw_g (lw_at lw_m12 223 rfl) rfl, Or.inl (lw_g (lw_at lw_m14 25 rfl) rfl)⟩⟩
  · exact ⟨⟨by decide, by decide⟩, im_X12_keep, Or.inl ⟨np_X12_keep, lw_g (lw_at lw_m12 224 rfl) rfl, Or.inl (lw_g (lw_at lw_m14 25 rfl) rfl)⟩⟩⟩
theorem ow33_11_5 : VMk "AlgolHouse$Print" 70 26488930 := ⟨mok_X7_push, by decide, fun t ht => by
  obtain rfl : t = 6 := Nat.le_antisymm (Nat.le_trans ht.2 (by decide)) (Nat.le_trans (by decide) ht.1)
  exact ⟨⟨by decide, by decide⟩, im_X7_push, Or.inl ⟨np_X7_push, lw_g (lw_at lw_m15 124 rfl) rfl, Or.inl (lw_g (lw_at lw_m17 129 rfl) rfl)⟩⟩⟩
theorem ow33_11_6 : VMk "AlgolHouse$Print" 87 27013220 := ⟨mok_X7_need, by decide, fun t ht => by
  obtain rfl : t = 6 := Nat.le_antisymm (Nat.le_trans ht.2 (by decide)) (Nat.le_trans (by decide) ht.1)
  exact ⟨⟨by decide, by decide⟩, im_X7_need, Or.inl ⟨np_X7_need, lw_g (lw_at lw_m15 132 rfl) rfl, Or.inl (lw_g (lw_at lw_m17 130 rfl) rfl)⟩⟩⟩
theorem ow33_11_7 : VMk "AlgolHouse$Print" 92 33304676 := ⟨mok_X7_print, by decide, fun t ht => by
  obtain rfl : t = 6 := Nat.le_antisymm (Nat.le_trans ht.2 (by decide)) (Nat.le_trans (by decide) ht.1)
  exact ⟨⟨by decide, by decide⟩, im_X7_print, Or.inl ⟨np_X7_print, lw_g (lw_at lw_m17 133 rfl) rfl, Or.inl (lw_g (lw_at lw_m17 131 rfl) rfl)⟩⟩⟩
theorem ow33_11_8 : VMk "AlgolHouse$Print" 96 29634659 := ⟨mok_X7_done, by decide, fun t ht => by
  obtain rfl : t = 6 := Nat.le_antisymm (Nat.le_trans ht.2 (by decide)) (Nat.le_trans (by decide) ht.1)
  exact ⟨⟨by decide, by decide⟩, im_X7_done, Or.inl ⟨np_X7_done, lw_g (lw_at lw_m16 80 rfl) rfl, Or.inl (lw_g (lw_at lw_m17 135 rfl) rfl)⟩⟩⟩
theorem ow33_11 : ∀ q ∈ ([(21, 16261186), (25, 23407186), (41, 24193618), (48, 15474756), (52, 119869618), (70, 26488930), (87, 27013220), (92, 33304676), (96, 29634659)] : List (Nat × Nat)), VMk "AlgolHouse$Print" q.1 q.2 := List.forall_mem_cons.mpr ⟨ow33_11_0, List.forall_mem_cons.mpr ⟨ow33_11_1, List.forall_mem_cons.mpr ⟨ow33_11_2, List.forall_mem_cons.mpr ⟨ow33_11_3, List.forall_mem_cons.mpr ⟨ow33_11_4, List.forall_mem_cons.mpr ⟨ow33_11_5, List.forall_mem_cons.mpr ⟨ow33_11_6, List.forall_mem_cons.mpr ⟨ow33_11_7, List.forall_mem_cons.mpr ⟨ow33_11_8, fun q h => by cases h⟩⟩⟩⟩⟩⟩⟩⟩⟩
theorem ow33_12_0 : PMk "AlgolHouse$Print" 15 41 2 := ⟨by decide, fun t m h => by
  rcases dsp_41 h with ⟨rfl, rfl⟩
  · exact ⟨mok_X12_part, ⟨by decide, by decide⟩, im_X12_part, Or.inr ⟨⟨"AlgolHouse$Print", "part", "(I)LAlgolHouse$Node;"⟩, "AlgolHouse$Node", by decide +kernel, lw_g (lw_at lw_m14 18 rfl) rfl, lw_g (lw_at lw_m14 19 rfl) rfl, Or.inl (lw_at lw_m10 110 rfl), ⟨by decide +kernel, by decide +kernel⟩, lw_g (lw_at lw_m14 20 rfl) rfl⟩⟩⟩
theorem ow33_12 : ∀ q ∈ ([(15, 41)] : List (Nat × Nat)), ∀ n, pN q.2 n → PMk "AlgolHouse$Print" q.1 q.2 n := List.forall_mem_cons.mpr ⟨(fun n hn => by cases hn; exact ow33_12_0), fun q h => by cases h⟩
theorem ow33_13 : ∀ q ∈ ([] : List (Nat × Nat)), Cond.methodLink "AlgolHouse$Print" q.1 Lib.objectInit ∈ lw_all := fun q h => by cases h
theorem ow33_14 : ∀ q ∈ ([] : List (Nat × Nat)), JMk "AlgolHouse$Print" q.1 q.2 := fun q h => by cases h
theorem ow33_15 : ∀ q ∈ ([] : List (Nat × Nat)), exT q.2 ∧ NLk "AlgolHouse$Print" q.1 q.2 := fun q h => by cases h
theorem ow33_16 : ∀ q ∈ ([] : List (Nat × Nat)), exT q.2 ∧ Cond.methodLink "AlgolHouse$Print" q.1 ⟨cN q.2, "<init>", "()V"⟩ ∈ lw_all := fun q h => by cases h
def Om33 : Om := [[(9, 243533842), (31, 1394952854), (35, 638128676), (45, 740443180), (56, 1109211764), (59, 293865490), (65, 126027276), (76, 436603930), (80, 1563055275), (86, 740443180), (88, 1571443881)], [(56, 1109211764), (62, 757220398), (65, 126027276)], [], [], [], [], [], [], [], [], [(3, 118034610)], [(21, 16261186), (25, 23407186), (41, 24193618), (48, 15474756), (52, 119869618), (70, 26488930), (87, 27013220), (92, 33304676), (96, 29634659)], [(15, 41)], [], [], [], []]
def Ok33 : List (Nat × Int) := []
def Ol33 : List (Nat × Int) := []
theorem ow33 {s0 : State} (hN : NCs s0) : OwnOK s0 "AlgolHouse$Print" Om33 Ok33 Ol33 := ⟨ow33_k, ow33_l, ow33_0, ow33_1, ow33_2, ow33_3, ow33_4, ow33_5, ow33_6, ow33_7, ow33_8 hN, ow33_9, ow33_10, ow33_11, ow33_12, ow33_13, ow33_14, ow33_15, ow33_16⟩
theorem ow34_k : ∀ q ∈ ([] : List (Nat × Int)), Cond.constant "AlgolHouse$Program" q.1 (Int32.ofInt q.2) ∈ lw_all := fun q h => by cases h
theorem ow34_l : ∀ q ∈ ([] : List (Nat × Int)), Cond.constantLong "AlgolHouse$Program" q.1 (Int64.ofInt q.2) ∈ lw_all := fun q h => by cases h
theorem ow34_0 : ∀ q ∈ ([(10, 1487359646), (38, 748831790), (48, 799163436)] : List (Nat × Nat)), q.2 ∈ iFs ∧ FLk "AlgolHouse$Program" q.1 q.2 := List.forall_mem_cons.mpr ⟨⟨List.mem_of_getElem? (i := 177) rfl, ⟨"AlgolHouse$Program", Or.inl (lw_g (lw_at lw_m14 115 rfl) rfl), Or.inl rfl⟩⟩, List.forall_mem_cons.mpr ⟨⟨List.mem_of_getElem? (i := 89) rfl, ⟨"AlgolHouse$Node", Or.inl (lw_g (lw_at lw_m5 135 rfl) rfl), Or.inl rfl⟩⟩, List.forall_mem_cons.mpr ⟨⟨List.mem_of_getElem? (i := 95) rfl, ⟨"AlgolHouse$Node", Or.inr ⟨_, lw_at lw_m5 203 rfl⟩, Or.inl rfl⟩⟩, fun q h => by cases h⟩⟩⟩
theorem ow34_1 : ∀ q ∈ ([(34, 790774828), (48, 799163436)] : List (Nat × Nat)), q.2 ∈ iFs ∧ PLk "AlgolHouse$Program" q.1 q.2 := List.forall_mem_cons.mpr ⟨⟨List.mem_of_getElem? (i := 94) rfl, ⟨"AlgolHouse$Node", Or.inr ⟨_, lw_at lw_m5 201 rfl⟩, Or.inl rfl⟩, rfl⟩, List.forall_mem_cons.mpr ⟨⟨List.mem_of_getElem? (i := 95) rfl, ⟨"AlgolHouse$Node", Or.inr ⟨_, lw_at lw_m5 203 rfl⟩, Or.inl rfl⟩, rfl⟩, fun q h => by cases h⟩⟩
theorem ow34_2 : ∀ q ∈ ([(10, 1487359646), (16, 1478971038)] : List (Nat × Nat)), q.2 ∈ iFs ∧ PFk "AlgolHouse$Program" q.1 q.2 := List.forall_mem_cons.mpr ⟨⟨List.mem_of_getElem? (i := 177) rfl, rfl, rfl, "AlgolHouse$Program", lw_g (lw_at lw_m14 115 rfl) rfl, Or.inl rfl⟩, List.forall_mem_cons.mpr ⟨⟨List.mem_of_getElem? (i := 176) rfl, rfl, rfl, "AlgolHouse$Program", lw_g (lw_at lw_m14 113 rfl) rfl, Or.inl rfl⟩, fun q h => by cases h⟩⟩
theorem ow34_3 : ∀ q ∈ ([] : List (Nat × Nat)), q.2 ∈ sFs ∧ FLk "AlgolHouse$Program" q.1 q.2 := fun q h => by cases h
theorem ow34_4 : ∀ q ∈ ([] : List (Nat × Nat)), TLk "AlgolHouse$Program" q.1 q.2 ∧ q.2 % 4 = 2 := fun q h => by cases h
theorem ow34_5 : ∀ q ∈ ([(7, 48)] : List (Nat × Nat)), mdT q.2 = true ∧ NLk "AlgolHouse$Program" q.1 q.2 := List.forall_mem_cons.mpr ⟨⟨rfl, lw_g (lw_at lw_m14 105 rfl) rfl, lw_g (lw_at lw_m1 187 rfl) rfl, lw_g (lw_at lw_m1 11 rfl) rfl⟩, fun q h => by cases h⟩
theorem ow34_6 : ∀ q ∈ ([] : List (Nat × Nat)), mdA q.2 = true ∧ ak q.2 = 2 ∧ ALk "AlgolHouse$Program" q.1 q.2 := fun q h => by cases h
theorem ow34_7_0 : XLk "AlgolHouse$Program" 32 4363 := (Or.inl ⟨"AlgolHouse$Node", lw_g (lw_at lw_m14 110 rfl) rfl, fun t h1 h2 => by
  rcases (by omega : t = 11 ∨ t = 12 ∨ t = 13 ∨ t = 14 ∨ t = 15 ∨ t = 16 ∨ t = 17 ∨ t = 18 ∨ t = 19 ∨ t = 20 ∨ t = 21 ∨ t = 22 ∨ t = 23 ∨ t = 24 ∨ t = 25 ∨ t = 26 ∨ t = 27 ∨ t = 28 ∨ t = 29 ∨ t = 30 ∨ t = 31 ∨ t = 32 ∨ t = 33 ∨ t = 34) with rfl | rfl | rfl | rfl | rfl | rfl | rfl | rfl | rfl | rfl | rfl | rfl | rfl | rfl | rfl | rfl | rfl | rfl | rfl | rfl | rfl | rfl | rfl | rfl
  · exact ⟨⟨by omega, by omega⟩, Or.inr (lw_at lw_m25 144 rfl)⟩
  · exact ⟨⟨by omega, by omega⟩, Or.inr (lw_at lw_m25 145 rfl)⟩
  · exact ⟨⟨by omega, by omega⟩, Or.inr (lw_at lw_m25 147 rfl)⟩
  · exact ⟨⟨by omega, by omega⟩, Or.inr (lw_at lw_m25 152 rfl)⟩
  · exact ⟨⟨by omega, by omega⟩, Or.inr (lw_at lw_m25 157 rfl)⟩
  · exact ⟨⟨by omega, by omega⟩, Or.inr (lw_at lw_m25 166 rfl)⟩
  · exact ⟨⟨by omega, by omega⟩, Or.inr (lw_at lw_m25 148 rfl)⟩
  · exact ⟨⟨by omega, by omega⟩, Or.inr (lw_at lw_m25 149 rfl)⟩
  · exact ⟨⟨by omega, by omega⟩, Or.inr (lw_at lw_m25 146 rfl)⟩
  · exact ⟨⟨by omega, by omega⟩, Or.inr (lw_at lw_m25 153 rfl)⟩
  · exact ⟨⟨by omega, by omega⟩, Or.inr (lw_at lw_m25 162 rfl)⟩
  · exact ⟨⟨by omega, by omega⟩, Or.inr (lw_at lw_m25 167 rfl)⟩
  · exact ⟨⟨by omega, by omega⟩, Or.inr (lw_at lw_m25 150 rfl)⟩
  · exact ⟨⟨by omega, by omega⟩, Or.inr (lw_at lw_m25 151 rfl)⟩
  · exact ⟨⟨by omega, by omega⟩, Or.inr (lw_at lw_m25 154 rfl)⟩
  · exact ⟨⟨by omega, by omega⟩, Or.inr (lw_at lw_m25 155 rfl)⟩
  · exact ⟨⟨by omega, by omega⟩, Or.inr (lw_at lw_m25 156 rfl)⟩
  · exact ⟨⟨by omega, by omega⟩, Or.inr (lw_at lw_m25 158 rfl)⟩
  · exact ⟨⟨by omega, by omega⟩, Or.inr (lw_at lw_m25 159 rfl)⟩
  · exact ⟨⟨by omega, by omega⟩, Or.inr (lw_at lw_m25 160 rfl)⟩
  · exact ⟨⟨by omega, by omega⟩, Or.inr (lw_at lw_m25 161 rfl)⟩
  · exact ⟨⟨by omega, by omega⟩, Or.inr (lw_at lw_m25 163 rfl)⟩
  · exact ⟨⟨by omega, by omega⟩, Or.inr (lw_at lw_m25 164 rfl)⟩
  · exact ⟨⟨by omega, by omega⟩, Or.inr (lw_at lw_m25 165 rfl)⟩⟩)
theorem ow34_7 : ∀ q ∈ ([(32, 4363)] : List (Nat × Nat)), XLk "AlgolHouse$Program" q.1 q.2 := List.forall_mem_cons.mpr ⟨ow34_7_0, fun q h => by cases h⟩
theorem ow34_8 {s0 : State} (hN : NCs s0) : ∀ q ∈ ([] : List (Nat × Nat)), YLk s0 "AlgolHouse$Program" q.1 q.2 := fun q h => by cases h
theorem ow34_9 : ∀ q ∈ ([] : List (Nat × Nat)), q.2 = ACN ∧ ACk "AlgolHouse$Program" q.1 ∨ q.2 ≠ ACN ∧ SMk "AlgolHouse$Program" q.1 q.2 := fun q h => by cases h
theorem ow34_10 : ∀ q ∈ ([(9, 164725505)] : List (Nat × Nat)), IMk "AlgolHouse$Program" q.1 q.2 ∧ ∀ t, inT (q.2 / 16 % 128) (q.2 / 2048 % 128) t → inT 1 55 t := List.forall_mem_cons.mpr ⟨⟨⟨mok_J6_init, np_J6_init, by decide, rfl, im_J6_init, ⟨_, _, rfl⟩, Or.inl (lw_g (lw_at lw_m14 106 rfl) rfl)⟩, fun t ht => ⟨Nat.le_trans (by decide) ht.1, Nat.le_trans ht.2 (by decide)⟩⟩, fun q h => by cases h⟩
theorem ow34_11_0 : VMk "AlgolHouse$Program" 20 165774082 := ⟨mok_J6_add, by decide, fun t ht => by
  obtain rfl : t = 48 := Nat.le_antisymm (Nat.le_trans ht.2 (by decide)) (Nat.le_trans (by decide) ht.1)
  exact ⟨⟨by decide, by decide⟩, im_J6_add, Or.inl ⟨np_J6_add, lw_g (lw_at lw_m6 44 rfl) rfl, Or.inl (lw_g (lw_at lw_m14 107 rfl) rfl)⟩⟩⟩
theorem ow34_11_1 : VMk "AlgolHouse$Program" 24 165249793 := ⟨mok_J6_size, by decide, fun t ht => by
  obtain rfl : t = 48 := Nat.le_antisymm (Nat.le_trans ht.2 (by decide)) (Nat.le_trans (by decide) ht.1)
  exact ⟨⟨by decide, by decide⟩, im_J6_size, Or.inl ⟨np_J6_size, lw_g (lw_at lw_m4 167 rfl) rfl, Or.inl (lw_g (lw_at lw_m14 108 rfl) rfl)⟩⟩⟩
theorem ow34_11_2 : VMk "AlgolHouse$Program" 28 168133378 := ⟨mok_J6_remove, by decide, fun t ht => by
  obtain rfl : t = 48 := Nat.le_antisymm (Nat.le_trans ht.2 (by decide)) (Nat.le_trans (by decide) ht.1)
  exact ⟨⟨by decide, by decide⟩, im_J6_remove, Or.inl ⟨np_J6_remove, lw_g (lw_at lw_m8 144 rfl) rfl, Or.inl (lw_g (lw_at lw_m14 109 rfl) rfl)⟩⟩⟩
theorem ow34_11_3 : VMk "AlgolHouse$Program" 41 118558898 := ⟨mok_X12_part, by decide, fun t ht => by
  rcases tg_11_34 (Nat.le_trans (by decide) ht.1) (Nat.le_trans ht.2 (by decide)) with rfl | rfl | rfl | rfl | rfl | rfl | rfl | rfl | rfl | rfl | rfl | rfl | rfl | rfl | rfl | rfl | rfl | rfl | rfl | rfl | rfl | rfl | rfl | rfl
  · exact ⟨⟨by decide, by decide⟩, im_X12_part, Or.inl ⟨np_X12_part, lw_g (lw_at lw_m25 119 rfl) rfl, Or.inl (lw_g (lw_at lw_m14 111 rfl) rfl)⟩⟩
  · exact ⟨⟨by decide, by decide⟩, im_X12_part, Or.inl ⟨np_X12_part, lw_g (lw_at lw_m25 120 rfl) rfl, Or.inl (lw_g (lw_at lw_m14 111 rfl) rfl)⟩⟩
  · exact ⟨⟨by decide, by decide⟩, im_X12_part, Or.inl ⟨np_X12_part, lw_g (lw_at lw_m25 122 rfl) rfl, Or.inl (lw_g (lw_at lw_m14 111 rfl) rfl)⟩⟩
  · exact ⟨⟨by decide, by decide⟩, im_X12_part, Or.inl ⟨np_X12_part, lw_g (lw_at lw_m25 127 rfl) rfl, Or.inl (lw_g (lw_at lw_m14 111 rfl) rfl)⟩⟩
  · exact ⟨⟨by decide, by decide⟩, im_X12_part, Or.inl ⟨np_X12_part, lw_g (lw_at lw_m25 132 rfl) rfl, Or.inl (lw_g (lw_at lw_m14 111 rfl) rfl)⟩⟩
  · exact ⟨⟨by decide, by decide⟩, im_X12_part, Or.inl ⟨np_X12_part, lw_g (lw_at lw_m25 141 rfl) rfl, Or.inl (lw_g (lw_at lw_m14 111 rfl) rfl)⟩⟩
  · exact ⟨⟨by decide, by decide⟩, im_X12_part, Or.inl ⟨np_X12_part, lw_g (lw_at lw_m25 123 rfl) rfl, Or.inl (lw_g (lw_at lw_m14 111 rfl) rfl)⟩⟩
  · exact ⟨⟨by decide, by decide⟩, im_X12_part, Or.inl ⟨np_X12_part, lw_g (lw_at lw_m25 124 rfl) rfl, Or.inl (lw_g (lw_at lw_m14 111 rfl) rfl)⟩⟩
  · exact ⟨⟨by decide, by decide⟩, im_X12_part, Or.inl ⟨np_X12_part, lw_g (lw_at lw_m25 121 rfl) rfl, Or.inl (lw_g (lw_at lw_m14 111 rfl) rfl)⟩⟩
  · exact ⟨⟨by decide, by decide⟩, im_X12_part, Or.inl ⟨np_X12_part, lw_g (lw_at lw_m25 128 rfl) rfl, Or.inl (lw_g (lw_at lw_m14 111 rfl) rfl)⟩⟩
  · exact ⟨⟨by decide, by decide⟩, im_X12_part, Or.inl ⟨np_X12_part, lw_g (lw_at lw_m25 137 rfl) rfl, Or.inl (lw_g (lw_at lw_m14 111 rfl) rfl)⟩⟩
  · exact ⟨⟨by decide, by decide⟩, im_X12_part, Or.inl ⟨np_X12_part, lw_g (lw_at lw_m25 142 rfl) rfl, Or.inl (lw_g (lw_at lw_m14 111 rfl) rfl)⟩⟩
  · exact ⟨⟨by decide, by decide⟩, im_X12_part, Or.inl ⟨np_X12_part, lw_g (lw_at lw_m25 125 rfl) rfl, Or.inl (lw_g (lw_at lw_m14 111 rfl) rfl)⟩⟩
  · exact ⟨⟨by decide, by decide⟩, im_X12_part, Or.inl ⟨np_X12_part, lw_g (lw_at lw_m25 126 rfl) rfl, Or.inl (lw_g (lw_at lw_m14 111 rfl) rfl)⟩⟩
  · exact ⟨⟨by decide, by decide⟩, im_X12_part, Or.inl ⟨np_X12_part, lw_g (lw_at lw_m25 129 rfl) rfl, Or.inl (lw_g (lw_at lw_m14 111 rfl) rfl)⟩⟩
  · exact ⟨⟨by decide, by decide⟩, im_X12_part, Or.inl ⟨np_X12_part, lw_g (lw_at lw_m25 130 rfl) rfl, Or.inl (lw_g (lw_at lw_m14 111 rfl) rfl)⟩⟩
  · exact ⟨⟨by decide, by decide⟩, im_X12_part, Or.inl ⟨np_X12_part, lw_g (lw_at lw_m25 131 rfl) rfl, Or.inl (lw_g (lw_at lw_m14 111 rfl) rfl)⟩⟩
  · exact ⟨⟨by decide, by decide⟩, im_X12_part, Or.inl ⟨np_X12_part, lw_g (lw_at lw_m25 133 rfl) rfl, Or.inl (lw_g (lw_at lw_m14 111 rfl) rfl)⟩⟩
  · exact ⟨⟨by decide, by decide⟩, im_X12_part, Or.inl ⟨np_X12_part, lw_g (lw_at lw_m25 134 rfl) rfl, Or.inl (lw_g (lw_at lw_m14 111 rfl) rfl)⟩⟩
  · exact ⟨⟨by decide, by decide⟩, im_X12_part, Or.inl ⟨np_X12_part, lw_g (lw_at lw_m25 135 rfl) rfl, Or.inl (lw_g (lw_at lw_m14 111 rfl) rfl)⟩⟩
  · exact ⟨⟨by decide, by decide⟩, im_X12_part, Or.inl ⟨np_X12_part, lw_g (lw_at lw_m25 136 rfl) rfl, Or.inl (lw_g (lw_at lw_m14 111 rfl) rfl)⟩⟩
  · exact ⟨⟨by decide, by decide⟩, im_X12_part, Or.inl ⟨np_X12_part, lw_g (lw_at lw_m25 138 rfl) rfl, Or.inl (lw_g (lw_at lw_m14 111 rfl) rfl)⟩⟩
  · exact ⟨⟨by decide, by decide⟩, im_X12_part, Or.inl ⟨np_X12_part, lw_g (lw_at lw_m25 139 rfl) rfl, Or.inl (lw_g (lw_at lw_m14 111 rfl) rfl)⟩⟩
  · exact ⟨⟨by decide, by decide⟩, im_X12_part, Or.inl ⟨np_X12_part, lw_g (lw_at lw_m25 140 rfl) rfl, Or.inl (lw_g (lw_at lw_m14 111 rfl) rfl)⟩⟩⟩
theorem ow34_11_4 : VMk "AlgolHouse$Program" 45 166822658 := ⟨mok_J6_get, by decide, fun t ht => by
  obtain rfl : t = 48 := Nat.le_antisymm (Nat.le_trans ht.2 (by decide)) (Nat.le_trans (by decide) ht.1)
  exact ⟨⟨by decide, by decide⟩, im_J6_get, Or.inl ⟨np_J6_get, lw_g (lw_at lw_m7 79 rfl) rfl, Or.inl (lw_g (lw_at lw_m14 112 rfl) rfl)⟩⟩⟩
theorem ow34_11 : ∀ q ∈ ([(20, 165774082), (24, 165249793), (28, 168133378), (41, 118558898), (45, 166822658)] : List (Nat × Nat)), VMk "AlgolHouse$Program" q.1 q.2 := List.forall_mem_cons.mpr ⟨ow34_11_0, List.forall_mem_cons.mpr ⟨ow34_11_1, List.forall_mem_cons.mpr ⟨ow34_11_2, List.forall_mem_cons.mpr ⟨ow34_11_3, List.forall_mem_cons.mpr ⟨ow34_11_4, fun q h => by cases h⟩⟩⟩⟩⟩
theorem ow34_12 : ∀ q ∈ ([] : List (Nat × Nat)), ∀ n, pN q.2 n → PMk "AlgolHouse$Program" q.1 q.2 n := fun q h => by cases h
theorem ow34_13 : ∀ q ∈ ([(1, 0)] : List (Nat × Nat)), Cond.methodLink "AlgolHouse$Program" q.1 Lib.objectInit ∈ lw_all := List.forall_mem_cons.mpr ⟨lw_g (lw_at lw_m14 104 rfl) rfl, fun q h => by cases h⟩
theorem ow34_14 : ∀ q ∈ ([] : List (Nat × Nat)), JMk "AlgolHouse$Program" q.1 q.2 := fun q h => by cases h
theorem ow34_15 : ∀ q ∈ ([] : List (Nat × Nat)), exT q.2 ∧ NLk "AlgolHouse$Program" q.1 q.2 := fun q h => by cases h
theorem ow34_16 : ∀ q ∈ ([] : List (Nat × Nat)), exT q.2 ∧ Cond.methodLink "AlgolHouse$Program" q.1 ⟨cN q.2, "<init>", "()V"⟩ ∈ lw_all := fun q h => by cases h
def Om34 : Om := [[(10, 1487359646), (38, 748831790), (48, 799163436)], [(34, 790774828), (48, 799163436)], [(10, 1487359646), (16, 1478971038)], [], [], [(7, 48)], [], [(32, 4363)], [], [], [(9, 164725505)], [(20, 165774082), (24, 165249793), (28, 168133378), (41, 118558898), (45, 166822658)], [], [(1, 0)], [], [], []]
def Ok34 : List (Nat × Int) := []
def Ol34 : List (Nat × Int) := []
theorem ow34 {s0 : State} (hN : NCs s0) : OwnOK s0 "AlgolHouse$Program" Om34 Ok34 Ol34 := ⟨ow34_k, ow34_l, ow34_0, ow34_1, ow34_2, ow34_3, ow34_4, ow34_5, ow34_6, ow34_7, ow34_8 hN, ow34_9, ow34_10, ow34_11, ow34_12, ow34_13, ow34_14, ow34_15, ow34_16⟩
theorem ow35_k : ∀ q ∈ ([] : List (Nat × Int)), Cond.constant "AlgolHouse$Range" q.1 (Int32.ofInt q.2) ∈ lw_all := fun q h => by cases h
theorem ow35_l : ∀ q ∈ ([] : List (Nat × Int)), Cond.constantLong "AlgolHouse$Range" q.1 (Int64.ofInt q.2) ∈ lw_all := fun q h => by cases h
theorem ow35_0 : ∀ q ∈ ([] : List (Nat × Nat)), q.2 ∈ iFs ∧ FLk "AlgolHouse$Range" q.1 q.2 := fun q h => by cases h
theorem ow35_1 : ∀ q ∈ ([] : List (Nat × Nat)), q.2 ∈ iFs ∧ PLk "AlgolHouse$Range" q.1 q.2 := fun q h => by cases h
theorem ow35_2 : ∀ q ∈ ([(11, 1520980130)] : List (Nat × Nat)), q.2 ∈ iFs ∧ PFk "AlgolHouse$Range" q.1 q.2 := List.forall_mem_cons.mpr ⟨⟨List.mem_of_getElem? (i := 181) rfl, rfl, rfl, "AlgolHouse$Range", lw_g (lw_at lw_m3 230 rfl) rfl, Or.inl rfl⟩, fun q h => by cases h⟩
theorem ow35_3 : ∀ q ∈ ([] : List (Nat × Nat)), q.2 ∈ sFs ∧ FLk "AlgolHouse$Range" q.1 q.2 := fun q h => by cases h
theorem ow35_4 : ∀ q ∈ ([] : List (Nat × Nat)), TLk "AlgolHouse$Range" q.1 q.2 ∧ q.2 % 4 = 2 := fun q h => by cases h
theorem ow35_5 : ∀ q ∈ ([] : List (Nat × Nat)), mdT q.2 = true ∧ NLk "AlgolHouse$Range" q.1 q.2 := fun q h => by cases h
theorem ow35_6 : ∀ q ∈ ([(9, 75)] : List (Nat × Nat)), mdA q.2 = true ∧ ak q.2 = 2 ∧ ALk "AlgolHouse$Range" q.1 q.2 := List.forall_mem_cons.mpr ⟨⟨rfl, rfl, "AlgolHouse$Value", rfl, lw_g (lw_at lw_m3 224 rfl) rfl, lw_at lw_m3 225 rfl⟩, fun q h => by cases h⟩
theorem ow35_7 : ∀ q ∈ ([] : List (Nat × Nat)), XLk "AlgolHouse$Range" q.1 q.2 := fun q h => by cases h
theorem ow35_8 {s0 : State} (hN : NCs s0) : ∀ q ∈ ([] : List (Nat × Nat)), YLk s0 "AlgolHouse$Range" q.1 q.2 := fun q h => by cases h
theorem ow35_9 : ∀ q ∈ ([] : List (Nat × Nat)), q.2 = ACN ∧ ACk "AlgolHouse$Range" q.1 ∨ q.2 ≠ ACN ∧ SMk "AlgolHouse$Range" q.1 q.2 := fun q h => by cases h
theorem ow35_10 : ∀ q ∈ ([] : List (Nat × Nat)), IMk "AlgolHouse$Range" q.1 q.2 ∧ ∀ t, inT (q.2 / 16 % 128) (q.2 / 2048 % 128) t → inT 1 55 t := fun q h => by cases h
theorem ow35_11 : ∀ q ∈ ([] : List (Nat × Nat)), VMk "AlgolHouse$Range" q.1 q.2 := fun q h => by cases h
theorem ow35_12 : ∀ q ∈ ([] : List (Nat × Nat)), ∀ n, pN q.2 n → PMk "AlgolHouse$Range" q.1 q.2 n := fun q h => by cases h
theorem ow35_13 : ∀ q ∈ ([(3, 0)] : List (Nat × Nat)), Cond.methodLink "AlgolHouse$Range" q.1 Lib.objectInit ∈ lw_all := List.forall_mem_cons.mpr ⟨lw_g (lw_at lw_m3 223 rfl) rfl, fun q h => by cases h⟩
theorem ow35_14 : ∀ q ∈ ([] : List (Nat × Nat)), JMk "AlgolHouse$Range" q.1 q.2 := fun q h => by cases h
theorem ow35_15 : ∀ q ∈ ([] : List (Nat × Nat)), exT q.2 ∧ NLk "AlgolHouse$Range" q.1 q.2 := fun q h => by cases h
theorem ow35_16 : ∀ q ∈ ([] : List (Nat × Nat)), exT q.2 ∧ Cond.methodLink "AlgolHouse$Range" q.1 ⟨cN q.2, "<init>", "()V"⟩ ∈ lw_all := fun q h => by cases h
def Om35 : Om := [[], [], [(11, 1520980130)], [], [], [], [(9, 75)], [], [], [], [], [], [], [(3, 0)], [], [], []]
def Ok35 : List (Nat × Int) := []
def Ol35 : List (Nat × Int) := []
theorem ow35 {s0 : State} (hN : NCs s0) : OwnOK s0 "AlgolHouse$Range" Om35 Ok35 Ol35 := ⟨ow35_k, ow35_l, ow35_0, ow35_1, ow35_2, ow35_3, ow35_4, ow35_5, ow35_6, ow35_7, ow35_8 hN, ow35_9, ow35_10, ow35_11, ow35_12, ow35_13, ow35_14, ow35_15, ow35_16⟩
theorem ow36_k : ∀ q ∈ ([] : List (Nat × Int)), Cond.constant "AlgolHouse$Routine" q.1 (Int32.ofInt q.2) ∈ lw_all := fun q h => by cases h
theorem ow36_l : ∀ q ∈ ([] : List (Nat × Int)), Cond.constantLong "AlgolHouse$Routine" q.1 (Int64.ofInt q.2) ∈ lw_all := fun q h => by cases h
theorem ow36_0 : ∀ q ∈ ([(12, 1117666426), (18, 1126055034), (21, 1134443642), (24, 1167998074), (27, 1537823398), (33, 1159609466), (38, 1142832250), (45, 757220398), (52, 646517286), (63, 260311058), (116, 1596609706), (120, 1512591520)] : List (Nat × Nat)), q.2 ∈ iFs ∧ FLk "AlgolHouse$Routine" q.1 q.2 := List.forall_mem_cons.mpr ⟨⟨List.mem_of_getElem? (i := 133) rfl, ⟨"AlgolHouse$Routine", Or.inl (lw_g (lw_at lw_m7 29 rfl) rfl), Or.inl rfl⟩⟩, List.forall_mem_cons.mpr ⟨⟨List.mem_of_getElem? (i := 134) rfl, ⟨"AlgolHouse$Routine", Or.inl (lw_g (lw_at lw_m7 32 rfl) rfl), Or.inl rfl⟩⟩, List.forall_mem_cons.mpr ⟨⟨List.mem_of_getElem? (i := 135) rfl, ⟨"AlgolHouse$Routine", Or.inl (lw_g (lw_at lw_m7 34 rfl) rfl), Or.inl rfl⟩⟩, List.forall_mem_cons.mpr ⟨⟨List.mem_of_getElem? (i := 139) rfl, ⟨"AlgolHouse$Routine", Or.inl (lw_g (lw_at lw_m7 43 rfl) rfl), Or.inl rfl⟩⟩, List.forall_mem_cons.mpr ⟨⟨List.mem_of_getElem? (i := 183) rfl, ⟨"AlgolHouse$Scope", Or.inr ⟨_, lw_at lw_m11 107 rfl⟩, Or.inl rfl⟩⟩, List.forall_mem_cons.mpr ⟨⟨List.mem_of_getElem? (i := 138) rfl, ⟨"AlgolHouse$Routine", Or.inl (lw_g (lw_at lw_m7 41 rfl) rfl), Or.inl rfl⟩⟩, List.forall_mem_cons.mpr ⟨⟨List.mem_of_getElem? (i := 136) rfl, ⟨"AlgolHouse$Routine", Or.inl (lw_g (lw_at lw_m7 36 rfl) rfl), Or.inl rfl⟩⟩, List.forall_mem_cons.mpr ⟨⟨List.mem_of_getElem? (i := 90) rfl, ⟨"AlgolHouse$Routine", Or.inl (lw_g (lw_at lw_m5 178 rfl) rfl), Or.inr (lw_g (lw_at lw_m5 179 rfl) rfl)⟩⟩, List.forall_mem_cons.mpr ⟨⟨List.mem_of_getElem? (i := 77) rfl, ⟨"AlgolHouse$Mode", Or.inr ⟨_, lw_at lw_m3 86 rfl⟩, Or.inl rfl⟩⟩, List.forall_mem_cons.mpr ⟨⟨List.mem_of_getElem? (i := 31) rfl, ⟨"AlgolHouse$Judge", Or.inr ⟨_, lw_at lw_m3 138 rfl⟩, Or.inl rfl⟩⟩, List.forall_mem_cons.mpr ⟨⟨List.mem_of_getElem? (i := 190) rfl, ⟨"AlgolHouse$Value", Or.inr ⟨_, lw_at lw_m16 156 rfl⟩, Or.inl rfl⟩⟩, List.forall_mem_cons.mpr ⟨⟨List.mem_of_getElem? (i := 180) rfl, ⟨"AlgolHouse$Range", Or.inr ⟨_, lw_at lw_m3 228 rfl⟩, Or.inl rfl⟩⟩, fun q h => by cases h⟩⟩⟩⟩⟩⟩⟩⟩⟩⟩⟩⟩
theorem ow36_1 : ∀ q ∈ ([(33, 1159609466), (45, 757220398), (63, 260311058), (72, 1151220858), (109, 1588221098), (116, 1596609706), (126, 1604998312)] : List (Nat × Nat)), q.2 ∈ iFs ∧ PLk "AlgolHouse$Routine" q.1 q.2 := List.forall_mem_cons.mpr ⟨⟨List.mem_of_getElem? (i := 138) rfl, ⟨"AlgolHouse$Routine", Or.inl (lw_g (lw_at lw_m7 41 rfl) rfl), Or.inl rfl⟩, rfl⟩, List.forall_mem_cons.mpr ⟨⟨List.mem_of_getElem? (i := 90) rfl, ⟨"AlgolHouse$Routine", Or.inl (lw_g (lw_at lw_m5 178 rfl) rfl), Or.inr (lw_g (lw_at lw_m5 179 rfl) rfl)⟩, rfl⟩, List.forall_mem_cons.mpr ⟨⟨List.mem_of_getElem? (i := 31) rfl, ⟨"AlgolHouse$Judge", Or.inr ⟨_, lw_at lw_m3 138 rfl⟩, Or.inl rfl⟩, rfl⟩, List.forall_mem_cons.mpr ⟨⟨List.mem_of_getElem? (i := 137) rfl, ⟨"AlgolHouse$Routine", Or.inl (lw_g (lw_at lw_m7 39 rfl) rfl), Or.inl rfl⟩, rfl⟩, List.forall_mem_cons.mpr ⟨⟨List.mem_of_getElem? (i := 189) rfl, ⟨"AlgolHouse$Value", Or.inr ⟨_, lw_at lw_m16 152 rfl⟩, Or.inl rfl⟩, rfl⟩, List.forall_mem_cons.mpr ⟨⟨List.mem_of_getElem? (i := 190) rfl, ⟨"AlgolHouse$Value", Or.inr ⟨_, lw_at lw_m16 156 rfl⟩, Or.inl rfl⟩, rfl⟩, List.forall_mem_cons.mpr ⟨⟨List.mem_of_getElem? (i := 191) rfl, ⟨"AlgolHouse$Value", Or.inr ⟨_, lw_at lw_m16 159 rfl⟩, Or.inl rfl⟩, rfl⟩, fun q h => by cases h⟩⟩⟩⟩⟩⟩⟩
theorem ow36_2 : ∀ q ∈ ([(12, 1117666426), (18, 1126055034), (21, 1134443642), (24, 1167998074)] : List (Nat × Nat)), q.2 ∈ iFs ∧ PFk "AlgolHouse$Routine" q.1 q.2 := List.forall_mem_cons.mpr ⟨⟨List.mem_of_getElem? (i := 133) rfl, rfl, rfl, "AlgolHouse$Routine", lw_g (lw_at lw_m7 29 rfl) rfl, Or.inl rfl⟩, List.forall_mem_cons.mpr ⟨⟨List.mem_of_getElem? (i := 134) rfl, rfl, rfl, "AlgolHouse$Routine", lw_g (lw_at lw_m7 32 rfl) rfl, Or.inl rfl⟩, List.forall_mem_cons.mpr ⟨⟨List.mem_of_getElem? (i := 135) rfl, rfl, rfl, "AlgolHouse$Routine", lw_g (lw_at lw_m7 34 rfl) rfl, Or.inl rfl⟩, List.forall_mem_cons.mpr ⟨⟨List.mem_of_getElem? (i := 139) rfl, rfl, rfl, "AlgolHouse$Routine", lw_g (lw_at lw_m7 43 rfl) rfl, Or.inl rfl⟩, fun q h => by cases h⟩⟩⟩⟩
theorem ow36_3 : ∀ q ∈ ([] : List (Nat × Nat)), q.2 ∈ sFs ∧ FLk "AlgolHouse$Routine" q.1 q.2 := fun q h => by cases h
theorem ow36_4 : ∀ q ∈ ([] : List (Nat × Nat)), TLk "AlgolHouse$Routine" q.1 q.2 ∧ q.2 % 4 = 2 := fun q h => by cases h
theorem ow36_5 : ∀ q ∈ ([(9, 48), (36, 9)] : List (Nat × Nat)), mdT q.2 = true ∧ NLk "AlgolHouse$Routine" q.1 q.2 := List.forall_mem_cons.mpr ⟨⟨rfl, lw_g (lw_at lw_m7 27 rfl) rfl, lw_g (lw_at lw_m1 187 rfl) rfl, lw_g (lw_at lw_m1 11 rfl) rfl⟩, List.forall_mem_cons.mpr ⟨⟨rfl, lw_g (lw_at lw_m11 85 rfl) rfl, lw_g (lw_at lw_m2 6 rfl) rfl, lw_g (lw_at lw_m1 13 rfl) rfl⟩, fun q h => by cases h⟩⟩
theorem ow36_6 : ∀ q ∈ ([] : List (Nat × Nat)), mdA q.2 = true ∧ ak q.2 = 2 ∧ ALk "AlgolHouse$Routine" q.1 q.2 := fun q h => by cases h
theorem ow36_7_0 : XLk "AlgolHouse$Routine" 36 1161 := (Or.inl ⟨"AlgolHouse$Mode", lw_g (lw_at lw_m11 85 rfl) rfl, fun t h1 h2 => by
  obtain rfl : t = 9 := by omega
  exact ⟨⟨by omega, by omega⟩, Or.inl rfl⟩⟩)
theorem ow36_7_1 : XLk "AlgolHouse$Routine" 76 6707 := (Or.inl ⟨"java/lang/Long", lw_g (lw_at lw_m11 122 rfl) rfl, fun t h1 h2 => by
  rcases (by omega : t = 51 ∨ t = 52) with rfl | rfl
  · exact ⟨⟨by omega, by omega⟩, Or.inl rfl⟩
  · exact ⟨⟨by omega, by omega⟩, Or.inl rfl⟩⟩)
theorem ow36_7_2 : XLk "AlgolHouse$Routine" 82 6449 := (Or.inl ⟨"java/lang/Integer", lw_g (lw_at lw_m11 124 rfl) rfl, fun t h1 h2 => by
  rcases (by omega : t = 49 ∨ t = 50) with rfl | rfl
  · exact ⟨⟨by omega, by omega⟩, Or.inl rfl⟩
  · exact ⟨⟨by omega, by omega⟩, Or.inl rfl⟩⟩)
theorem ow36_7 : ∀ q ∈ ([(36, 1161), (76, 6707), (82, 6449)] : List (Nat × Nat)), XLk "AlgolHouse$Routine" q.1 q.2 := List.forall_mem_cons.mpr ⟨ow36_7_0, List.forall_mem_cons.mpr ⟨ow36_7_1, List.forall_mem_cons.mpr ⟨ow36_7_2, fun q h => by cases h⟩⟩⟩
theorem ow36_8 {s0 : State} (hN : NCs s0) : ∀ q ∈ ([] : List (Nat × Nat)), YLk s0 "AlgolHouse$Routine" q.1 q.2 := fun q h => by cases h
theorem ow36_9 : ∀ q ∈ ([] : List (Nat × Nat)), q.2 = ACN ∧ ACk "AlgolHouse$Routine" q.1 ∨ q.2 ≠ ACN ∧ SMk "AlgolHouse$Routine" q.1 q.2 := fun q h => by cases h
theorem ow36_10 : ∀ q ∈ ([(3, 118034610), (11, 164987650), (42, 24660115)] : List (Nat × Nat)), IMk "AlgolHouse$Routine" q.1 q.2 ∧ ∀ t, inT (q.2 / 16 % 128) (q.2 / 2048 % 128) t → inT 1 55 t := List.forall_mem_cons.mpr ⟨⟨⟨mok_X12_init, np_X12_init, by decide, rfl, im_X12_init, ⟨_, _, rfl⟩, Or.inl (lw_g (lw_at lw_m7 26 rfl) rfl)⟩, fun t ht => ⟨Nat.le_trans (by decide) ht.1, Nat.le_trans ht.2 (by decide)⟩⟩, List.forall_mem_cons.mpr ⟨⟨⟨mok_J6_init_2, np_J6_init_2, by decide, rfl, im_J6_init_2, ⟨_, _, rfl⟩, Or.inl (lw_g (lw_at lw_m7 28 rfl) rfl)⟩, fun t ht => ⟨Nat.le_trans (by decide) ht.1, Nat.le_trans ht.2 (by decide)⟩⟩, List.forall_mem_cons.mpr ⟨⟨⟨mok_X6_init_2, np_X6_init_2, by decide, rfl, im_X6_init_2, ⟨_, _, rfl⟩, Or.inl (lw_g (lw_at lw_m11 86 rfl) rfl)⟩, fun t ht => ⟨Nat.le_trans (by decide) ht.1, Nat.le_trans ht.2 (by decide)⟩⟩, fun q h => by cases h⟩⟩⟩
theorem ow36_11_0 : VMk "AlgolHouse$Routine" 48 165249793 := ⟨mok_J6_size, by decide, fun t ht => by
  obtain rfl : t = 48 := Nat.le_antisymm (Nat.le_trans ht.2 (by decide)) (Nat.le_trans (by decide) ht.1)
  exact ⟨⟨by decide, by decide⟩, im_J6_size, Or.inl ⟨np_J6_size, lw_g (lw_at lw_m4 167 rfl) rfl, Or.inl (lw_g (lw_at lw_m11 87 rfl) rfl)⟩⟩⟩
theorem ow36_11_1 : VMk "AlgolHouse$Routine" 55 166822658 := ⟨mok_J6_get, by decide, fun t ht => by
  obtain rfl : t = 48 := Nat.le_antisymm (Nat.le_trans ht.2 (by decide)) (Nat.le_trans (by decide) ht.1)
  exact ⟨⟨by decide, by decide⟩, im_J6_get, Or.inl ⟨np_J6_get, lw_g (lw_at lw_m7 79 rfl) rfl, Or.inl (lw_g (lw_at lw_m11 88 rfl) rfl)⟩⟩⟩
theorem ow36_11_2 : VMk "AlgolHouse$Routine" 59 165774082 := ⟨mok_J6_add, by decide, fun t ht => by
  obtain rfl : t = 48 := Nat.le_antisymm (Nat.le_trans ht.2 (by decide)) (Nat.le_trans (by decide) ht.1)
  exact ⟨⟨by decide, by decide⟩, im_J6_add, Or.inl ⟨np_J6_add, lw_g (lw_at lw_m6 44 rfl) rfl, Or.inl (lw_g (lw_at lw_m11 89 rfl) rfl)⟩⟩⟩
theorem ow36_11_3 : VMk "AlgolHouse$Routine" 68 14950465 := ⟨mok_X3_begin, by decide, fun t ht => by
  obtain rfl : t = 4 := Nat.le_antisymm (Nat.le_trans ht.2 (by decide)) (Nat.le_trans (by decide) ht.1)
  exact ⟨⟨by decide, by decide⟩, im_X3_begin, Or.inl ⟨np_X3_begin, lw_g (lw_at lw_m11 92 rfl) rfl, Or.inl (lw_g (lw_at lw_m11 90 rfl) rfl)⟩⟩⟩
theorem ow36_11_4 : VMk "AlgolHouse$Routine" 78 171811633 := ⟨mok_J20_longValue, by decide, fun t ht => by
  rcases tg_51_52 (Nat.le_trans (by decide) ht.1) (Nat.le_trans ht.2 (by decide)) with rfl | rfl
  · exact ⟨⟨by decide, by decide⟩, im_J20_longValue, Or.inl ⟨np_J20_longValue, lw_g (lw_at lw_m7 199 rfl) rfl, Or.inl (lw_g (lw_at lw_m11 123 rfl) rfl)⟩⟩
  · exact ⟨⟨by decide, by decide⟩, im_J20_longValue, Or.inl ⟨np_J20_longValue, lw_g (lw_at lw_m7 199 rfl) rfl, Or.inl (lw_g (lw_at lw_m11 123 rfl) rfl)⟩⟩⟩
theorem ow36_11_5 : VMk "AlgolHouse$Routine" 84 170496785 := ⟨mok_J17_intValue, by decide, fun t ht => by
  rcases tg_49_50 (Nat.le_trans (by decide) ht.1) (Nat.le_trans ht.2 (by decide)) with rfl | rfl
  · exact ⟨⟨by decide, by decide⟩, im_J17_intValue, Or.inl ⟨np_J17_intValue, lw_g (lw_at lw_m7 192 rfl) rfl, Or.inl (lw_g (lw_at lw_m11 125 rfl) rfl)⟩⟩
  · exact ⟨⟨by decide, by decide⟩, im_J17_intValue, Or.inl ⟨np_J17_intValue, lw_g (lw_at lw_m7 192 rfl) rfl, Or.inl (lw_g (lw_at lw_m11 125 rfl) rfl)⟩⟩⟩
theorem ow36_11_6 : VMk "AlgolHouse$Routine" 87 15212613 := ⟨mok_X3_declare, by decide, fun t ht => by
  obtain rfl : t = 4 := Nat.le_antisymm (Nat.le_trans ht.2 (by decide)) (Nat.le_trans (by decide) ht.1)
  exact ⟨⟨by decide, by decide⟩, im_X3_declare, Or.inl ⟨np_X3_declare, lw_g (lw_at lw_m11 128 rfl) rfl, Or.inl (lw_g (lw_at lw_m11 126 rfl) rfl)⟩⟩⟩
theorem ow36_11_7 : VMk "AlgolHouse$Routine" 95 17047619 := ⟨mok_X3_strong, by decide, fun t ht => by
  obtain rfl : t = 4 := Nat.le_antisymm (Nat.le_trans ht.2 (by decide)) (Nat.le_trans (by decide) ht.1)
  exact ⟨⟨by decide, by decide⟩, im_X3_strong, Or.inl ⟨np_X3_strong, lw_g (lw_at lw_m12 134 rfl) rfl, Or.inl (lw_g (lw_at lw_m13 74 rfl) rfl)⟩⟩⟩
theorem ow36_11_8 : VMk "AlgolHouse$Routine" 99 17834049 := ⟨mok_X3_end, by decide, fun t ht => by
  obtain rfl : t = 4 := Nat.le_antisymm (Nat.le_trans ht.2 (by decide)) (Nat.le_trans (by decide) ht.1)
  exact ⟨⟨by decide, by decide⟩, im_X3_end, Or.inl ⟨np_X3_end, lw_g (lw_at lw_m13 77 rfl) rfl, Or.inl (lw_g (lw_at lw_m13 75 rfl) rfl)⟩⟩⟩
theorem ow36_11_9 : VMk "AlgolHouse$Routine" 103 31207521 := ⟨mok_X7_value, by decide, fun t ht => by
  obtain rfl : t = 6 := Nat.le_antisymm (Nat.le_trans ht.2 (by decide)) (Nat.le_trans (by decide) ht.1)
  exact ⟨⟨by decide, by decide⟩, im_X7_value, Or.inl ⟨np_X7_value, lw_g (lw_at lw_m16 118 rfl) rfl, Or.inl (lw_g (lw_at lw_m17 139 rfl) rfl)⟩⟩⟩
theorem ow36_11_10 : VMk "AlgolHouse$Routine" 112 33566818 := ⟨mok_X7_needed, by decide, fun t ht => by
  obtain rfl : t = 6 := Nat.le_antisymm (Nat.le_trans ht.2 (by decide)) (Nat.le_trans (by decide) ht.1)
  exact ⟨⟨by decide, by decide⟩, im_X7_needed, Or.inl ⟨np_X7_needed, lw_g (lw_at lw_m17 142 rfl) rfl, Or.inl (lw_g (lw_at lw_m17 140 rfl) rfl)⟩⟩⟩
theorem ow36_11_11 : VMk "AlgolHouse$Routine" 129 29634659 := ⟨mok_X7_done, by decide, fun t ht => by
  obtain rfl : t = 6 := Nat.le_antisymm (Nat.le_trans ht.2 (by decide)) (Nat.le_trans (by decide) ht.1)
  exact ⟨⟨by decide, by decide⟩, im_X7_done, Or.inl ⟨np_X7_done, lw_g (lw_at lw_m16 80 rfl) rfl, Or.inl (lw_g (lw_at lw_m17 145 rfl) rfl)⟩⟩⟩
theorem ow36_11 : ∀ q ∈ ([(48, 165249793), (55, 166822658), (59, 165774082), (68, 14950465), (78, 171811633), (84, 170496785), (87, 15212613), (95, 17047619), (99, 17834049), (103, 31207521), (112, 33566818), (129, 29634659)] : List (Nat × Nat)), VMk "AlgolHouse$Routine" q.1 q.2 := List.forall_mem_cons.mpr ⟨ow36_11_0, List.forall_mem_cons.mpr ⟨ow36_11_1, List.forall_mem_cons.mpr ⟨ow36_11_2, List.forall_mem_cons.mpr ⟨ow36_11_3, List.forall_mem_cons.mpr ⟨ow36_11_4, List.forall_mem_cons.mpr ⟨ow36_11_5, List.forall_mem_cons.mpr ⟨ow36_11_6, List.forall_mem_cons.mpr ⟨ow36_11_7, List.forall_mem_cons.mpr ⟨ow36_11_8, List.forall_mem_cons.mpr ⟨ow36_11_9, List.forall_mem_cons.mpr ⟨ow36_11_10, List.forall_mem_cons.mpr ⟨ow36_11_11, fun q h => by cases h⟩⟩⟩⟩⟩⟩⟩⟩⟩⟩⟩⟩
theorem ow36_12_0 : PMk "AlgolHouse$Routine" 91 9 2 := ⟨by decide, fun t m h => by
  rcases dsp_9 h with ⟨rfl, rfl⟩
  · exact ⟨mok_X12_part, ⟨by decide, by decide⟩, im_X12_part, Or.inr ⟨⟨"AlgolHouse$Routine", "part", "(I)LAlgolHouse$Node;"⟩, "AlgolHouse$Node", by decide +kernel, lw_g (lw_at lw_m13 71 rfl) rfl, lw_g (lw_at lw_m13 72 rfl) rfl, Or.inl (lw_at lw_m10 110 rfl), ⟨by decide +kernel, by decide +kernel⟩, lw_g (lw_at lw_m13 73 rfl) rfl⟩⟩⟩
theorem ow36_12 : ∀ q ∈ ([(91, 9)] : List (Nat × Nat)), ∀ n, pN q.2 n → PMk "AlgolHouse$Routine" q.1 q.2 n := List.forall_mem_cons.mpr ⟨(fun n hn => by cases hn; exact ow36_12_0), fun q h => by cases h⟩
theorem ow36_13 : ∀ q ∈ ([] : List (Nat × Nat)), Cond.methodLink "AlgolHouse$Routine" q.1 Lib.objectInit ∈ lw_all := fun q h => by cases h
theorem ow36_14 : ∀ q ∈ ([] : List (Nat × Nat)), JMk "AlgolHouse$Routine" q.1 q.2 := fun q h => by cases h
theorem ow36_15 : ∀ q ∈ ([] : List (Nat × Nat)), exT q.2 ∧ NLk "AlgolHouse$Routine" q.1 q.2 := fun q h => by cases h
theorem ow36_16 : ∀ q ∈ ([] : List (Nat × Nat)), exT q.2 ∧ Cond.methodLink "AlgolHouse$Routine" q.1 ⟨cN q.2, "<init>", "()V"⟩ ∈ lw_all := fun q h => by cases h
def Om36 : Om := [[(12, 1117666426), (18, 1126055034), (21, 1134443642), (24, 1167998074), (27, 1537823398), (33, 1159609466), (38, 1142832250), (45, 757220398), (52, 646517286), (63, 260311058), (116, 1596609706), (120, 1512591520)], [(33, 1159609466), (45, 757220398), (63, 260311058), (72, 1151220858), (109, 1588221098), (116, 1596609706), (126, 1604998312)], [(12, 1117666426), (18, 1126055034), (21, 1134443642), (24, 1167998074)], [], [], [(9, 48), (36, 9)], [], [(36, 1161), (76, 6707), (82, 6449)], [], [], [(3, 118034610), (11, 164987650), (42, 24660115)], [(48, 165249793), (55, 166822658), (59, 165774082), (68, 14950465), (78, 171811633), (84, 170496785), (87, 15212613), (95, 17047619), (99, 17834049), (103, 31207521), (112, 33566818), (129, 29634659)], [(91, 9)], [], [], [], []]
def Ok36 : List (Nat × Int) := []
def Ol36 : List (Nat × Int) := []
theorem ow36 {s0 : State} (hN : NCs s0) : OwnOK s0 "AlgolHouse$Routine" Om36 Ok36 Ol36 := ⟨ow36_k, ow36_l, ow36_0, ow36_1, ow36_2, ow36_3, ow36_4, ow36_5, ow36_6, ow36_7, ow36_8 hN, ow36_9, ow36_10, ow36_11, ow36_12, ow36_13, ow36_14, ow36_15, ow36_16⟩
theorem ow37_k : ∀ q ∈ ([] : List (Nat × Int)), Cond.constant "AlgolHouse$Scope" q.1 (Int32.ofInt q.2) ∈ lw_all := fun q h => by cases h
theorem ow37_l : ∀ q ∈ ([] : List (Nat × Int)), Cond.constantLong "AlgolHouse$Scope" q.1 (Int64.ofInt q.2) ∈ lw_all := fun q h => by cases h
theorem ow37_0 : ∀ q ∈ ([(12, 1546212006), (18, 1554600614), (39, 596119581)] : List (Nat × Nat)), q.2 ∈ iFs ∧ FLk "AlgolHouse$Scope" q.1 q.2 := List.forall_mem_cons.mpr ⟨⟨List.mem_of_getElem? (i := 184) rfl, ⟨"AlgolHouse$Scope", Or.inl (lw_g (lw_at lw_m11 108 rfl) rfl), Or.inl rfl⟩⟩, List.forall_mem_cons.mpr ⟨⟨List.mem_of_getElem? (i := 185) rfl, ⟨"AlgolHouse$Scope", Or.inl (lw_g (lw_at lw_m11 110 rfl) rfl), Or.inl rfl⟩⟩, List.forall_mem_cons.mpr ⟨⟨List.mem_of_getElem? (i := 71) rfl, ⟨"AlgolHouse$Meaning", Or.inl (lw_g (lw_at lw_m11 154 rfl) rfl), Or.inl rfl⟩⟩, fun q h => by cases h⟩⟩⟩
theorem ow37_1 : ∀ q ∈ ([] : List (Nat × Nat)), q.2 ∈ iFs ∧ PLk "AlgolHouse$Scope" q.1 q.2 := fun q h => by cases h
theorem ow37_2 : ∀ q ∈ ([(12, 1546212006), (18, 1554600614), (21, 1529434790), (25, 1537823398)] : List (Nat × Nat)), q.2 ∈ iFs ∧ PFk "AlgolHouse$Scope" q.1 q.2 := List.forall_mem_cons.mpr ⟨⟨List.mem_of_getElem? (i := 184) rfl, rfl, rfl, "AlgolHouse$Scope", lw_g (lw_at lw_m11 108 rfl) rfl, Or.inl rfl⟩, List.forall_mem_cons.mpr ⟨⟨List.mem_of_getElem? (i := 185) rfl, rfl, rfl, "AlgolHouse$Scope", lw_g (lw_at lw_m11 110 rfl) rfl, Or.inl rfl⟩, List.forall_mem_cons.mpr ⟨⟨List.mem_of_getElem? (i := 182) rfl, rfl, rfl, "AlgolHouse$Scope", lw_g (lw_at lw_m11 102 rfl) rfl, Or.inl rfl⟩, List.forall_mem_cons.mpr ⟨⟨List.mem_of_getElem? (i := 183) rfl, rfl, rfl, "AlgolHouse$Scope", lw_g (lw_at lw_m11 106 rfl) rfl, Or.inl rfl⟩, fun q h => by cases h⟩⟩⟩⟩
theorem ow37_3 : ∀ q ∈ ([] : List (Nat × Nat)), q.2 ∈ sFs ∧ FLk "AlgolHouse$Scope" q.1 q.2 := fun q h => by cases h
theorem ow37_4 : ∀ q ∈ ([] : List (Nat × Nat)), TLk "AlgolHouse$Scope" q.1 q.2 ∧ q.2 % 4 = 2 := fun q h => by cases h
theorem ow37_5 : ∀ q ∈ ([(7, 48)] : List (Nat × Nat)), mdT q.2 = true ∧ NLk "AlgolHouse$Scope" q.1 q.2 := List.forall_mem_cons.mpr ⟨⟨rfl, lw_g (lw_at lw_m11 100 rfl) rfl, lw_g (lw_at lw_m1 187 rfl) rfl, lw_g (lw_at lw_m1 11 rfl) rfl⟩, fun q h => by cases h⟩
theorem ow37_6 : ∀ q ∈ ([] : List (Nat × Nat)), mdA q.2 = true ∧ ak q.2 = 2 ∧ ALk "AlgolHouse$Scope" q.1 q.2 := fun q h => by cases h
theorem ow37_7_0 : XLk "AlgolHouse$Scope" 37 1031 := (Or.inl ⟨"AlgolHouse$Meaning", lw_g (lw_at lw_m11 136 rfl) rfl, fun t h1 h2 => by
  rcases (by omega : t = 7 ∨ t = 8) with rfl | rfl
  · exact ⟨⟨by omega, by omega⟩, Or.inl rfl⟩
  · exact ⟨⟨by omega, by omega⟩, Or.inr (lw_at lw_m25 168 rfl)⟩⟩)
theorem ow37_7 : ∀ q ∈ ([(37, 1031)] : List (Nat × Nat)), XLk "AlgolHouse$Scope" q.1 q.2 := List.forall_mem_cons.mpr ⟨ow37_7_0, fun q h => by cases h⟩
theorem ow37_8 {s0 : State} (hN : NCs s0) : ∀ q ∈ ([] : List (Nat × Nat)), YLk s0 "AlgolHouse$Scope" q.1 q.2 := fun q h => by cases h
theorem ow37_9 : ∀ q ∈ ([] : List (Nat × Nat)), q.2 = ACN ∧ ACk "AlgolHouse$Scope" q.1 ∨ q.2 ≠ ACN ∧ SMk "AlgolHouse$Scope" q.1 q.2 := fun q h => by cases h
theorem ow37_10 : ∀ q ∈ ([(9, 164987650)] : List (Nat × Nat)), IMk "AlgolHouse$Scope" q.1 q.2 ∧ ∀ t, inT (q.2 / 16 % 128) (q.2 / 2048 % 128) t → inT 1 55 t := List.forall_mem_cons.mpr ⟨⟨⟨mok_J6_init_2, np_J6_init_2, by decide, rfl, im_J6_init_2, ⟨_, _, rfl⟩, Or.inl (lw_g (lw_at lw_m11 101 rfl) rfl)⟩, fun t ht => ⟨Nat.le_trans (by decide) ht.1, Nat.le_trans ht.2 (by decide)⟩⟩, fun q h => by cases h⟩
theorem ow37_11_0 : VMk "AlgolHouse$Scope" 29 165249793 := ⟨mok_J6_size, by decide, fun t ht => by
  obtain rfl : t = 48 := Nat.le_antisymm (Nat.le_trans ht.2 (by decide)) (Nat.le_trans (by decide) ht.1)
  exact ⟨⟨by decide, by decide⟩, im_J6_size, Or.inl ⟨np_J6_size, lw_g (lw_at lw_m4 167 rfl) rfl, Or.inl (lw_g (lw_at lw_m11 134 rfl) rfl)⟩⟩⟩
theorem ow37_11_1 : VMk "AlgolHouse$Scope" 33 166822658 := ⟨mok_J6_get, by decide, fun t ht => by
  obtain rfl : t = 48 := Nat.le_antisymm (Nat.le_trans ht.2 (by decide)) (Nat.le_trans (by decide) ht.1)
  exact ⟨⟨by decide, by decide⟩, im_J6_get, Or.inl ⟨np_J6_get, lw_g (lw_at lw_m7 79 rfl) rfl, Or.inl (lw_g (lw_at lw_m11 135 rfl) rfl)⟩⟩⟩
theorem ow37_11 : ∀ q ∈ ([(29, 165249793), (33, 166822658)] : List (Nat × Nat)), VMk "AlgolHouse$Scope" q.1 q.2 := List.forall_mem_cons.mpr ⟨ow37_11_0, List.forall_mem_cons.mpr ⟨ow37_11_1, fun q h => by cases h⟩⟩
theorem ow37_12 : ∀ q ∈ ([] : List (Nat × Nat)), ∀ n, pN q.2 n → PMk "AlgolHouse$Scope" q.1 q.2 n := fun q h => by cases h
theorem ow37_13 : ∀ q ∈ ([(1, 0)] : List (Nat × Nat)), Cond.methodLink "AlgolHouse$Scope" q.1 Lib.objectInit ∈ lw_all := List.forall_mem_cons.mpr ⟨lw_g (lw_at lw_m11 99 rfl) rfl, fun q h => by cases h⟩
theorem ow37_14 : ∀ q ∈ ([] : List (Nat × Nat)), JMk "AlgolHouse$Scope" q.1 q.2 := fun q h => by cases h
theorem ow37_15 : ∀ q ∈ ([] : List (Nat × Nat)), exT q.2 ∧ NLk "AlgolHouse$Scope" q.1 q.2 := fun q h => by cases h
theorem ow37_16 : ∀ q ∈ ([] : List (Nat × Nat)), exT q.2 ∧ Cond.methodLink "AlgolHouse$Scope" q.1 ⟨cN q.2, "<init>", "()V"⟩ ∈ lw_all := fun q h => by cases h
def Om37 : Om := [[(12, 1546212006), (18, 1554600614), (39, 596119581)], [], [(12, 1546212006), (18, 1554600614), (21, 1529434790), (25, 1537823398)], [], [], [(7, 48)], [], [(37, 1031)], [], [], [(9, 164987650)], [(29, 165249793), (33, 166822658)], [], [(1, 0)], [], [], []]
def Ok37 : List (Nat × Int) := []
def Ol37 : List (Nat × Int) := []
theorem ow37 {s0 : State} (hN : NCs s0) : OwnOK s0 "AlgolHouse$Scope" Om37 Ok37 Ol37 := ⟨ow37_k, ow37_l, ow37_0, ow37_1, ow37_2, ow37_3, ow37_4, ow37_5, ow37_6, ow37_7, ow37_8 hN, ow37_9, ow37_10, ow37_11, ow37_12, ow37_13, ow37_14, ow37_15, ow37_16⟩
theorem ow38_k : ∀ q ∈ ([] : List (Nat × Int)), Cond.constant "AlgolHouse$Selection" q.1 (Int32.ofInt q.2) ∈ lw_all := fun q h => by cases h
theorem ow38_l : ∀ q ∈ ([] : List (Nat × Int)), Cond.constantLong "AlgolHouse$Selection" q.1 (Int64.ofInt q.2) ∈ lw_all := fun q h => by cases h
theorem ow38_0 : ∀ q ∈ ([(9, 1176452733), (25, 638128676), (31, 1184841343), (35, 671683110), (43, 654905894), (47, 1193229948), (50, 740443180), (57, 646517286), (73, 126027276), (84, 436603930), (105, 1563055275)] : List (Nat × Nat)), q.2 ∈ iFs ∧ FLk "AlgolHouse$Selection" q.1 q.2 := List.forall_mem_cons.mpr ⟨⟨List.mem_of_getElem? (i := 140) rfl, ⟨"AlgolHouse$Selection", Or.inl (lw_g (lw_at lw_m8 233 rfl) rfl), Or.inl rfl⟩⟩, List.forall_mem_cons.mpr ⟨⟨List.mem_of_getElem? (i := 76) rfl, ⟨"AlgolHouse$Mode", Or.inr ⟨_, lw_at lw_m3 73 rfl⟩, Or.inl rfl⟩⟩, List.forall_mem_cons.mpr ⟨⟨List.mem_of_getElem? (i := 141) rfl, ⟨"AlgolHouse$Selection", Or.inl (lw_g (lw_at lw_m8 234 rfl) rfl), Or.inl rfl⟩⟩, List.forall_mem_cons.mpr ⟨⟨List.mem_of_getElem? (i := 80) rfl, ⟨"AlgolHouse$Mode", Or.inr ⟨_, lw_at lw_m3 96 rfl⟩, Or.inl rfl⟩⟩, List.forall_mem_cons.mpr ⟨⟨List.mem_of_getElem? (i := 78) rfl, ⟨"AlgolHouse$Mode", Or.inr ⟨_, lw_at lw_m3 90 rfl⟩, Or.inl rfl⟩⟩, List.forall_mem_cons.mpr ⟨⟨List.mem_of_getElem? (i := 142) rfl, ⟨"AlgolHouse$Selection", Or.inl (lw_g (lw_at lw_m8 235 rfl) rfl), Or.inl rfl⟩⟩, List.forall_mem_cons.mpr ⟨⟨List.mem_of_getElem? (i := 88) rfl, ⟨"AlgolHouse$Selection", Or.inl (lw_g (lw_at lw_m5 101 rfl) rfl), Or.inr (lw_g (lw_at lw_m5 102 rfl) rfl)⟩⟩, List.forall_mem_cons.mpr ⟨⟨List.mem_of_getElem? (i := 77) rfl, ⟨"AlgolHouse$Mode", Or.inr ⟨_, lw_at lw_m3 83 rfl⟩, Or.inl rfl⟩⟩, List.forall_mem_cons.mpr ⟨⟨List.mem_of_getElem? (i := 15) rfl, ⟨"AlgolHouse$Frame", Or.inr ⟨_, lw_at lw_m15 152 rfl⟩, Or.inl rfl⟩⟩, List.forall_mem_cons.mpr ⟨⟨List.mem_of_getElem? (i := 52) rfl, ⟨"AlgolHouse$Machine", Or.inr ⟨_, lw_at lw_m4 19 rfl⟩, Or.inl rfl⟩⟩, List.forall_mem_cons.mpr ⟨⟨List.mem_of_getElem? (i := 186) rfl, ⟨"AlgolHouse$Value", Or.inr ⟨_, lw_at lw_m16 128 rfl⟩, Or.inl rfl⟩⟩, fun q h => by cases h⟩⟩⟩⟩⟩⟩⟩⟩⟩⟩⟩
theorem ow38_1 : ∀ q ∈ ([(31, 1184841343), (47, 1193229948), (70, 757220398), (73, 126027276)] : List (Nat × Nat)), q.2 ∈ iFs ∧ PLk "AlgolHouse$Selection" q.1 q.2 := List.forall_mem_cons.mpr ⟨⟨List.mem_of_getElem? (i := 141) rfl, ⟨"AlgolHouse$Selection", Or.inl (lw_g (lw_at lw_m8 234 rfl) rfl), Or.inl rfl⟩, rfl⟩, List.forall_mem_cons.mpr ⟨⟨List.mem_of_getElem? (i := 142) rfl, ⟨"AlgolHouse$Selection", Or.inl (lw_g (lw_at lw_m8 235 rfl) rfl), Or.inl rfl⟩, rfl⟩, List.forall_mem_cons.mpr ⟨⟨List.mem_of_getElem? (i := 90) rfl, ⟨"AlgolHouse$Selection", Or.inl (lw_g (lw_at lw_m5 176 rfl) rfl), Or.inr (lw_g (lw_at lw_m5 177 rfl) rfl)⟩, rfl⟩, List.forall_mem_cons.mpr ⟨⟨List.mem_of_getElem? (i := 15) rfl, ⟨"AlgolHouse$Frame", Or.inr ⟨_, lw_at lw_m15 152 rfl⟩, Or.inl rfl⟩, rfl⟩, fun q h => by cases h⟩⟩⟩⟩
theorem ow38_2 : ∀ q ∈ ([(9, 1176452733)] : List (Nat × Nat)), q.2 ∈ iFs ∧ PFk "AlgolHouse$Selection" q.1 q.2 := List.forall_mem_cons.mpr ⟨⟨List.mem_of_getElem? (i := 140) rfl, rfl, rfl, "AlgolHouse$Selection", lw_g (lw_at lw_m8 233 rfl) rfl, Or.inl rfl⟩, fun q h => by cases h⟩
theorem ow38_3 : ∀ q ∈ ([] : List (Nat × Nat)), q.2 ∈ sFs ∧ FLk "AlgolHouse$Selection" q.1 q.2 := fun q h => by cases h
theorem ow38_4 : ∀ q ∈ ([] : List (Nat × Nat)), TLk "AlgolHouse$Selection" q.1 q.2 ∧ q.2 % 4 = 2 := fun q h => by cases h
theorem ow38_5 : ∀ q ∈ ([(26, 9)] : List (Nat × Nat)), mdT q.2 = true ∧ NLk "AlgolHouse$Selection" q.1 q.2 := List.forall_mem_cons.mpr ⟨⟨rfl, lw_g (lw_at lw_m14 36 rfl) rfl, lw_g (lw_at lw_m2 6 rfl) rfl, lw_g (lw_at lw_m1 13 rfl) rfl⟩, fun q h => by cases h⟩
theorem ow38_6 : ∀ q ∈ ([] : List (Nat × Nat)), mdA q.2 = true ∧ ak q.2 = 2 ∧ ALk "AlgolHouse$Selection" q.1 q.2 := fun q h => by cases h
theorem ow38_7_0 : XLk "AlgolHouse$Selection" 26 1161 := (Or.inl ⟨"AlgolHouse$Mode", lw_g (lw_at lw_m14 36 rfl) rfl, fun t h1 h2 => by
  obtain rfl : t = 9 := by omega
  exact ⟨⟨by omega, by omega⟩, Or.inl rfl⟩⟩)
theorem ow38_7 : ∀ q ∈ ([(26, 1161)] : List (Nat × Nat)), XLk "AlgolHouse$Selection" q.1 q.2 := List.forall_mem_cons.mpr ⟨ow38_7_0, fun q h => by cases h⟩
theorem ow38_8 {s0 : State} (hN : NCs s0) : ∀ q ∈ ([] : List (Nat × Nat)), YLk s0 "AlgolHouse$Selection" q.1 q.2 := fun q h => by cases h
theorem ow38_9 : ∀ q ∈ ([] : List (Nat × Nat)), q.2 = ACN ∧ ACk "AlgolHouse$Selection" q.1 ∨ q.2 ≠ ACN ∧ SMk "AlgolHouse$Selection" q.1 q.2 := fun q h => by cases h
theorem ow38_10 : ∀ q ∈ ([(3, 118034610), (67, 24660115)] : List (Nat × Nat)), IMk "AlgolHouse$Selection" q.1 q.2 ∧ ∀ t, inT (q.2 / 16 % 128) (q.2 / 2048 % 128) t → inT 1 55 t := List.forall_mem_cons.mpr ⟨⟨⟨mok_X12_init, np_X12_init, by decide, rfl, im_X12_init, ⟨_, _, rfl⟩, Or.inl (lw_g (lw_at lw_m8 232 rfl) rfl)⟩, fun t ht => ⟨Nat.le_trans (by decide) ht.1, Nat.le_trans ht.2 (by decide)⟩⟩, List.forall_mem_cons.mpr ⟨⟨⟨mok_X6_init_2, np_X6_init_2, by decide, rfl, im_X6_init_2, ⟨_, _, rfl⟩, Or.inl (lw_g (lw_at lw_m14 38 rfl) rfl)⟩, fun t ht => ⟨Nat.le_trans (by decide) ht.1, Nat.le_trans ht.2 (by decide)⟩⟩, fun q h => by cases h⟩⟩
theorem ow38_11_0 : VMk "AlgolHouse$Selection" 19 17309764 := ⟨mok_X3_come, by decide, fun t ht => by
  obtain rfl : t = 4 := Nat.le_antisymm (Nat.le_trans ht.2 (by decide)) (Nat.le_trans (by decide) ht.1)
  exact ⟨⟨by decide, by decide⟩, im_X3_come, Or.inl ⟨np_X3_come, lw_g (lw_at lw_m13 1 rfl) rfl, Or.inl (lw_g (lw_at lw_m14 33 rfl) rfl)⟩⟩⟩
theorem ow38_11_1 : VMk "AlgolHouse$Selection" 39 24922257 := ⟨mok_X6_real, by decide, fun t ht => by
  obtain rfl : t = 9 := Nat.le_antisymm (Nat.le_trans ht.2 (by decide)) (Nat.le_trans (by decide) ht.1)
  exact ⟨⟨by decide, by decide⟩, im_X6_real, Or.inl ⟨np_X6_real, lw_g (lw_at lw_m11 4 rfl) rfl, Or.inl (lw_g (lw_at lw_m14 34 rfl) rfl)⟩⟩⟩
theorem ow38_11_2 : VMk "AlgolHouse$Selection" 53 15474756 := ⟨mok_X3_need, by decide, fun t ht => by
  obtain rfl : t = 4 := Nat.le_antisymm (Nat.le_trans ht.2 (by decide)) (Nat.le_trans (by decide) ht.1)
  exact ⟨⟨by decide, by decide⟩, im_X3_need, Or.inl ⟨np_X3_need, lw_g (lw_at lw_m11 139 rfl) rfl, Or.inl (lw_g (lw_at lw_m14 35 rfl) rfl)⟩⟩⟩
theorem ow38_11_3 : VMk "AlgolHouse$Selection" 61 166822658 := ⟨mok_J6_get, by decide, fun t ht => by
  obtain rfl : t = 48 := Nat.le_antisymm (Nat.le_trans ht.2 (by decide)) (Nat.le_trans (by decide) ht.1)
  exact ⟨⟨by decide, by decide⟩, im_J6_get, Or.inl ⟨np_J6_get, lw_g (lw_at lw_m7 79 rfl) rfl, Or.inl (lw_g (lw_at lw_m14 37 rfl) rfl)⟩⟩⟩
theorem ow38_11_4 : VMk "AlgolHouse$Selection" 78 26488930 := ⟨mok_X7_push, by decide, fun t ht => by
  obtain rfl : t = 6 := Nat.le_antisymm (Nat.le_trans ht.2 (by decide)) (Nat.le_trans (by decide) ht.1)
  exact ⟨⟨by decide, by decide⟩, im_X7_push, Or.inl ⟨np_X7_push, lw_g (lw_at lw_m15 124 rfl) rfl, Or.inl (lw_g (lw_at lw_m17 149 rfl) rfl)⟩⟩⟩
theorem ow38_11_5 : VMk "AlgolHouse$Selection" 88 27799651 := ⟨mok_X7_followed, by decide, fun t ht => by
  obtain rfl : t = 6 := Nat.le_antisymm (Nat.le_trans ht.2 (by decide)) (Nat.le_trans (by decide) ht.1)
  exact ⟨⟨by decide, by decide⟩, im_X7_followed, Or.inl ⟨np_X7_followed, lw_g (lw_at lw_m16 4 rfl) rfl, Or.inl (lw_g (lw_at lw_m17 150 rfl) rfl)⟩⟩⟩
theorem ow38_11_6 : VMk "AlgolHouse$Selection" 92 162869858 := ⟨mok_X45_part, by decide, fun t ht => by
  obtain rfl : t = 38 := Nat.le_antisymm (Nat.le_trans ht.2 (by decide)) (Nat.le_trans (by decide) ht.1)
  exact ⟨⟨by decide, by decide⟩, im_X45_part, Or.inl ⟨np_X45_part, lw_g (lw_at lw_m17 153 rfl) rfl, Or.inl (lw_g (lw_at lw_m17 151 rfl) rfl)⟩⟩⟩
theorem ow38_11_7 : VMk "AlgolHouse$Selection" 97 33042530 := ⟨mok_X7_name, by decide, fun t ht => by
  obtain rfl : t = 6 := Nat.le_antisymm (Nat.le_trans ht.2 (by decide)) (Nat.le_trans (by decide) ht.1)
  exact ⟨⟨by decide, by decide⟩, im_X7_name, Or.inl ⟨np_X7_name, lw_g (lw_at lw_m17 70 rfl) rfl, Or.inl (lw_g (lw_at lw_m17 155 rfl) rfl)⟩⟩⟩
theorem ow38_11_8 : VMk "AlgolHouse$Selection" 101 29634659 := ⟨mok_X7_done, by decide, fun t ht => by
  obtain rfl : t = 6 := Nat.le_antisymm (Nat.le_trans ht.2 (by decide)) (Nat.le_trans (by decide) ht.1)
  exact ⟨⟨by decide, by decide⟩, im_X7_done, Or.inl ⟨np_X7_done, lw_g (lw_at lw_m16 80 rfl) rfl, Or.inl (lw_g (lw_at lw_m17 156 rfl) rfl)⟩⟩⟩
theorem ow38_11_9 : VMk "AlgolHouse$Selection" 110 27013220 := ⟨mok_X7_need, by decide, fun t ht => by
  obtain rfl : t = 6 := Nat.le_antisymm (Nat.le_trans ht.2 (by decide)) (Nat.le_trans (by decide) ht.1)
  exact ⟨⟨by decide, by decide⟩, im_X7_need, Or.inl ⟨np_X7_need, lw_g (lw_at lw_m15 132 rfl) rfl, Or.inl (lw_g (lw_at lw_m17 157 rfl) rfl)⟩⟩⟩
theorem ow38_11_10 : VMk "AlgolHouse$Selection" 111 163926690 := ⟨mok_X46_part, by decide, fun t ht => by
  obtain rfl : t = 42 := Nat.le_antisymm (Nat.le_trans ht.2 (by decide)) (Nat.le_trans (by decide) ht.1)
  exact ⟨⟨by decide, by decide⟩, im_X46_part, Or.inl ⟨np_X46_part, lw_g (lw_at lw_m17 160 rfl) rfl, Or.inl (lw_g (lw_at lw_m17 158 rfl) rfl)⟩⟩⟩
theorem ow38_11 : ∀ q ∈ ([(19, 17309764), (39, 24922257), (53, 15474756), (61, 166822658), (78, 26488930), (88, 27799651), (92, 162869858), (97, 33042530), (101, 29634659), (110, 27013220), (111, 163926690)] : List (Nat × Nat)), VMk "AlgolHouse$Selection" q.1 q.2 := List.forall_mem_cons.mpr ⟨ow38_11_0, List.forall_mem_cons.mpr ⟨ow38_11_1, List.forall_mem_cons.mpr ⟨ow38_11_2, List.forall_mem_cons.mpr ⟨ow38_11_3, List.forall_mem_cons.mpr ⟨ow38_11_4, List.forall_mem_cons.mpr ⟨ow38_11_5, List.forall_mem_cons.mpr ⟨ow38_11_6, List.forall_mem_cons.mpr ⟨ow38_11_7, List.forall_mem_cons.mpr ⟨ow38_11_8, List.forall_mem_cons.mpr ⟨ow38_11_9, List.forall_mem_cons.mpr ⟨ow38_11_10, fun q h => by cases h⟩⟩⟩⟩⟩⟩⟩⟩⟩⟩⟩
theorem ow38_12_0 : PMk "AlgolHouse$Selection" 15 36 2 := ⟨by decide, fun t m h => by
  rcases dsp_36 h with ⟨rfl, rfl⟩
  · exact ⟨mok_X12_part, ⟨by decide, by decide⟩, im_X12_part, Or.inr ⟨⟨"AlgolHouse$Selection", "part", "(I)LAlgolHouse$Node;"⟩, "AlgolHouse$Node", by decide +kernel, lw_g (lw_at lw_m14 30 rfl) rfl, lw_g (lw_at lw_m14 31 rfl) rfl, Or.inl (lw_at lw_m10 110 rfl), ⟨by decide +kernel, by decide +kernel⟩, lw_g (lw_at lw_m14 32 rfl) rfl⟩⟩⟩
theorem ow38_12 : ∀ q ∈ ([(15, 36)] : List (Nat × Nat)), ∀ n, pN q.2 n → PMk "AlgolHouse$Selection" q.1 q.2 n := List.forall_mem_cons.mpr ⟨(fun n hn => by cases hn; exact ow38_12_0), fun q h => by cases h⟩
theorem ow38_13 : ∀ q ∈ ([] : List (Nat × Nat)), Cond.methodLink "AlgolHouse$Selection" q.1 Lib.objectInit ∈ lw_all := fun q h => by cases h
theorem ow38_14 : ∀ q ∈ ([] : List (Nat × Nat)), JMk "AlgolHouse$Selection" q.1 q.2 := fun q h => by cases h
theorem ow38_15 : ∀ q ∈ ([] : List (Nat × Nat)), exT q.2 ∧ NLk "AlgolHouse$Selection" q.1 q.2 := fun q h => by cases h
theorem ow38_16 : ∀ q ∈ ([] : List (Nat × Nat)), exT q.2 ∧ Cond.methodLink "AlgolHouse$Selection" q.1 ⟨cN q.2, "<init>", "()V"⟩ ∈ lw_all := fun q h => by cases h
def Om38 : Om := [[(9, 1176452733), (25, 638128676), (31, 1184841343), (35, 671683110), (43, 654905894), (47, 1193229948), (50, 740443180), (57, 646517286), (73, 126027276), (84, 436603930), (105, 1563055275)], [(31, 1184841343), (47, 1193229948), (70, 757220398), (73, 126027276)], [(9, 1176452733)], [], [], [(26, 9)], [], [(26, 1161)], [], [], [(3, 118034610), (67, 24660115)], [(19, 17309764), (39, 24922257), (53, 15474756), (61, 166822658), (78, 26488930), (88, 27799651), (92, 162869858), (97, 33042530), (101, 29634659), (110, 27013220), (111, 163926690)], [(15, 36)], [], [], [], []]
def Ok38 : List (Nat × Int) := []
def Ol38 : List (Nat × Int) := []
theorem ow38 {s0 : State} (hN : NCs s0) : OwnOK s0 "AlgolHouse$Selection" Om38 Ok38 Ol38 := ⟨ow38_k, ow38_l, ow38_0, ow38_1, ow38_2, ow38_3, ow38_4, ow38_5, ow38_6, ow38_7, ow38_8 hN, ow38_9, ow38_10, ow38_11, ow38_12, ow38_13, ow38_14, ow38_15, ow38_16⟩
theorem ow39_k : ∀ q ∈ ([] : List (Nat × Int)), Cond.constant "AlgolHouse$Serial" q.1 (Int32.ofInt q.2) ∈ lw_all := fun q h => by cases h
theorem ow39_l : ∀ q ∈ ([] : List (Nat × Int)), Cond.constantLong "AlgolHouse$Serial" q.1 (Int64.ofInt q.2) ∈ lw_all := fun q h => by cases h
theorem ow39_0 : ∀ q ∈ ([(7, 748831790), (29, 949299798), (39, 293865490), (51, 126027276), (57, 444992538), (71, 436603930), (75, 740443180)] : List (Nat × Nat)), q.2 ∈ iFs ∧ FLk "AlgolHouse$Serial" q.1 q.2 := List.forall_mem_cons.mpr ⟨⟨List.mem_of_getElem? (i := 89) rfl, ⟨"AlgolHouse$Serial", Or.inl (lw_g (lw_at lw_m5 151 rfl) rfl), Or.inr (lw_g (lw_at lw_m5 152 rfl) rfl)⟩⟩, List.forall_mem_cons.mpr ⟨⟨List.mem_of_getElem? (i := 113) rfl, ⟨"AlgolHouse$Serial", Or.inl (lw_g (lw_at lw_m5 92 rfl) rfl), Or.inl rfl⟩⟩, List.forall_mem_cons.mpr ⟨⟨List.mem_of_getElem? (i := 35) rfl, ⟨"AlgolHouse$Judge", Or.inr ⟨_, lw_at lw_m3 154 rfl⟩, Or.inl rfl⟩⟩, List.forall_mem_cons.mpr ⟨⟨List.mem_of_getElem? (i := 15) rfl, ⟨"AlgolHouse$Frame", Or.inr ⟨_, lw_at lw_m15 159 rfl⟩, Or.inl rfl⟩⟩, List.forall_mem_cons.mpr ⟨⟨List.mem_of_getElem? (i := 53) rfl, ⟨"AlgolHouse$Machine", Or.inr ⟨_, lw_at lw_m4 32 rfl⟩, Or.inl rfl⟩⟩, List.forall_mem_cons.mpr ⟨⟨List.mem_of_getElem? (i := 52) rfl, ⟨"AlgolHouse$Machine", Or.inr ⟨_, lw_at lw_m4 26 rfl⟩, Or.inl rfl⟩⟩, List.forall_mem_cons.mpr ⟨⟨List.mem_of_getElem? (i := 88) rfl, ⟨"AlgolHouse$Serial", Or.inl (lw_g (lw_at lw_m5 128 rfl) rfl), Or.inr (lw_g (lw_at lw_m5 129 rfl) rfl)⟩⟩, fun q h => by cases h⟩⟩⟩⟩⟩⟩⟩
theorem ow39_1 : ∀ q ∈ ([(29, 949299798), (51, 126027276)] : List (Nat × Nat)), q.2 ∈ iFs ∧ PLk "AlgolHouse$Serial" q.1 q.2 := List.forall_mem_cons.mpr ⟨⟨List.mem_of_getElem? (i := 113) rfl, ⟨"AlgolHouse$Serial", Or.inl (lw_g (lw_at lw_m5 92 rfl) rfl), Or.inl rfl⟩, rfl⟩, List.forall_mem_cons.mpr ⟨⟨List.mem_of_getElem? (i := 15) rfl, ⟨"AlgolHouse$Frame", Or.inr ⟨_, lw_at lw_m15 159 rfl⟩, Or.inl rfl⟩, rfl⟩, fun q h => by cases h⟩⟩
theorem ow39_2 : ∀ q ∈ ([] : List (Nat × Nat)), q.2 ∈ iFs ∧ PFk "AlgolHouse$Serial" q.1 q.2 := fun q h => by cases h
theorem ow39_3 : ∀ q ∈ ([] : List (Nat × Nat)), q.2 ∈ sFs ∧ FLk "AlgolHouse$Serial" q.1 q.2 := fun q h => by cases h
theorem ow39_4 : ∀ q ∈ ([] : List (Nat × Nat)), TLk "AlgolHouse$Serial" q.1 q.2 ∧ q.2 % 4 = 2 := fun q h => by cases h
theorem ow39_5 : ∀ q ∈ ([] : List (Nat × Nat)), mdT q.2 = true ∧ NLk "AlgolHouse$Serial" q.1 q.2 := fun q h => by cases h
theorem ow39_6 : ∀ q ∈ ([] : List (Nat × Nat)), mdA q.2 = true ∧ ak q.2 = 2 ∧ ALk "AlgolHouse$Serial" q.1 q.2 := fun q h => by cases h
theorem ow39_7_0 : XLk "AlgolHouse$Serial" 33 2062 := (Or.inl ⟨"AlgolHouse$Declaration", lw_g (lw_at lw_m11 191 rfl) rfl, fun t h1 h2 => by
  rcases (by omega : t = 14 ∨ t = 15 ∨ t = 16) with rfl | rfl | rfl
  · exact ⟨⟨by omega, by omega⟩, Or.inr (lw_at lw_m25 169 rfl)⟩
  · exact ⟨⟨by omega, by omega⟩, Or.inr (lw_at lw_m25 170 rfl)⟩
  · exact ⟨⟨by omega, by omega⟩, Or.inr (lw_at lw_m25 171 rfl)⟩⟩)
theorem ow39_7 : ∀ q ∈ ([(33, 2062)] : List (Nat × Nat)), XLk "AlgolHouse$Serial" q.1 q.2 := List.forall_mem_cons.mpr ⟨ow39_7_0, fun q h => by cases h⟩
theorem ow39_8_0 {s0 : State} (hN : NCs s0) : YLk s0 "AlgolHouse$Serial" 33 71485454 := ⟨"AlgolHouse$Declaration", lw_g (lw_at lw_m11 191 rfl) rfl, fun t h1 h2 => by
  rcases (by omega : t = 11 ∨ t = 12 ∨ t = 13 ∨ t = 14 ∨ t = 15 ∨ t = 16 ∨ t = 17 ∨ t = 18 ∨ t = 19 ∨ t = 20 ∨ t = 21 ∨ t = 22 ∨ t = 23 ∨ t = 24 ∨ t = 25 ∨ t = 26 ∨ t = 27 ∨ t = 28 ∨ t = 29 ∨ t = 30 ∨ t = 31 ∨ t = 32 ∨ t = 33 ∨ t = 34) with rfl | rfl | rfl | rfl | rfl | rfl | rfl | rfl | rfl | rfl | rfl | rfl | rfl | rfl | rfl | rfl | rfl | rfl | rfl | rfl | rfl | rfl | rfl | rfl
  · exact ⟨⟨by omega, by omega⟩, fun z => absurd z (by omega), fun _ => hN _ (List.mem_of_getElem? (i := 115) rfl)⟩
  · exact ⟨⟨by omega, by omega⟩, fun z => absurd z (by omega), fun _ => hN _ (List.mem_of_getElem? (i := 116) rfl)⟩
  · exact ⟨⟨by omega, by omega⟩, fun z => absurd z (by omega), fun _ => hN _ (List.mem_of_getElem? (i := 117) rfl)⟩
  · exact ⟨⟨by omega, by omega⟩, fun _ => Or.inr (lw_at lw_m25 169 rfl), fun z => absurd (by omega) z⟩
  · exact ⟨⟨by omega, by omega⟩, fun _ => Or.inr (lw_at lw_m25 170 rfl), fun z => absurd (by omega) z⟩
  · exact ⟨⟨by omega, by omega⟩, fun _ => Or.inr (lw_at lw_m25 171 rfl), fun z => absurd (by omega) z⟩
  · exact ⟨⟨by omega, by omega⟩, fun z => absurd z (by omega), fun _ => hN _ (List.mem_of_getElem? (i := 118) rfl)⟩
  · exact ⟨⟨by omega, by omega⟩, fun z => absurd z (by omega), fun _ => hN _ (List.mem_of_getElem? (i := 119) rfl)⟩
  · exact ⟨⟨by omega, by omega⟩, fun z => absurd z (by omega), fun _ => hN _ (List.mem_of_getElem? (i := 120) rfl)⟩
  · exact ⟨⟨by omega, by omega⟩, fun z => absurd z (by omega), fun _ => hN _ (List.mem_of_getElem? (i := 121) rfl)⟩
  · exact ⟨⟨by omega, by omega⟩, fun z => absurd z (by omega), fun _ => hN _ (List.mem_of_getElem? (i := 122) rfl)⟩
  · exact ⟨⟨by omega, by omega⟩, fun z => absurd z (by omega), fun _ => hN _ (List.mem_of_getElem? (i := 123) rfl)⟩
  · exact ⟨⟨by omega, by omega⟩, fun z => absurd z (by omega), fun _ => hN _ (List.mem_of_getElem? (i := 124) rfl)⟩
  · exact ⟨⟨by omega, by omega⟩, fun z => absurd z (by omega), fun _ => hN _ (List.mem_of_getElem? (i := 125) rfl)⟩
  · exact ⟨⟨by omega, by omega⟩, fun z => absurd z (by omega), fun _ => hN _ (List.mem_of_getElem? (i := 126) rfl)⟩
  · exact ⟨⟨by omega, by omega⟩, fun z => absurd z (by omega), fun _ => hN _ (List.mem_of_getElem? (i := 127) rfl)⟩
  · exact ⟨⟨by omega, by omega⟩, fun z => absurd z (by omega), fun _ => hN _ (List.mem_of_getElem? (i := 128) rfl)⟩
  · exact ⟨⟨by omega, by omega⟩, fun z => absurd z (by omega), fun _ => hN _ (List.mem_of_getElem? (i := 129) rfl)⟩
  · exact ⟨⟨by omega, by omega⟩, fun z => absurd z (by omega), fun _ => hN _ (List.mem_of_getElem? (i := 130) rfl)⟩
  · exact ⟨⟨by omega, by omega⟩, fun z => absurd z (by omega), fun _ => hN _ (List.mem_of_getElem? (i := 131) rfl)⟩
  · exact ⟨⟨by omega, by omega⟩, fun z => absurd z (by omega), fun _ => hN _ (List.mem_of_getElem? (i := 132) rfl)⟩
  · exact ⟨⟨by omega, by omega⟩, fun z => absurd z (by omega), fun _ => hN _ (List.mem_of_getElem? (i := 133) rfl)⟩
  · exact ⟨⟨by omega, by omega⟩, fun z => absurd z (by omega), fun _ => hN _ (List.mem_of_getElem? (i := 134) rfl)⟩
  · exact ⟨⟨by omega, by omega⟩, fun z => absurd z (by omega), fun _ => hN _ (List.mem_of_getElem? (i := 135) rfl)⟩⟩
theorem ow39_8 {s0 : State} (hN : NCs s0) : ∀ q ∈ ([(33, 71485454)] : List (Nat × Nat)), YLk s0 "AlgolHouse$Serial" q.1 q.2 := List.forall_mem_cons.mpr ⟨ow39_8_0 hN, fun q h => by cases h⟩
theorem ow39_9 : ∀ q ∈ ([] : List (Nat × Nat)), q.2 = ACN ∧ ACk "AlgolHouse$Serial" q.1 ∨ q.2 ≠ ACN ∧ SMk "AlgolHouse$Serial" q.1 q.2 := fun q h => by cases h
theorem ow39_10 : ∀ q ∈ ([(1, 121155890)] : List (Nat × Nat)), IMk "AlgolHouse$Serial" q.1 q.2 ∧ ∀ t, inT (q.2 / 16 % 128) (q.2 / 2048 % 128) t → inT 1 55 t := List.forall_mem_cons.mpr ⟨⟨⟨mok_X13_init, np_X13_init, by decide, rfl, im_X13_init, ⟨_, _, rfl⟩, Or.inl (lw_g (lw_at lw_m5 83 rfl) rfl)⟩, fun t ht => ⟨Nat.le_trans (by decide) ht.1, Nat.le_trans ht.2 (by decide)⟩⟩, fun q h => by cases h⟩
theorem ow39_11_0 : VMk "AlgolHouse$Serial" 13 165249793 := ⟨mok_J6_size, by decide, fun t ht => by
  obtain rfl : t = 48 := Nat.le_antisymm (Nat.le_trans ht.2 (by decide)) (Nat.le_trans (by decide) ht.1)
  exact ⟨⟨by decide, by decide⟩, im_J6_size, Or.inl ⟨np_J6_size, lw_g (lw_at lw_m4 167 rfl) rfl, Or.inl (lw_g (lw_at lw_m11 189 rfl) rfl)⟩⟩⟩
theorem ow39_11_1 : VMk "AlgolHouse$Serial" 23 14950465 := ⟨mok_X3_begin, by decide, fun t ht => by
  obtain rfl : t = 4 := Nat.le_antisymm (Nat.le_trans ht.2 (by decide)) (Nat.le_trans (by decide) ht.1)
  exact ⟨⟨by decide, by decide⟩, im_X3_begin, Or.inl ⟨np_X3_begin, lw_g (lw_at lw_m11 92 rfl) rfl, Or.inl (lw_g (lw_at lw_m11 188 rfl) rfl)⟩⟩⟩
theorem ow39_11_2 : VMk "AlgolHouse$Serial" 43 17047619 := ⟨mok_X3_strong, by decide, fun t ht => by
  obtain rfl : t = 4 := Nat.le_antisymm (Nat.le_trans ht.2 (by decide)) (Nat.le_trans (by decide) ht.1)
  exact ⟨⟨by decide, by decide⟩, im_X3_strong, Or.inl ⟨np_X3_strong, lw_g (lw_at lw_m12 134 rfl) rfl, Or.inl (lw_g (lw_at lw_m13 83 rfl) rfl)⟩⟩⟩
theorem ow39_11_3 : VMk "AlgolHouse$Serial" 47 17834049 := ⟨mok_X3_end, by decide, fun t ht => by
  obtain rfl : t = 4 := Nat.le_antisymm (Nat.le_trans ht.2 (by decide)) (Nat.le_trans (by decide) ht.1)
  exact ⟨⟨by decide, by decide⟩, im_X3_end, Or.inl ⟨np_X3_end, lw_g (lw_at lw_m13 77 rfl) rfl, Or.inl (lw_g (lw_at lw_m13 136 rfl) rfl)⟩⟩⟩
theorem ow39_11_4 : VMk "AlgolHouse$Serial" 63 30158948 := ⟨mok_X7_enter, by decide, fun t ht => by
  obtain rfl : t = 6 := Nat.le_antisymm (Nat.le_trans ht.2 (by decide)) (Nat.le_trans (by decide) ht.1)
  exact ⟨⟨by decide, by decide⟩, im_X7_enter, Or.inl ⟨np_X7_enter, lw_g (lw_at lw_m16 93 rfl) rfl, Or.inl (lw_g (lw_at lw_m17 165 rfl) rfl)⟩⟩⟩
theorem ow39_11_5 : VMk "AlgolHouse$Serial" 67 26488930 := ⟨mok_X7_push, by decide, fun t ht => by
  obtain rfl : t = 6 := Nat.le_antisymm (Nat.le_trans ht.2 (by decide)) (Nat.le_trans (by decide) ht.1)
  exact ⟨⟨by decide, by decide⟩, im_X7_push, Or.inl ⟨np_X7_push, lw_g (lw_at lw_m15 124 rfl) rfl, Or.inl (lw_g (lw_at lw_m17 166 rfl) rfl)⟩⟩⟩
theorem ow39_11_6 : VMk "AlgolHouse$Serial" 78 30683236 := ⟨mok_X7_leave, by decide, fun t ht => by
  obtain rfl : t = 6 := Nat.le_antisymm (Nat.le_trans ht.2 (by decide)) (Nat.le_trans (by decide) ht.1)
  exact ⟨⟨by decide, by decide⟩, im_X7_leave, Or.inl ⟨np_X7_leave, lw_g (lw_at lw_m16 103 rfl) rfl, Or.inl (lw_g (lw_at lw_m17 167 rfl) rfl)⟩⟩⟩
theorem ow39_11_7 : VMk "AlgolHouse$Serial" 82 29634659 := ⟨mok_X7_done, by decide, fun t ht => by
  obtain rfl : t = 6 := Nat.le_antisymm (Nat.le_trans ht.2 (by decide)) (Nat.le_trans (by decide) ht.1)
  exact ⟨⟨by decide, by decide⟩, im_X7_done, Or.inl ⟨np_X7_done, lw_g (lw_at lw_m16 80 rfl) rfl, Or.inl (lw_g (lw_at lw_m17 168 rfl) rfl)⟩⟩⟩
theorem ow39_11 : ∀ q ∈ ([(13, 165249793), (23, 14950465), (43, 17047619), (47, 17834049), (63, 30158948), (67, 26488930), (78, 30683236), (82, 29634659)] : List (Nat × Nat)), VMk "AlgolHouse$Serial" q.1 q.2 := List.forall_mem_cons.mpr ⟨ow39_11_0, List.forall_mem_cons.mpr ⟨ow39_11_1, List.forall_mem_cons.mpr ⟨ow39_11_2, List.forall_mem_cons.mpr ⟨ow39_11_3, List.forall_mem_cons.mpr ⟨ow39_11_4, List.forall_mem_cons.mpr ⟨ow39_11_5, List.forall_mem_cons.mpr ⟨ow39_11_6, List.forall_mem_cons.mpr ⟨ow39_11_7, fun q h => by cases h⟩⟩⟩⟩⟩⟩⟩⟩
theorem ow39_12_0 : PMk "AlgolHouse$Serial" 19 11 2 := ⟨by decide, fun t m h => by
  rcases dsp_11 h with ⟨rfl, rfl⟩
  · exact ⟨mok_X12_part, ⟨by decide, by decide⟩, im_X12_part, Or.inr ⟨⟨"AlgolHouse$Serial", "part", "(I)LAlgolHouse$Node;"⟩, "AlgolHouse$Node", by decide +kernel, lw_g (lw_at lw_m11 190 rfl) rfl, lw_g (lw_at lw_m10 109 rfl) rfl, Or.inl (lw_at lw_m10 110 rfl), ⟨by decide +kernel, by decide +kernel⟩, lw_g (lw_at lw_m10 111 rfl) rfl⟩⟩⟩
theorem ow39_12_1 : PMk "AlgolHouse$Serial" 35 28 2 := ⟨by decide, fun t m h => by
  rcases dsp_28 h with ⟨rfl, rfl⟩ | ⟨rfl, rfl⟩ | ⟨rfl, rfl⟩
  · exact ⟨mok_X20_declare, ⟨by decide, by decide⟩, im_X20_declare, Or.inr ⟨⟨"AlgolHouse$Declaration", "declare", "(LAlgolHouse$Judge;)V"⟩, "AlgolHouse$Declaration", by decide +kernel, lw_g (lw_at lw_m11 192 rfl) rfl, lw_g (lw_at lw_m11 194 rfl) rfl, Or.inl (lw_at lw_m11 193 rfl), ⟨by decide +kernel, by decide +kernel⟩, lw_g (lw_at lw_m11 195 rfl) rfl⟩⟩
  · exact ⟨mok_X38_declare, ⟨by decide, by decide⟩, im_X38_declare, Or.inr ⟨⟨"AlgolHouse$Declaration", "declare", "(LAlgolHouse$Judge;)V"⟩, "AlgolHouse$Declaration", by decide +kernel, lw_g (lw_at lw_m11 192 rfl) rfl, lw_g (lw_at lw_m11 194 rfl) rfl, Or.inl (lw_at lw_m11 193 rfl), ⟨by decide +kernel, by decide +kernel⟩, lw_g (lw_at lw_m11 199 rfl) rfl⟩⟩
  · exact ⟨mok_X39_declare, ⟨by decide, by decide⟩, im_X39_declare, Or.inr ⟨⟨"AlgolHouse$Declaration", "declare", "(LAlgolHouse$Judge;)V"⟩, "AlgolHouse$Declaration", by decide +kernel, lw_g (lw_at lw_m11 192 rfl) rfl, lw_g (lw_at lw_m11 194 rfl) rfl, Or.inl (lw_at lw_m11 193 rfl), ⟨by decide +kernel, by decide +kernel⟩, lw_g (lw_at lw_m11 215 rfl) rfl⟩⟩⟩
theorem ow39_12 : ∀ q ∈ ([(19, 11), (35, 28)] : List (Nat × Nat)), ∀ n, pN q.2 n → PMk "AlgolHouse$Serial" q.1 q.2 n := List.forall_mem_cons.mpr ⟨(fun n hn => by cases hn; exact ow39_12_0), List.forall_mem_cons.mpr ⟨(fun n hn => by cases hn; exact ow39_12_1), fun q h => by cases h⟩⟩
theorem ow39_13 : ∀ q ∈ ([] : List (Nat × Nat)), Cond.methodLink "AlgolHouse$Serial" q.1 Lib.objectInit ∈ lw_all := fun q h => by cases h
theorem ow39_14 : ∀ q ∈ ([] : List (Nat × Nat)), JMk "AlgolHouse$Serial" q.1 q.2 := fun q h => by cases h
theorem ow39_15 : ∀ q ∈ ([] : List (Nat × Nat)), exT q.2 ∧ NLk "AlgolHouse$Serial" q.1 q.2 := fun q h => by cases h
theorem ow39_16 : ∀ q ∈ ([] : List (Nat × Nat)), exT q.2 ∧ Cond.methodLink "AlgolHouse$Serial" q.1 ⟨cN q.2, "<init>", "()V"⟩ ∈ lw_all := fun q h => by cases h
def Om39 : Om := [[(7, 748831790), (29, 949299798), (39, 293865490), (51, 126027276), (57, 444992538), (71, 436603930), (75, 740443180)], [(29, 949299798), (51, 126027276)], [], [], [], [], [], [(33, 2062)], [(33, 71485454)], [], [(1, 121155890)], [(13, 165249793), (23, 14950465), (43, 17047619), (47, 17834049), (63, 30158948), (67, 26488930), (78, 30683236), (82, 29634659)], [(19, 11), (35, 28)], [], [], [], []]
def Ok39 : List (Nat × Int) := []
def Ol39 : List (Nat × Int) := []
theorem ow39 {s0 : State} (hN : NCs s0) : OwnOK s0 "AlgolHouse$Serial" Om39 Ok39 Ol39 := ⟨ow39_k, ow39_l, ow39_0, ow39_1, ow39_2, ow39_3, ow39_4, ow39_5, ow39_6, ow39_7, ow39_8 hN, ow39_9, ow39_10, ow39_11, ow39_12, ow39_13, ow39_14, ow39_15, ow39_16⟩
theorem ow40_k : ∀ q ∈ ([] : List (Nat × Int)), Cond.constant "AlgolHouse$Skip" q.1 (Int32.ofInt q.2) ∈ lw_all := fun q h => by cases h
theorem ow40_l : ∀ q ∈ ([] : List (Nat × Int)), Cond.constantLong "AlgolHouse$Skip" q.1 (Int64.ofInt q.2) ∈ lw_all := fun q h => by cases h
theorem ow40_0 : ∀ q ∈ ([] : List (Nat × Nat)), q.2 ∈ iFs ∧ FLk "AlgolHouse$Skip" q.1 q.2 := fun q h => by cases h
theorem ow40_1 : ∀ q ∈ ([] : List (Nat × Nat)), q.2 ∈ iFs ∧ PLk "AlgolHouse$Skip" q.1 q.2 := fun q h => by cases h
theorem ow40_2 : ∀ q ∈ ([] : List (Nat × Nat)), q.2 ∈ iFs ∧ PFk "AlgolHouse$Skip" q.1 q.2 := fun q h => by cases h
theorem ow40_3 : ∀ q ∈ ([] : List (Nat × Nat)), q.2 ∈ sFs ∧ FLk "AlgolHouse$Skip" q.1 q.2 := fun q h => by cases h
theorem ow40_4 : ∀ q ∈ ([] : List (Nat × Nat)), TLk "AlgolHouse$Skip" q.1 q.2 ∧ q.2 % 4 = 2 := fun q h => by cases h
theorem ow40_5 : ∀ q ∈ ([] : List (Nat × Nat)), mdT q.2 = true ∧ NLk "AlgolHouse$Skip" q.1 q.2 := fun q h => by cases h
theorem ow40_6 : ∀ q ∈ ([] : List (Nat × Nat)), mdA q.2 = true ∧ ak q.2 = 2 ∧ ALk "AlgolHouse$Skip" q.1 q.2 := fun q h => by cases h
theorem ow40_7 : ∀ q ∈ ([] : List (Nat × Nat)), XLk "AlgolHouse$Skip" q.1 q.2 := fun q h => by cases h
theorem ow40_8 {s0 : State} (hN : NCs s0) : ∀ q ∈ ([] : List (Nat × Nat)), YLk s0 "AlgolHouse$Skip" q.1 q.2 := fun q h => by cases h
theorem ow40_9 : ∀ q ∈ ([] : List (Nat × Nat)), q.2 = ACN ∧ ACk "AlgolHouse$Skip" q.1 ∨ q.2 ≠ ACN ∧ SMk "AlgolHouse$Skip" q.1 q.2 := fun q h => by cases h
theorem ow40_10 : ∀ q ∈ ([(1, 118034610)] : List (Nat × Nat)), IMk "AlgolHouse$Skip" q.1 q.2 ∧ ∀ t, inT (q.2 / 16 % 128) (q.2 / 2048 % 128) t → inT 1 55 t := List.forall_mem_cons.mpr ⟨⟨⟨mok_X12_init, np_X12_init, by decide, rfl, im_X12_init, ⟨_, _, rfl⟩, Or.inl (lw_g (lw_at lw_m6 200 rfl) rfl)⟩, fun t ht => ⟨Nat.le_trans (by decide) ht.1, Nat.le_trans ht.2 (by decide)⟩⟩, fun q h => by cases h⟩
theorem ow40_11_0 : VMk "AlgolHouse$Skip" 7 30945377 := ⟨mok_X7_undefined, by decide, fun t ht => by
  obtain rfl : t = 6 := Nat.le_antisymm (Nat.le_trans ht.2 (by decide)) (Nat.le_trans (by decide) ht.1)
  exact ⟨⟨by decide, by decide⟩, im_X7_undefined, Or.inl ⟨np_X7_undefined, lw_g (lw_at lw_m16 114 rfl) rfl, Or.inl (lw_g (lw_at lw_m17 172 rfl) rfl)⟩⟩⟩
theorem ow40_11_1 : VMk "AlgolHouse$Skip" 13 29634659 := ⟨mok_X7_done, by decide, fun t ht => by
  obtain rfl : t = 6 := Nat.le_antisymm (Nat.le_trans ht.2 (by decide)) (Nat.le_trans (by decide) ht.1)
  exact ⟨⟨by decide, by decide⟩, im_X7_done, Or.inl ⟨np_X7_done, lw_g (lw_at lw_m16 80 rfl) rfl, Or.inl (lw_g (lw_at lw_m17 173 rfl) rfl)⟩⟩⟩
theorem ow40_11 : ∀ q ∈ ([(7, 30945377), (13, 29634659)] : List (Nat × Nat)), VMk "AlgolHouse$Skip" q.1 q.2 := List.forall_mem_cons.mpr ⟨ow40_11_0, List.forall_mem_cons.mpr ⟨ow40_11_1, fun q h => by cases h⟩⟩
theorem ow40_12 : ∀ q ∈ ([] : List (Nat × Nat)), ∀ n, pN q.2 n → PMk "AlgolHouse$Skip" q.1 q.2 n := fun q h => by cases h
theorem ow40_13 : ∀ q ∈ ([] : List (Nat × Nat)), Cond.methodLink "AlgolHouse$Skip" q.1 Lib.objectInit ∈ lw_all := fun q h => by cases h
theorem ow40_14 : ∀ q ∈ ([] : List (Nat × Nat)), JMk "AlgolHouse$Skip" q.1 q.2 := fun q h => by cases h
theorem ow40_15 : ∀ q ∈ ([] : List (Nat × Nat)), exT q.2 ∧ NLk "AlgolHouse$Skip" q.1 q.2 := fun q h => by cases h
theorem ow40_16 : ∀ q ∈ ([] : List (Nat × Nat)), exT q.2 ∧ Cond.methodLink "AlgolHouse$Skip" q.1 ⟨cN q.2, "<init>", "()V"⟩ ∈ lw_all := fun q h => by cases h
def Om40 : Om := [[], [], [], [], [], [], [], [], [], [], [(1, 118034610)], [(7, 30945377), (13, 29634659)], [], [], [], [], []]
def Ok40 : List (Nat × Int) := []
def Ol40 : List (Nat × Int) := []
theorem ow40 {s0 : State} (hN : NCs s0) : OwnOK s0 "AlgolHouse$Skip" Om40 Ok40 Ol40 := ⟨ow40_k, ow40_l, ow40_0, ow40_1, ow40_2, ow40_3, ow40_4, ow40_5, ow40_6, ow40_7, ow40_8 hN, ow40_9, ow40_10, ow40_11, ow40_12, ow40_13, ow40_14, ow40_15, ow40_16⟩
theorem ow41_k : ∀ q ∈ ([] : List (Nat × Int)), Cond.constant "AlgolHouse$Slice" q.1 (Int32.ofInt q.2) ∈ lw_all := fun q h => by cases h
theorem ow41_l : ∀ q ∈ ([] : List (Nat × Int)), Cond.constantLong "AlgolHouse$Slice" q.1 (Int64.ofInt q.2) ∈ lw_all := fun q h => by cases h
theorem ow41_0 : ∀ q ∈ ([(15, 748831790), (35, 1210139270), (43, 638128676), (49, 1201750663), (53, 671683110), (72, 134415886), (78, 740443180), (85, 1420184731), (90, 1563055275), (97, 1462127768), (100, 1646941352), (101, 1470516376), (104, 1655329960), (105, 1571443881), (134, 1621775530), (146, 1638552746)] : List (Nat × Nat)), q.2 ∈ iFs ∧ FLk "AlgolHouse$Slice" q.1 q.2 := List.forall_mem_cons.mpr ⟨⟨List.mem_of_getElem? (i := 89) rfl, ⟨"AlgolHouse$Slice", Or.inl (lw_g (lw_at lw_m5 144 rfl) rfl), Or.inr (lw_g (lw_at lw_m5 145 rfl) rfl)⟩⟩, List.forall_mem_cons.mpr ⟨⟨List.mem_of_getElem? (i := 144) rfl, ⟨"AlgolHouse$Slice", Or.inl (lw_g (lw_at lw_m8 91 rfl) rfl), Or.inl rfl⟩⟩, List.forall_mem_cons.mpr ⟨⟨List.mem_of_getElem? (i := 76) rfl, ⟨"AlgolHouse$Mode", Or.inr ⟨_, lw_at lw_m3 76 rfl⟩, Or.inl rfl⟩⟩, List.forall_mem_cons.mpr ⟨⟨List.mem_of_getElem? (i := 143) rfl, ⟨"AlgolHouse$Slice", Or.inl (lw_g (lw_at lw_m8 90 rfl) rfl), Or.inl rfl⟩⟩, List.forall_mem_cons.mpr ⟨⟨List.mem_of_getElem? (i := 80) rfl, ⟨"AlgolHouse$Mode", Or.inr ⟨_, lw_at lw_m3 101 rfl⟩, Or.inl rfl⟩⟩, List.forall_mem_cons.mpr ⟨⟨List.mem_of_getElem? (i := 16) rfl, ⟨"AlgolHouse$Frame", Or.inr ⟨_, lw_at lw_m15 168 rfl⟩, Or.inl rfl⟩⟩, List.forall_mem_cons.mpr ⟨⟨List.mem_of_getElem? (i := 88) rfl, ⟨"AlgolHouse$Slice", Or.inl (lw_g (lw_at lw_m5 118 rfl) rfl), Or.inr (lw_g (lw_at lw_m5 119 rfl) rfl)⟩⟩, List.forall_mem_cons.mpr ⟨⟨List.mem_of_getElem? (i := 169) rfl, ⟨"AlgolHouse$Place", Or.inr ⟨_, lw_at lw_m16 39 rfl⟩, Or.inl rfl⟩⟩, List.forall_mem_cons.mpr ⟨⟨List.mem_of_getElem? (i := 186) rfl, ⟨"AlgolHouse$Value", Or.inr ⟨_, lw_at lw_m16 134 rfl⟩, Or.inl rfl⟩⟩, List.forall_mem_cons.mpr ⟨⟨List.mem_of_getElem? (i := 174) rfl, ⟨"AlgolHouse$Place", Or.inr ⟨_, lw_at lw_m16 49 rfl⟩, Or.inl rfl⟩⟩, List.forall_mem_cons.mpr ⟨⟨List.mem_of_getElem? (i := 196) rfl, ⟨"AlgolHouse$Value", Or.inr ⟨_, lw_at lw_m16 175 rfl⟩, Or.inl rfl⟩⟩, List.forall_mem_cons.mpr ⟨⟨List.mem_of_getElem? (i := 175) rfl, ⟨"AlgolHouse$Place", Or.inr ⟨_, lw_at lw_m16 53 rfl⟩, Or.inl rfl⟩⟩, List.forall_mem_cons.mpr ⟨⟨List.mem_of_getElem? (i := 197) rfl, ⟨"AlgolHouse$Value", Or.inr ⟨_, lw_at lw_m16 179 rfl⟩, Or.inl rfl⟩⟩, List.forall_mem_cons.mpr ⟨⟨List.mem_of_getElem? (i := 187) rfl, ⟨"AlgolHouse$Value", Or.inr ⟨_, lw_at lw_m16 143 rfl⟩, Or.inl rfl⟩⟩, List.forall_mem_cons.mpr ⟨⟨List.mem_of_getElem? (i := 193) rfl, ⟨"AlgolHouse$Value", Or.inr ⟨_, lw_at lw_m16 165 rfl⟩, Or.inl rfl⟩⟩, List.forall_mem_cons.mpr ⟨⟨List.mem_of_getElem? (i := 195) rfl, ⟨"AlgolHouse$Value", Or.inr ⟨_, lw_at lw_m16 171 rfl⟩, Or.inl rfl⟩⟩, fun q h => by cases h⟩⟩⟩⟩⟩⟩⟩⟩⟩⟩⟩⟩⟩⟩⟩⟩
theorem ow41_1 : ∀ q ∈ ([(35, 1210139270), (49, 1201750663), (63, 757220398)] : List (Nat × Nat)), q.2 ∈ iFs ∧ PLk "AlgolHouse$Slice" q.1 q.2 := List.forall_mem_cons.mpr ⟨⟨List.mem_of_getElem? (i := 144) rfl, ⟨"AlgolHouse$Slice", Or.inl (lw_g (lw_at lw_m8 91 rfl) rfl), Or.inl rfl⟩, rfl⟩, List.forall_mem_cons.mpr ⟨⟨List.mem_of_getElem? (i := 143) rfl, ⟨"AlgolHouse$Slice", Or.inl (lw_g (lw_at lw_m8 90 rfl) rfl), Or.inl rfl⟩, rfl⟩, List.forall_mem_cons.mpr ⟨⟨List.mem_of_getElem? (i := 90) rfl, ⟨"AlgolHouse$Slice", Or.inl (lw_g (lw_at lw_m5 190 rfl) rfl), Or.inr (lw_g (lw_at lw_m5 191 rfl) rfl)⟩, rfl⟩, fun q h => by cases h⟩⟩⟩
theorem ow41_2 : ∀ q ∈ ([] : List (Nat × Nat)), q.2 ∈ iFs ∧ PFk "AlgolHouse$Slice" q.1 q.2 := fun q h => by cases h
theorem ow41_3 : ∀ q ∈ ([] : List (Nat × Nat)), q.2 ∈ sFs ∧ FLk "AlgolHouse$Slice" q.1 q.2 := fun q h => by cases h
theorem ow41_4 : ∀ q ∈ ([] : List (Nat × Nat)), TLk "AlgolHouse$Slice" q.1 q.2 ∧ q.2 % 4 = 2 := fun q h => by cases h
theorem ow41_5 : ∀ q ∈ ([(44, 9)] : List (Nat × Nat)), mdT q.2 = true ∧ NLk "AlgolHouse$Slice" q.1 q.2 := List.forall_mem_cons.mpr ⟨⟨rfl, lw_g (lw_at lw_m14 50 rfl) rfl, lw_g (lw_at lw_m2 6 rfl) rfl, lw_g (lw_at lw_m1 13 rfl) rfl⟩, fun q h => by cases h⟩
theorem ow41_6 : ∀ q ∈ ([] : List (Nat × Nat)), mdA q.2 = true ∧ ak q.2 = 2 ∧ ALk "AlgolHouse$Slice" q.1 q.2 := fun q h => by cases h
theorem ow41_7 : ∀ q ∈ ([] : List (Nat × Nat)), XLk "AlgolHouse$Slice" q.1 q.2 := fun q h => by cases h
theorem ow41_8 {s0 : State} (hN : NCs s0) : ∀ q ∈ ([] : List (Nat × Nat)), YLk s0 "AlgolHouse$Slice" q.1 q.2 := fun q h => by cases h
theorem ow41_9 : ∀ q ∈ ([(39, 6029314), (113, 133431300)] : List (Nat × Nat)), q.2 = ACN ∧ ACk "AlgolHouse$Slice" q.1 ∨ q.2 ≠ ACN ∧ SMk "AlgolHouse$Slice" q.1 q.2 := List.forall_mem_cons.mpr ⟨Or.inr ⟨by decide, mok_X1_bound, np_X1_bound, ⟨sm_X1_bound, lw_g (lw_at lw_m1 1 rfl) rfl⟩, Or.inr ⟨_, lw_at lw_m13 92 rfl⟩⟩, List.forall_mem_cons.mpr ⟨Or.inr ⟨by decide, mok_X23_trim, np_X23_trim, ⟨sm_X23_trim, lw_g (lw_at lw_m1 50 rfl) rfl⟩, Or.inl (lw_g (lw_at lw_m17 198 rfl) rfl)⟩, fun q h => by cases h⟩⟩
theorem ow41_10 : ∀ q ∈ ([(3, 118034610), (60, 24660115)] : List (Nat × Nat)), IMk "AlgolHouse$Slice" q.1 q.2 ∧ ∀ t, inT (q.2 / 16 % 128) (q.2 / 2048 % 128) t → inT 1 55 t := List.forall_mem_cons.mpr ⟨⟨⟨mok_X12_init, np_X12_init, by decide, rfl, im_X12_init, ⟨_, _, rfl⟩, Or.inl (lw_g (lw_at lw_m8 89 rfl) rfl)⟩, fun t ht => ⟨Nat.le_trans (by decide) ht.1, Nat.le_trans ht.2 (by decide)⟩⟩, List.forall_mem_cons.mpr ⟨⟨⟨mok_X6_init_2, np_X6_init_2, by decide, rfl, im_X6_init_2, ⟨_, _, rfl⟩, Or.inl (lw_g (lw_at lw_m14 51 rfl) rfl)⟩, fun t ht => ⟨Nat.le_trans (by decide) ht.1, Nat.le_trans ht.2 (by decide)⟩⟩, fun q h => by cases h⟩⟩
theorem ow41_11_0 : VMk "AlgolHouse$Slice" 9 132712977 := ⟨mok_X23_isTrim, by decide, fun t ht => by
  obtain rfl : t = 33 := Nat.le_antisymm (Nat.le_trans ht.2 (by decide)) (Nat.le_trans (by decide) ht.1)
  exact ⟨⟨by decide, by decide⟩, im_X23_isTrim, Or.inl ⟨np_X23_isTrim, lw_g (lw_ms _ (List.mem_map.mpr ⟨_, List.mem_of_getElem? (i := 94) rfl, rfl⟩)) rfl, Or.inl (lw_g (lw_at lw_m14 45 rfl) rfl)⟩⟩⟩
theorem ow41_11_1 : VMk "AlgolHouse$Slice" 19 165249793 := ⟨mok_J6_size, by decide, fun t ht => by
  obtain rfl : t = 48 := Nat.le_antisymm (Nat.le_trans ht.2 (by decide)) (Nat.le_trans (by decide) ht.1)
  exact ⟨⟨by decide, by decide⟩, im_J6_size, Or.inl ⟨np_J6_size, lw_g (lw_at lw_m4 167 rfl) rfl, Or.inl (lw_g (lw_at lw_m14 49 rfl) rfl)⟩⟩⟩
theorem ow41_11_2 : VMk "AlgolHouse$Slice" 29 17309764 := ⟨mok_X3_come, by decide, fun t ht => by
  obtain rfl : t = 4 := Nat.le_antisymm (Nat.le_trans ht.2 (by decide)) (Nat.le_trans (by decide) ht.1)
  exact ⟨⟨by decide, by decide⟩, im_X3_come, Or.inl ⟨np_X3_come, lw_g (lw_at lw_m13 1 rfl) rfl, Or.inl (lw_g (lw_at lw_m13 91 rfl) rfl)⟩⟩⟩
theorem ow41_11_3 : VMk "AlgolHouse$Slice" 56 24922257 := ⟨mok_X6_real, by decide, fun t ht => by
  obtain rfl : t = 9 := Nat.le_antisymm (Nat.le_trans ht.2 (by decide)) (Nat.le_trans (by decide) ht.1)
  exact ⟨⟨by decide, by decide⟩, im_X6_real, Or.inl ⟨np_X6_real, lw_g (lw_at lw_m11 4 rfl) rfl, Or.inl (lw_g (lw_at lw_m14 44 rfl) rfl)⟩⟩⟩
theorem ow41_11_4 : VMk "AlgolHouse$Slice" 66 27275364 := ⟨mok_X7_all, by decide, fun t ht => by
  obtain rfl : t = 6 := Nat.le_antisymm (Nat.le_trans ht.2 (by decide)) (Nat.le_trans (by decide) ht.1)
  exact ⟨⟨by decide, by decide⟩, im_X7_all, Or.inl ⟨np_X7_all, lw_g (lw_at lw_m15 233 rfl) rfl, Or.inl (lw_g (lw_at lw_m17 177 rfl) rfl)⟩⟩⟩
theorem ow41_11_5 : VMk "AlgolHouse$Slice" 81 27799651 := ⟨mok_X7_followed, by decide, fun t ht => by
  obtain rfl : t = 6 := Nat.le_antisymm (Nat.le_trans ht.2 (by decide)) (Nat.le_trans (by decide) ht.1)
  exact ⟨⟨by decide, by decide⟩, im_X7_followed, Or.inl ⟨np_X7_followed, lw_g (lw_at lw_m16 4 rfl) rfl, Or.inl (lw_g (lw_at lw_m17 178 rfl) rfl)⟩⟩⟩
theorem ow41_11_6 : VMk "AlgolHouse$Slice" 93 27013220 := ⟨mok_X7_need, by decide, fun t ht => by
  obtain rfl : t = 6 := Nat.le_antisymm (Nat.le_trans ht.2 (by decide)) (Nat.le_trans (by decide) ht.1)
  exact ⟨⟨by decide, by decide⟩, im_X7_need, Or.inl ⟨np_X7_need, lw_g (lw_at lw_m15 132 rfl) rfl, Or.inl (lw_g (lw_at lw_m17 179 rfl) rfl)⟩⟩⟩
theorem ow41_11_7 : VMk "AlgolHouse$Slice" 109 33828965 := ⟨mok_X7_copy, by decide, fun t ht => by
  obtain rfl : t = 6 := Nat.le_antisymm (Nat.le_trans ht.2 (by decide)) (Nat.le_trans (by decide) ht.1)
  exact ⟨⟨by decide, by decide⟩, im_X7_copy, Or.inl ⟨np_X7_copy, lw_g (lw_at lw_m17 182 rfl) rfl, Or.inl (lw_g (lw_at lw_m17 180 rfl) rfl)⟩⟩⟩
theorem ow41_11_8 : VMk "AlgolHouse$Slice" 117 29634659 := ⟨mok_X7_done, by decide, fun t ht => by
  obtain rfl : t = 6 := Nat.le_antisymm (Nat.le_trans ht.2 (by decide)) (Nat.le_trans (by decide) ht.1)
  exact ⟨⟨by decide, by decide⟩, im_X7_done, Or.inl ⟨np_X7_done, lw_g (lw_at lw_m16 80 rfl) rfl, Or.inl (lw_g (lw_at lw_m17 204 rfl) rfl)⟩⟩⟩
theorem ow41_11_9 : VMk "AlgolHouse$Slice" 121 162869858 := ⟨mok_X45_part, by decide, fun t ht => by
  obtain rfl : t = 38 := Nat.le_antisymm (Nat.le_trans ht.2 (by decide)) (Nat.le_trans (by decide) ht.1)
  exact ⟨⟨by decide, by decide⟩, im_X45_part, Or.inl ⟨np_X45_part, lw_g (lw_at lw_m17 153 rfl) rfl, Or.inl (lw_g (lw_at lw_m17 205 rfl) rfl)⟩⟩⟩
theorem ow41_11_10 : VMk "AlgolHouse$Slice" 124 33042530 := ⟨mok_X7_name, by decide, fun t ht => by
  obtain rfl : t = 6 := Nat.le_antisymm (Nat.le_trans ht.2 (by decide)) (Nat.le_trans (by decide) ht.1)
  exact ⟨⟨by decide, by decide⟩, im_X7_name, Or.inl ⟨np_X7_name, lw_g (lw_at lw_m17 70 rfl) rfl, Or.inl (lw_g (lw_at lw_m17 206 rfl) rfl)⟩⟩⟩
theorem ow41_11_11 : VMk "AlgolHouse$Slice" 128 163926690 := ⟨mok_X46_part, by decide, fun t ht => by
  obtain rfl : t = 42 := Nat.le_antisymm (Nat.le_trans ht.2 (by decide)) (Nat.le_trans (by decide) ht.1)
  exact ⟨⟨by decide, by decide⟩, im_X46_part, Or.inl ⟨np_X46_part, lw_g (lw_at lw_m17 160 rfl) rfl, Or.inl (lw_g (lw_at lw_m17 207 rfl) rfl)⟩⟩⟩
theorem ow41_11_12 : VMk "AlgolHouse$Slice" 131 31469666 := ⟨mok_X7_row, by decide, fun t ht => by
  obtain rfl : t = 6 := Nat.le_antisymm (Nat.le_trans ht.2 (by decide)) (Nat.le_trans (by decide) ht.1)
  exact ⟨⟨by decide, by decide⟩, im_X7_row, Or.inl ⟨np_X7_row, lw_g (lw_at lw_m16 225 rfl) rfl, Or.inl (lw_g (lw_at lw_m17 201 rfl) rfl)⟩⟩⟩
theorem ow41_11_13 : VMk "AlgolHouse$Slice" 138 31731810 := ⟨mok_X7_again, by decide, fun t ht => by
  obtain rfl : t = 6 := Nat.le_antisymm (Nat.le_trans ht.2 (by decide)) (Nat.le_trans (by decide) ht.1)
  exact ⟨⟨by decide, by decide⟩, im_X7_again, Or.inl ⟨np_X7_again, lw_g (lw_at lw_m16 229 rfl) rfl, Or.inl (lw_g (lw_at lw_m17 202 rfl) rfl)⟩⟩⟩
theorem ow41_11_14 : VMk "AlgolHouse$Slice" 142 163664546 := ⟨mok_X46_add, by decide, fun t ht => by
  obtain rfl : t = 42 := Nat.le_antisymm (Nat.le_trans ht.2 (by decide)) (Nat.le_trans (by decide) ht.1)
  exact ⟨⟨by decide, by decide⟩, im_X46_add, Or.inl ⟨np_X46_add, lw_g (lw_at lw_m16 233 rfl) rfl, Or.inl (lw_g (lw_at lw_m17 203 rfl) rfl)⟩⟩⟩
theorem ow41_11 : ∀ q ∈ ([(9, 132712977), (19, 165249793), (29, 17309764), (56, 24922257), (66, 27275364), (81, 27799651), (93, 27013220), (109, 33828965), (117, 29634659), (121, 162869858), (124, 33042530), (128, 163926690), (131, 31469666), (138, 31731810), (142, 163664546)] : List (Nat × Nat)), VMk "AlgolHouse$Slice" q.1 q.2 := List.forall_mem_cons.mpr ⟨ow41_11_0, List.forall_mem_cons.mpr ⟨ow41_11_1, List.forall_mem_cons.mpr ⟨ow41_11_2, List.forall_mem_cons.mpr ⟨ow41_11_3, List.forall_mem_cons.mpr ⟨ow41_11_4, List.forall_mem_cons.mpr ⟨ow41_11_5, List.forall_mem_cons.mpr ⟨ow41_11_6, List.forall_mem_cons.mpr ⟨ow41_11_7, List.forall_mem_cons.mpr ⟨ow41_11_8, List.forall_mem_cons.mpr ⟨ow41_11_9, List.forall_mem_cons.mpr ⟨ow41_11_10, List.forall_mem_cons.mpr ⟨ow41_11_11, List.forall_mem_cons.mpr ⟨ow41_11_12, List.forall_mem_cons.mpr ⟨ow41_11_13, List.forall_mem_cons.mpr ⟨ow41_11_14, fun q h => by cases h⟩⟩⟩⟩⟩⟩⟩⟩⟩⟩⟩⟩⟩⟩⟩
theorem ow41_12_0 : PMk "AlgolHouse$Slice" 25 33 2 := ⟨by decide, fun t m h => by
  rcases dsp_33 h with ⟨rfl, rfl⟩
  · exact ⟨mok_X12_part, ⟨by decide, by decide⟩, im_X12_part, Or.inr ⟨⟨"AlgolHouse$Slice", "part", "(I)LAlgolHouse$Node;"⟩, "AlgolHouse$Node", by decide +kernel, lw_g (lw_at lw_m13 88 rfl) rfl, lw_g (lw_at lw_m13 89 rfl) rfl, Or.inl (lw_at lw_m10 110 rfl), ⟨by decide +kernel, by decide +kernel⟩, lw_g (lw_at lw_m13 90 rfl) rfl⟩⟩⟩
theorem ow41_12 : ∀ q ∈ ([(25, 33)] : List (Nat × Nat)), ∀ n, pN q.2 n → PMk "AlgolHouse$Slice" q.1 q.2 n := List.forall_mem_cons.mpr ⟨(fun n hn => by cases hn; exact ow41_12_0), fun q h => by cases h⟩
theorem ow41_13 : ∀ q ∈ ([] : List (Nat × Nat)), Cond.methodLink "AlgolHouse$Slice" q.1 Lib.objectInit ∈ lw_all := fun q h => by cases h
theorem ow41_14 : ∀ q ∈ ([] : List (Nat × Nat)), JMk "AlgolHouse$Slice" q.1 q.2 := fun q h => by cases h
theorem ow41_15 : ∀ q ∈ ([] : List (Nat × Nat)), exT q.2 ∧ NLk "AlgolHouse$Slice" q.1 q.2 := fun q h => by cases h
theorem ow41_16 : ∀ q ∈ ([] : List (Nat × Nat)), exT q.2 ∧ Cond.methodLink "AlgolHouse$Slice" q.1 ⟨cN q.2, "<init>", "()V"⟩ ∈ lw_all := fun q h => by cases h
def Om41 : Om := [[(15, 748831790), (35, 1210139270), (43, 638128676), (49, 1201750663), (53, 671683110), (72, 134415886), (78, 740443180), (85, 1420184731), (90, 1563055275), (97, 1462127768), (100, 1646941352), (101, 1470516376), (104, 1655329960), (105, 1571443881), (134, 1621775530), (146, 1638552746)], [(35, 1210139270), (49, 1201750663), (63, 757220398)], [], [], [], [(44, 9)], [], [], [], [(39, 6029314), (113, 133431300)], [(3, 118034610), (60, 24660115)], [(9, 132712977), (19, 165249793), (29, 17309764), (56, 24922257), (66, 27275364), (81, 27799651), (93, 27013220), (109, 33828965), (117, 29634659), (121, 162869858), (124, 33042530), (128, 163926690), (131, 31469666), (138, 31731810), (142, 163664546)], [(25, 33)], [], [], [], []]
def Ok41 : List (Nat × Int) := []
def Ol41 : List (Nat × Int) := []
theorem ow41 {s0 : State} (hN : NCs s0) : OwnOK s0 "AlgolHouse$Slice" Om41 Ok41 Ol41 := ⟨ow41_k, ow41_l, ow41_0, ow41_1, ow41_2, ow41_3, ow41_4, ow41_5, ow41_6, ow41_7, ow41_8 hN, ow41_9, ow41_10, ow41_11, ow41_12, ow41_13, ow41_14, ow41_15, ow41_16⟩
theorem ow42_k : ∀ q ∈ ([] : List (Nat × Int)), Cond.constant "AlgolHouse$Tag" q.1 (Int32.ofInt q.2) ∈ lw_all := fun q h => by cases h
theorem ow42_l : ∀ q ∈ ([] : List (Nat × Int)), Cond.constantLong "AlgolHouse$Tag" q.1 (Int64.ofInt q.2) ∈ lw_all := fun q h => by cases h
theorem ow42_0 : ∀ q ∈ ([(9, 1218593929), (15, 251922450), (21, 1226982538), (31, 1529434790), (34, 740443180), (42, 612896798), (49, 629674014)] : List (Nat × Nat)), q.2 ∈ iFs ∧ FLk "AlgolHouse$Tag" q.1 q.2 := List.forall_mem_cons.mpr ⟨⟨List.mem_of_getElem? (i := 145) rfl, ⟨"AlgolHouse$Tag", Or.inl (lw_g (lw_at lw_m9 78 rfl) rfl), Or.inl rfl⟩⟩, List.forall_mem_cons.mpr ⟨⟨List.mem_of_getElem? (i := 30) rfl, ⟨"AlgolHouse$Judge", Or.inr ⟨_, lw_at lw_m3 133 rfl⟩, Or.inl rfl⟩⟩, List.forall_mem_cons.mpr ⟨⟨List.mem_of_getElem? (i := 146) rfl, ⟨"AlgolHouse$Tag", Or.inl (lw_g (lw_at lw_m9 79 rfl) rfl), Or.inl rfl⟩⟩, List.forall_mem_cons.mpr ⟨⟨List.mem_of_getElem? (i := 182) rfl, ⟨"AlgolHouse$Scope", Or.inr ⟨_, lw_at lw_m11 103 rfl⟩, Or.inl rfl⟩⟩, List.forall_mem_cons.mpr ⟨⟨List.mem_of_getElem? (i := 88) rfl, ⟨"AlgolHouse$Tag", Or.inl (lw_g (lw_at lw_m5 97 rfl) rfl), Or.inr (lw_g (lw_at lw_m5 98 rfl) rfl)⟩⟩, List.forall_mem_cons.mpr ⟨⟨List.mem_of_getElem? (i := 73) rfl, ⟨"AlgolHouse$Meaning", Or.inl (lw_g (lw_at lw_m11 163 rfl) rfl), Or.inl rfl⟩⟩, List.forall_mem_cons.mpr ⟨⟨List.mem_of_getElem? (i := 75) rfl, ⟨"AlgolHouse$Meaning", Or.inl (lw_g (lw_at lw_m11 171 rfl) rfl), Or.inl rfl⟩⟩, fun q h => by cases h⟩⟩⟩⟩⟩⟩⟩
theorem ow42_1 : ∀ q ∈ ([(21, 1226982538), (53, 757220398)] : List (Nat × Nat)), q.2 ∈ iFs ∧ PLk "AlgolHouse$Tag" q.1 q.2 := List.forall_mem_cons.mpr ⟨⟨List.mem_of_getElem? (i := 146) rfl, ⟨"AlgolHouse$Tag", Or.inl (lw_g (lw_at lw_m9 79 rfl) rfl), Or.inl rfl⟩, rfl⟩, List.forall_mem_cons.mpr ⟨⟨List.mem_of_getElem? (i := 90) rfl, ⟨"AlgolHouse$Tag", Or.inl (lw_g (lw_at lw_m5 172 rfl) rfl), Or.inr (lw_g (lw_at lw_m5 173 rfl) rfl)⟩, rfl⟩, fun q h => by cases h⟩⟩
theorem ow42_2 : ∀ q ∈ ([(9, 1218593929)] : List (Nat × Nat)), q.2 ∈ iFs ∧ PFk "AlgolHouse$Tag" q.1 q.2 := List.forall_mem_cons.mpr ⟨⟨List.mem_of_getElem? (i := 145) rfl, rfl, rfl, "AlgolHouse$Tag", lw_g (lw_at lw_m9 78 rfl) rfl, Or.inl rfl⟩, fun q h => by cases h⟩
theorem ow42_3 : ∀ q ∈ ([] : List (Nat × Nat)), q.2 ∈ sFs ∧ FLk "AlgolHouse$Tag" q.1 q.2 := fun q h => by cases h
theorem ow42_4 : ∀ q ∈ ([] : List (Nat × Nat)), TLk "AlgolHouse$Tag" q.1 q.2 ∧ q.2 % 4 = 2 := fun q h => by cases h
theorem ow42_5 : ∀ q ∈ ([] : List (Nat × Nat)), mdT q.2 = true ∧ NLk "AlgolHouse$Tag" q.1 q.2 := fun q h => by cases h
theorem ow42_6 : ∀ q ∈ ([] : List (Nat × Nat)), mdA q.2 = true ∧ ak q.2 = 2 ∧ ALk "AlgolHouse$Tag" q.1 q.2 := fun q h => by cases h
theorem ow42_7 : ∀ q ∈ ([] : List (Nat × Nat)), XLk "AlgolHouse$Tag" q.1 q.2 := fun q h => by cases h
theorem ow42_8 {s0 : State} (hN : NCs s0) : ∀ q ∈ ([] : List (Nat × Nat)), YLk s0 "AlgolHouse$Tag" q.1 q.2 := fun q h => by cases h
theorem ow42_9 : ∀ q ∈ ([] : List (Nat × Nat)), q.2 = ACN ∧ ACk "AlgolHouse$Tag" q.1 ∨ q.2 ≠ ACN ∧ SMk "AlgolHouse$Tag" q.1 q.2 := fun q h => by cases h
theorem ow42_10 : ∀ q ∈ ([(3, 118034610)] : List (Nat × Nat)), IMk "AlgolHouse$Tag" q.1 q.2 ∧ ∀ t, inT (q.2 / 16 % 128) (q.2 / 2048 % 128) t → inT 1 55 t := List.forall_mem_cons.mpr ⟨⟨⟨mok_X12_init, np_X12_init, by decide, rfl, im_X12_init, ⟨_, _, rfl⟩, Or.inl (lw_g (lw_at lw_m9 77 rfl) rfl)⟩, fun t ht => ⟨Nat.le_trans (by decide) ht.1, Nat.le_trans ht.2 (by decide)⟩⟩, fun q h => by cases h⟩
theorem ow42_11_0 : VMk "AlgolHouse$Tag" 25 160516754 := ⟨mok_X40_find, by decide, fun t ht => by
  obtain rfl : t = 41 := Nat.le_antisymm (Nat.le_trans ht.2 (by decide)) (Nat.le_trans (by decide) ht.1)
  exact ⟨⟨by decide, by decide⟩, im_X40_find, Or.inl ⟨np_X40_find, lw_g (lw_at lw_m11 132 rfl) rfl, Or.inl (lw_g (lw_at lw_m11 226 rfl) rfl)⟩⟩⟩
theorem ow42_11_1 : VMk "AlgolHouse$Tag" 38 15474756 := ⟨mok_X3_need, by decide, fun t ht => by
  obtain rfl : t = 4 := Nat.le_antisymm (Nat.le_trans ht.2 (by decide)) (Nat.le_trans (by decide) ht.1)
  exact ⟨⟨by decide, by decide⟩, im_X3_need, Or.inl ⟨np_X3_need, lw_g (lw_at lw_m11 139 rfl) rfl, Or.inl (lw_g (lw_at lw_m11 227 rfl) rfl)⟩⟩⟩
theorem ow42_11_2 : VMk "AlgolHouse$Tag" 45 15736898 := ⟨mok_X3_use, by decide, fun t ht => by
  obtain rfl : t = 4 := Nat.le_antisymm (Nat.le_trans ht.2 (by decide)) (Nat.le_trans (by decide) ht.1)
  exact ⟨⟨by decide, by decide⟩, im_X3_use, Or.inl ⟨np_X3_use, lw_g (lw_at lw_m11 230 rfl) rfl, Or.inl (lw_g (lw_at lw_m11 228 rfl) rfl)⟩⟩⟩
theorem ow42_11_3 : VMk "AlgolHouse$Tag" 54 34877538 := ⟨mok_X7_lookUp, by decide, fun t ht => by
  obtain rfl : t = 6 := Nat.le_antisymm (Nat.le_trans ht.2 (by decide)) (Nat.le_trans (by decide) ht.1)
  exact ⟨⟨by decide, by decide⟩, im_X7_lookUp, Or.inl ⟨np_X7_lookUp, lw_g (lw_at lw_m17 213 rfl) rfl, Or.inl (lw_g (lw_at lw_m17 211 rfl) rfl)⟩⟩⟩
theorem ow42_11_4 : VMk "AlgolHouse$Tag" 60 27013220 := ⟨mok_X7_need, by decide, fun t ht => by
  obtain rfl : t = 6 := Nat.le_antisymm (Nat.le_trans ht.2 (by decide)) (Nat.le_trans (by decide) ht.1)
  exact ⟨⟨by decide, by decide⟩, im_X7_need, Or.inl ⟨np_X7_need, lw_g (lw_at lw_m15 132 rfl) rfl, Or.inl (lw_g (lw_at lw_m17 216 rfl) rfl)⟩⟩⟩
theorem ow42_11_5 : VMk "AlgolHouse$Tag" 61 29634659 := ⟨mok_X7_done, by decide, fun t ht => by
  obtain rfl : t = 6 := Nat.le_antisymm (Nat.le_trans ht.2 (by decide)) (Nat.le_trans (by decide) ht.1)
  exact ⟨⟨by decide, by decide⟩, im_X7_done, Or.inl ⟨np_X7_done, lw_g (lw_at lw_m16 80 rfl) rfl, Or.inl (lw_g (lw_at lw_m17 217 rfl) rfl)⟩⟩⟩
theorem ow42_11 : ∀ q ∈ ([(25, 160516754), (38, 15474756), (45, 15736898), (54, 34877538), (60, 27013220), (61, 29634659)] : List (Nat × Nat)), VMk "AlgolHouse$Tag" q.1 q.2 := List.forall_mem_cons.mpr ⟨ow42_11_0, List.forall_mem_cons.mpr ⟨ow42_11_1, List.forall_mem_cons.mpr ⟨ow42_11_2, List.forall_mem_cons.mpr ⟨ow42_11_3, List.forall_mem_cons.mpr ⟨ow42_11_4, List.forall_mem_cons.mpr ⟨ow42_11_5, fun q h => by cases h⟩⟩⟩⟩⟩⟩
theorem ow42_12 : ∀ q ∈ ([] : List (Nat × Nat)), ∀ n, pN q.2 n → PMk "AlgolHouse$Tag" q.1 q.2 n := fun q h => by cases h
theorem ow42_13 : ∀ q ∈ ([] : List (Nat × Nat)), Cond.methodLink "AlgolHouse$Tag" q.1 Lib.objectInit ∈ lw_all := fun q h => by cases h
theorem ow42_14 : ∀ q ∈ ([] : List (Nat × Nat)), JMk "AlgolHouse$Tag" q.1 q.2 := fun q h => by cases h
theorem ow42_15 : ∀ q ∈ ([] : List (Nat × Nat)), exT q.2 ∧ NLk "AlgolHouse$Tag" q.1 q.2 := fun q h => by cases h
theorem ow42_16 : ∀ q ∈ ([] : List (Nat × Nat)), exT q.2 ∧ Cond.methodLink "AlgolHouse$Tag" q.1 ⟨cN q.2, "<init>", "()V"⟩ ∈ lw_all := fun q h => by cases h
def Om42 : Om := [[(9, 1218593929), (15, 251922450), (21, 1226982538), (31, 1529434790), (34, 740443180), (42, 612896798), (49, 629674014)], [(21, 1226982538), (53, 757220398)], [(9, 1218593929)], [], [], [], [], [], [], [], [(3, 118034610)], [(25, 160516754), (38, 15474756), (45, 15736898), (54, 34877538), (60, 27013220), (61, 29634659)], [], [], [], [], []]
def Ok42 : List (Nat × Int) := []
def Ol42 : List (Nat × Int) := []
theorem ow42 {s0 : State} (hN : NCs s0) : OwnOK s0 "AlgolHouse$Tag" Om42 Ok42 Ol42 := ⟨ow42_k, ow42_l, ow42_0, ow42_1, ow42_2, ow42_3, ow42_4, ow42_5, ow42_6, ow42_7, ow42_8 hN, ow42_9, ow42_10, ow42_11, ow42_12, ow42_13, ow42_14, ow42_15, ow42_16⟩
theorem ow43_k : ∀ q ∈ ([] : List (Nat × Int)), Cond.constant "AlgolHouse$Value" q.1 (Int32.ofInt q.2) ∈ lw_all := fun q h => by cases h
theorem ow43_l : ∀ q ∈ ([] : List (Nat × Int)), Cond.constantLong "AlgolHouse$Value" q.1 (Int64.ofInt q.2) ∈ lw_all := fun q h => by cases h
theorem ow43_0 : ∀ q ∈ ([(37, 1621775530), (41, 1630164138), (44, 1638552746), (50, 1655329960), (53, 1663718568)] : List (Nat × Nat)), q.2 ∈ iFs ∧ FLk "AlgolHouse$Value" q.1 q.2 := List.forall_mem_cons.mpr ⟨⟨List.mem_of_getElem? (i := 193) rfl, ⟨"AlgolHouse$Value", Or.inl (lw_g (lw_at lw_m16 164 rfl) rfl), Or.inl rfl⟩⟩, List.forall_mem_cons.mpr ⟨⟨List.mem_of_getElem? (i := 194) rfl, ⟨"AlgolHouse$Value", Or.inl (lw_g (lw_at lw_m16 168 rfl) rfl), Or.inl rfl⟩⟩, List.forall_mem_cons.mpr ⟨⟨List.mem_of_getElem? (i := 195) rfl, ⟨"AlgolHouse$Value", Or.inl (lw_g (lw_at lw_m16 170 rfl) rfl), Or.inl rfl⟩⟩, List.forall_mem_cons.mpr ⟨⟨List.mem_of_getElem? (i := 197) rfl, ⟨"AlgolHouse$Value", Or.inl (lw_g (lw_at lw_m16 177 rfl) rfl), Or.inl rfl⟩⟩, List.forall_mem_cons.mpr ⟨⟨List.mem_of_getElem? (i := 198) rfl, ⟨"AlgolHouse$Value", Or.inl (lw_g (lw_at lw_m16 181 rfl) rfl), Or.inl rfl⟩⟩, fun q h => by cases h⟩⟩⟩⟩⟩
theorem ow43_1 : ∀ q ∈ ([(7, 1563055275), (13, 1571443881), (17, 1579832490), (21, 1588221098), (25, 1596609706), (29, 1604998312), (33, 1613386922), (37, 1621775530), (41, 1630164138), (44, 1638552746), (47, 1646941352), (50, 1655329960), (53, 1663718568)] : List (Nat × Nat)), q.2 ∈ iFs ∧ PLk "AlgolHouse$Value" q.1 q.2 := List.forall_mem_cons.mpr ⟨⟨List.mem_of_getElem? (i := 186) rfl, ⟨"AlgolHouse$Value", Or.inl (lw_g (lw_at lw_m16 126 rfl) rfl), Or.inl rfl⟩, rfl⟩, List.forall_mem_cons.mpr ⟨⟨List.mem_of_getElem? (i := 187) rfl, ⟨"AlgolHouse$Value", Or.inl (lw_g (lw_at lw_m16 139 rfl) rfl), Or.inl rfl⟩, rfl⟩, List.forall_mem_cons.mpr ⟨⟨List.mem_of_getElem? (i := 188) rfl, ⟨"AlgolHouse$Value", Or.inl (lw_g (lw_at lw_m16 147 rfl) rfl), Or.inl rfl⟩, rfl⟩, List.forall_mem_cons.mpr ⟨⟨List.mem_of_getElem? (i := 189) rfl, ⟨"AlgolHouse$Value", Or.inl (lw_g (lw_at lw_m16 150 rfl) rfl), Or.inl rfl⟩, rfl⟩, List.forall_mem_cons.mpr ⟨⟨List.mem_of_getElem? (i := 190) rfl, ⟨"AlgolHouse$Value", Or.inl (lw_g (lw_at lw_m16 154 rfl) rfl), Or.inl rfl⟩, rfl⟩, List.forall_mem_cons.mpr ⟨⟨List.mem_of_getElem? (i := 191) rfl, ⟨"AlgolHouse$Value", Or.inl (lw_g (lw_at lw_m16 158 rfl) rfl), Or.inl rfl⟩, rfl⟩, List.forall_mem_cons.mpr ⟨⟨List.mem_of_getElem? (i := 192) rfl, ⟨"AlgolHouse$Value", Or.inl (lw_g (lw_at lw_m16 161 rfl) rfl), Or.inl rfl⟩, rfl⟩, List.forall_mem_cons.mpr ⟨⟨List.mem_of_getElem? (i := 193) rfl, ⟨"AlgolHouse$Value", Or.inl (lw_g (lw_at lw_m16 164 rfl) rfl), Or.inl rfl⟩, rfl⟩, List.forall_mem_cons.mpr ⟨⟨List.mem_of_getElem? (i := 194) rfl, ⟨"AlgolHouse$Value", Or.inl (lw_g (lw_at lw_m16 168 rfl) rfl), Or.inl rfl⟩, rfl⟩, List.forall_mem_cons.mpr ⟨⟨List.mem_of_getElem? (i := 195) rfl, ⟨"AlgolHouse$Value", Or.inl (lw_g (lw_at lw_m16 170 rfl) rfl), Or.inl rfl⟩, rfl⟩, List.forall_mem_cons.mpr ⟨⟨List.mem_of_getElem? (i := 196) rfl, ⟨"AlgolHouse$Value", Or.inl (lw_g (lw_at lw_m16 173 rfl) rfl), Or.inl rfl⟩, rfl⟩, List.forall_mem_cons.mpr ⟨⟨List.mem_of_getElem? (i := 197) rfl, ⟨"AlgolHouse$Value", Or.inl (lw_g (lw_at lw_m16 177 rfl) rfl), Or.inl rfl⟩, rfl⟩, List.forall_mem_cons.mpr ⟨⟨List.mem_of_getElem? (i := 198) rfl, ⟨"AlgolHouse$Value", Or.inl (lw_g (lw_at lw_m16 181 rfl) rfl), Or.inl rfl⟩, rfl⟩, fun q h => by cases h⟩⟩⟩⟩⟩⟩⟩⟩⟩⟩⟩⟩⟩
theorem ow43_2 : ∀ q ∈ ([] : List (Nat × Nat)), q.2 ∈ iFs ∧ PFk "AlgolHouse$Value" q.1 q.2 := fun q h => by cases h
theorem ow43_3 : ∀ q ∈ ([] : List (Nat × Nat)), q.2 ∈ sFs ∧ FLk "AlgolHouse$Value" q.1 q.2 := fun q h => by cases h
theorem ow43_4 : ∀ q ∈ ([] : List (Nat × Nat)), TLk "AlgolHouse$Value" q.1 q.2 ∧ q.2 % 4 = 2 := fun q h => by cases h
theorem ow43_5 : ∀ q ∈ ([] : List (Nat × Nat)), mdT q.2 = true ∧ NLk "AlgolHouse$Value" q.1 q.2 := fun q h => by cases h
theorem ow43_6 : ∀ q ∈ ([] : List (Nat × Nat)), mdA q.2 = true ∧ ak q.2 = 2 ∧ ALk "AlgolHouse$Value" q.1 q.2 := fun q h => by cases h
theorem ow43_7 : ∀ q ∈ ([] : List (Nat × Nat)), XLk "AlgolHouse$Value" q.1 q.2 := fun q h => by cases h
theorem ow43_8 {s0 : State} (hN : NCs s0) : ∀ q ∈ ([] : List (Nat × Nat)), YLk s0 "AlgolHouse$Value" q.1 q.2 := fun q h => by cases h
theorem ow43_9 : ∀ q ∈ ([] : List (Nat × Nat)), q.2 = ACN ∧ ACk "AlgolHouse$Value" q.1 ∨ q.2 ≠ ACN ∧ SMk "AlgolHouse$Value" q.1 q.2 := fun q h => by cases h
theorem ow43_10 : ∀ q ∈ ([] : List (Nat × Nat)), IMk "AlgolHouse$Value" q.1 q.2 ∧ ∀ t, inT (q.2 / 16 % 128) (q.2 / 2048 % 128) t → inT 1 55 t := fun q h => by cases h
theorem ow43_11 : ∀ q ∈ ([] : List (Nat × Nat)), VMk "AlgolHouse$Value" q.1 q.2 := fun q h => by cases h
theorem ow43_12 : ∀ q ∈ ([] : List (Nat × Nat)), ∀ n, pN q.2 n → PMk "AlgolHouse$Value" q.1 q.2 n := fun q h => by cases h
theorem ow43_13 : ∀ q ∈ ([(1, 0)] : List (Nat × Nat)), Cond.methodLink "AlgolHouse$Value" q.1 Lib.objectInit ∈ lw_all := List.forall_mem_cons.mpr ⟨lw_g (lw_at lw_m16 125 rfl) rfl, fun q h => by cases h⟩
theorem ow43_14 : ∀ q ∈ ([] : List (Nat × Nat)), JMk "AlgolHouse$Value" q.1 q.2 := fun q h => by cases h
theorem ow43_15 : ∀ q ∈ ([] : List (Nat × Nat)), exT q.2 ∧ NLk "AlgolHouse$Value" q.1 q.2 := fun q h => by cases h
theorem ow43_16 : ∀ q ∈ ([] : List (Nat × Nat)), exT q.2 ∧ Cond.methodLink "AlgolHouse$Value" q.1 ⟨cN q.2, "<init>", "()V"⟩ ∈ lw_all := fun q h => by cases h
def Om43 : Om := [[(37, 1621775530), (41, 1630164138), (44, 1638552746), (50, 1655329960), (53, 1663718568)], [(7, 1563055275), (13, 1571443881), (17, 1579832490), (21, 1588221098), (25, 1596609706), (29, 1604998312), (33, 1613386922), (37, 1621775530), (41, 1630164138), (44, 1638552746), (47, 1646941352), (50, 1655329960), (53, 1663718568)], [], [], [], [], [], [], [], [], [], [], [], [(1, 0)], [], [], []]
def Ok43 : List (Nat × Int) := []
def Ol43 : List (Nat × Int) := []
theorem ow43 {s0 : State} (hN : NCs s0) : OwnOK s0 "AlgolHouse$Value" Om43 Ok43 Ol43 := ⟨ow43_k, ow43_l, ow43_0, ow43_1, ow43_2, ow43_3, ow43_4, ow43_5, ow43_6, ow43_7, ow43_8 hN, ow43_9, ow43_10, ow43_11, ow43_12, ow43_13, ow43_14, ow43_15, ow43_16⟩
theorem ow44_k : ∀ q ∈ ([] : List (Nat × Int)), Cond.constant "AlgolHouse$Variable" q.1 (Int32.ofInt q.2) ∈ lw_all := fun q h => by cases h
theorem ow44_l : ∀ q ∈ ([] : List (Nat × Int)), Cond.constantLong "AlgolHouse$Variable" q.1 (Int64.ofInt q.2) ∈ lw_all := fun q h => by cases h
theorem ow44_0 : ∀ q ∈ ([(9, 873472067), (15, 881860674), (19, 890249281), (23, 898637888), (27, 907026499), (41, 823140410), (45, 748831790), (67, 126027276), (78, 453381144), (81, 740443180), (88, 201524750), (100, 436603930), (108, 444992538), (112, 1520980130), (118, 621285404)] : List (Nat × Nat)), q.2 ∈ iFs ∧ FLk "AlgolHouse$Variable" q.1 q.2 := List.forall_mem_cons.mpr ⟨⟨List.mem_of_getElem? (i := 104) rfl, ⟨"AlgolHouse$Variable", Or.inl (lw_g (lw_at lw_m10 182 rfl) rfl), Or.inl rfl⟩⟩, List.forall_mem_cons.mpr ⟨⟨List.mem_of_getElem? (i := 105) rfl, ⟨"AlgolHouse$Variable", Or.inl (lw_g (lw_at lw_m10 183 rfl) rfl), Or.inl rfl⟩⟩, List.forall_mem_cons.mpr ⟨⟨List.mem_of_getElem? (i := 106) rfl, ⟨"AlgolHouse$Variable", Or.inl (lw_g (lw_at lw_m10 184 rfl) rfl), Or.inl rfl⟩⟩, List.forall_mem_cons.mpr ⟨⟨List.mem_of_getElem? (i := 107) rfl, ⟨"AlgolHouse$Variable", Or.inl (lw_g (lw_at lw_m10 185 rfl) rfl), Or.inl rfl⟩⟩, List.forall_mem_cons.mpr ⟨⟨List.mem_of_getElem? (i := 108) rfl, ⟨"AlgolHouse$Variable", Or.inl (lw_g (lw_at lw_m10 186 rfl) rfl), Or.inl rfl⟩⟩, List.forall_mem_cons.mpr ⟨⟨List.mem_of_getElem? (i := 98) rfl, ⟨"AlgolHouse$Variable", Or.inl (lw_g (lw_at lw_m8 8 rfl) rfl), Or.inr (lw_g (lw_at lw_m8 9 rfl) rfl)⟩⟩, List.forall_mem_cons.mpr ⟨⟨List.mem_of_getElem? (i := 89) rfl, ⟨"AlgolHouse$Variable", Or.inl (lw_g (lw_at lw_m5 149 rfl) rfl), Or.inr (lw_g (lw_at lw_m5 150 rfl) rfl)⟩⟩, List.forall_mem_cons.mpr ⟨⟨List.mem_of_getElem? (i := 15) rfl, ⟨"AlgolHouse$Frame", Or.inr ⟨_, lw_at lw_m15 158 rfl⟩, Or.inl rfl⟩⟩, List.forall_mem_cons.mpr ⟨⟨List.mem_of_getElem? (i := 54) rfl, ⟨"AlgolHouse$Machine", Or.inr ⟨_, lw_at lw_m4 37 rfl⟩, Or.inl rfl⟩⟩, List.forall_mem_cons.mpr ⟨⟨List.mem_of_getElem? (i := 88) rfl, ⟨"AlgolHouse$Variable", Or.inl (lw_g (lw_at lw_m5 126 rfl) rfl), Or.inr (lw_g (lw_at lw_m5 127 rfl) rfl)⟩⟩, List.forall_mem_cons.mpr ⟨⟨List.mem_of_getElem? (i := 24) rfl, ⟨"AlgolHouse$Frame", Or.inr ⟨_, lw_at lw_m15 186 rfl⟩, Or.inl rfl⟩⟩, List.forall_mem_cons.mpr ⟨⟨List.mem_of_getElem? (i := 52) rfl, ⟨"AlgolHouse$Machine", Or.inr ⟨_, lw_at lw_m4 24 rfl⟩, Or.inl rfl⟩⟩, List.forall_mem_cons.mpr ⟨⟨List.mem_of_getElem? (i := 53) rfl, ⟨"AlgolHouse$Machine", Or.inr ⟨_, lw_at lw_m4 31 rfl⟩, Or.inl rfl⟩⟩, List.forall_mem_cons.mpr ⟨⟨List.mem_of_getElem? (i := 181) rfl, ⟨"AlgolHouse$Range", Or.inr ⟨_, lw_at lw_m3 232 rfl⟩, Or.inl rfl⟩⟩, List.forall_mem_cons.mpr ⟨⟨List.mem_of_getElem? (i := 74) rfl, ⟨"AlgolHouse$Meaning", Or.inl (lw_g (lw_at lw_m11 169 rfl) rfl), Or.inl rfl⟩⟩, fun q h => by cases h⟩⟩⟩⟩⟩⟩⟩⟩⟩⟩⟩⟩⟩⟩⟩
theorem ow44_1 : ∀ q ∈ ([(41, 823140410), (67, 126027276), (88, 201524750)] : List (Nat × Nat)), q.2 ∈ iFs ∧ PLk "AlgolHouse$Variable" q.1 q.2 := List.forall_mem_cons.mpr ⟨⟨List.mem_of_getElem? (i := 98) rfl, ⟨"AlgolHouse$Variable", Or.inl (lw_g (lw_at lw_m8 8 rfl) rfl), Or.inr (lw_g (lw_at lw_m8 9 rfl) rfl)⟩, rfl⟩, List.forall_mem_cons.mpr ⟨⟨List.mem_of_getElem? (i := 15) rfl, ⟨"AlgolHouse$Frame", Or.inr ⟨_, lw_at lw_m15 158 rfl⟩, Or.inl rfl⟩, rfl⟩, List.forall_mem_cons.mpr ⟨⟨List.mem_of_getElem? (i := 24) rfl, ⟨"AlgolHouse$Frame", Or.inr ⟨_, lw_at lw_m15 186 rfl⟩, Or.inl rfl⟩, rfl⟩, fun q h => by cases h⟩⟩⟩
theorem ow44_2 : ∀ q ∈ ([(9, 873472067), (15, 881860674), (19, 890249281), (23, 898637888), (27, 907026499)] : List (Nat × Nat)), q.2 ∈ iFs ∧ PFk "AlgolHouse$Variable" q.1 q.2 := List.forall_mem_cons.mpr ⟨⟨List.mem_of_getElem? (i := 104) rfl, rfl, rfl, "AlgolHouse$Variable", lw_g (lw_at lw_m10 182 rfl) rfl, Or.inl rfl⟩, List.forall_mem_cons.mpr ⟨⟨List.mem_of_getElem? (i := 105) rfl, rfl, rfl, "AlgolHouse$Variable", lw_g (lw_at lw_m10 183 rfl) rfl, Or.inl rfl⟩, List.forall_mem_cons.mpr ⟨⟨List.mem_of_getElem? (i := 106) rfl, rfl, rfl, "AlgolHouse$Variable", lw_g (lw_at lw_m10 184 rfl) rfl, Or.inl rfl⟩, List.forall_mem_cons.mpr ⟨⟨List.mem_of_getElem? (i := 107) rfl, rfl, rfl, "AlgolHouse$Variable", lw_g (lw_at lw_m10 185 rfl) rfl, Or.inl rfl⟩, List.forall_mem_cons.mpr ⟨⟨List.mem_of_getElem? (i := 108) rfl, rfl, rfl, "AlgolHouse$Variable", lw_g (lw_at lw_m10 186 rfl) rfl, Or.inl rfl⟩, fun q h => by cases h⟩⟩⟩⟩⟩
theorem ow44_3 : ∀ q ∈ ([] : List (Nat × Nat)), q.2 ∈ sFs ∧ FLk "AlgolHouse$Variable" q.1 q.2 := fun q h => by cases h
theorem ow44_4 : ∀ q ∈ ([] : List (Nat × Nat)), TLk "AlgolHouse$Variable" q.1 q.2 ∧ q.2 % 4 = 2 := fun q h => by cases h
theorem ow44_5 : ∀ q ∈ ([(30, 9)] : List (Nat × Nat)), mdT q.2 = true ∧ NLk "AlgolHouse$Variable" q.1 q.2 := List.forall_mem_cons.mpr ⟨⟨rfl, lw_g (lw_at lw_m11 218 rfl) rfl, lw_g (lw_at lw_m2 6 rfl) rfl, lw_g (lw_at lw_m1 13 rfl) rfl⟩, fun q h => by cases h⟩
theorem ow44_6 : ∀ q ∈ ([] : List (Nat × Nat)), mdA q.2 = true ∧ ak q.2 = 2 ∧ ALk "AlgolHouse$Variable" q.1 q.2 := fun q h => by cases h
theorem ow44_7 : ∀ q ∈ ([] : List (Nat × Nat)), XLk "AlgolHouse$Variable" q.1 q.2 := fun q h => by cases h
theorem ow44_8 {s0 : State} (hN : NCs s0) : ∀ q ∈ ([] : List (Nat × Nat)), YLk s0 "AlgolHouse$Variable" q.1 q.2 := fun q h => by cases h
theorem ow44_9 : ∀ q ∈ ([(59, 6029314)] : List (Nat × Nat)), q.2 = ACN ∧ ACk "AlgolHouse$Variable" q.1 ∨ q.2 ≠ ACN ∧ SMk "AlgolHouse$Variable" q.1 q.2 := List.forall_mem_cons.mpr ⟨Or.inr ⟨by decide, mok_X1_bound, np_X1_bound, ⟨sm_X1_bound, lw_g (lw_at lw_m1 1 rfl) rfl⟩, Or.inr ⟨_, lw_at lw_m13 100 rfl⟩⟩, fun q h => by cases h⟩
theorem ow44_10 : ∀ q ∈ ([(3, 127959266), (32, 24660115)] : List (Nat × Nat)), IMk "AlgolHouse$Variable" q.1 q.2 ∧ ∀ t, inT (q.2 / 16 % 128) (q.2 / 2048 % 128) t → inT 1 55 t := List.forall_mem_cons.mpr ⟨⟨⟨mok_X19_init, np_X19_init, by decide, rfl, im_X19_init, ⟨_, _, rfl⟩, Or.inl (lw_g (lw_at lw_m10 181 rfl) rfl)⟩, fun t ht => ⟨Nat.le_trans (by decide) ht.1, Nat.le_trans ht.2 (by decide)⟩⟩, List.forall_mem_cons.mpr ⟨⟨⟨mok_X6_init_2, np_X6_init_2, by decide, rfl, im_X6_init_2, ⟨_, _, rfl⟩, Or.inl (lw_g (lw_at lw_m11 219 rfl) rfl)⟩, fun t ht => ⟨Nat.le_trans (by decide) ht.1, Nat.le_trans ht.2 (by decide)⟩⟩, fun q h => by cases h⟩⟩
theorem ow44_11_0 : VMk "AlgolHouse$Variable" 35 15212613 := ⟨mok_X3_declare, by decide, fun t ht => by
  obtain rfl : t = 4 := Nat.le_antisymm (Nat.le_trans ht.2 (by decide)) (Nat.le_trans (by decide) ht.1)
  exact ⟨⟨by decide, by decide⟩, im_X3_declare, Or.inl ⟨np_X3_declare, lw_g (lw_at lw_m11 128 rfl) rfl, Or.inl (lw_g (lw_at lw_m11 220 rfl) rfl)⟩⟩⟩
theorem ow44_11_1 : VMk "AlgolHouse$Variable" 49 165249793 := ⟨mok_J6_size, by decide, fun t ht => by
  obtain rfl : t = 48 := Nat.le_antisymm (Nat.le_trans ht.2 (by decide)) (Nat.le_trans (by decide) ht.1)
  exact ⟨⟨by decide, by decide⟩, im_J6_size, Or.inl ⟨np_J6_size, lw_g (lw_at lw_m4 167 rfl) rfl, Or.inl (lw_g (lw_at lw_m17 227 rfl) rfl)⟩⟩⟩
theorem ow44_11_2 : VMk "AlgolHouse$Variable" 63 17047619 := ⟨mok_X3_strong, by decide, fun t ht => by
  obtain rfl : t = 4 := Nat.le_antisymm (Nat.le_trans ht.2 (by decide)) (Nat.le_trans (by decide) ht.1)
  exact ⟨⟨by decide, by decide⟩, im_X3_strong, Or.inl ⟨np_X3_strong, lw_g (lw_at lw_m12 134 rfl) rfl, Or.inl (lw_g (lw_at lw_m13 101 rfl) rfl)⟩⟩⟩
theorem ow44_11_3 : VMk "AlgolHouse$Variable" 72 27275364 := ⟨mok_X7_all, by decide, fun t ht => by
  obtain rfl : t = 6 := Nat.le_antisymm (Nat.le_trans ht.2 (by decide)) (Nat.le_trans (by decide) ht.1)
  exact ⟨⟨by decide, by decide⟩, im_X7_all, Or.inl ⟨np_X7_all, lw_g (lw_at lw_m15 233 rfl) rfl, Or.inl (lw_g (lw_at lw_m17 221 rfl) rfl)⟩⟩⟩
theorem ow44_11_4 : VMk "AlgolHouse$Variable" 84 32780389 := ⟨mok_X7_make, by decide, fun t ht => by
  obtain rfl : t = 6 := Nat.le_antisymm (Nat.le_trans ht.2 (by decide)) (Nat.le_trans (by decide) ht.1)
  exact ⟨⟨by decide, by decide⟩, im_X7_make, Or.inl ⟨np_X7_make, lw_g (lw_at lw_m17 61 rfl) rfl, Or.inl (lw_g (lw_at lw_m17 222 rfl) rfl)⟩⟩⟩
theorem ow44_11_5 : VMk "AlgolHouse$Variable" 92 159940865 := ⟨mok_X39_hasUnit, by decide, fun t ht => by
  obtain rfl : t = 16 := Nat.le_antisymm (Nat.le_trans ht.2 (by decide)) (Nat.le_trans (by decide) ht.1)
  exact ⟨⟨by decide, by decide⟩, im_X39_hasUnit, Or.inl ⟨np_X39_hasUnit, lw_g (lw_ms _ (List.mem_map.mpr ⟨_, List.mem_of_getElem? (i := 109) rfl, rfl⟩)) rfl, Or.inl (lw_g (lw_at lw_m17 223 rfl) rfl)⟩⟩⟩
theorem ow44_11_6 : VMk "AlgolHouse$Variable" 96 26488930 := ⟨mok_X7_push, by decide, fun t ht => by
  obtain rfl : t = 6 := Nat.le_antisymm (Nat.le_trans ht.2 (by decide)) (Nat.le_trans (by decide) ht.1)
  exact ⟨⟨by decide, by decide⟩, im_X7_push, Or.inl ⟨np_X7_push, lw_g (lw_at lw_m15 124 rfl) rfl, Or.inl (lw_g (lw_at lw_m17 228 rfl) rfl)⟩⟩⟩
theorem ow44_11_7 : VMk "AlgolHouse$Variable" 104 28061796 := ⟨mok_X7_put, by decide, fun t ht => by
  obtain rfl : t = 6 := Nat.le_antisymm (Nat.le_trans ht.2 (by decide)) (Nat.le_trans (by decide) ht.1)
  exact ⟨⟨by decide, by decide⟩, im_X7_put, Or.inl ⟨np_X7_put, lw_g (lw_at lw_m16 8 rfl) rfl, Or.inl (lw_g (lw_at lw_m17 229 rfl) rfl)⟩⟩⟩
theorem ow44_11_8 : VMk "AlgolHouse$Variable" 123 33042530 := ⟨mok_X7_name, by decide, fun t ht => by
  obtain rfl : t = 6 := Nat.le_antisymm (Nat.le_trans ht.2 (by decide)) (Nat.le_trans (by decide) ht.1)
  exact ⟨⟨by decide, by decide⟩, im_X7_name, Or.inl ⟨np_X7_name, lw_g (lw_at lw_m17 70 rfl) rfl, Or.inl (lw_g (lw_at lw_m17 230 rfl) rfl)⟩⟩⟩
theorem ow44_11_9 : VMk "AlgolHouse$Variable" 126 29634659 := ⟨mok_X7_done, by decide, fun t ht => by
  obtain rfl : t = 6 := Nat.le_antisymm (Nat.le_trans ht.2 (by decide)) (Nat.le_trans (by decide) ht.1)
  exact ⟨⟨by decide, by decide⟩, im_X7_done, Or.inl ⟨np_X7_done, lw_g (lw_at lw_m16 80 rfl) rfl, Or.inl (lw_g (lw_at lw_m17 231 rfl) rfl)⟩⟩⟩
theorem ow44_11 : ∀ q ∈ ([(35, 15212613), (49, 165249793), (63, 17047619), (72, 27275364), (84, 32780389), (92, 159940865), (96, 26488930), (104, 28061796), (123, 33042530), (126, 29634659)] : List (Nat × Nat)), VMk "AlgolHouse$Variable" q.1 q.2 := List.forall_mem_cons.mpr ⟨ow44_11_0, List.forall_mem_cons.mpr ⟨ow44_11_1, List.forall_mem_cons.mpr ⟨ow44_11_2, List.forall_mem_cons.mpr ⟨ow44_11_3, List.forall_mem_cons.mpr ⟨ow44_11_4, List.forall_mem_cons.mpr ⟨ow44_11_5, List.forall_mem_cons.mpr ⟨ow44_11_6, List.forall_mem_cons.mpr ⟨ow44_11_7, List.forall_mem_cons.mpr ⟨ow44_11_8, List.forall_mem_cons.mpr ⟨ow44_11_9, fun q h => by cases h⟩⟩⟩⟩⟩⟩⟩⟩⟩⟩
theorem ow44_12_0 : PMk "AlgolHouse$Variable" 55 46 2 := ⟨by decide, fun t m h => by
  rcases dsp_46 h with ⟨rfl, rfl⟩
  · exact ⟨mok_X12_part, ⟨by decide, by decide⟩, im_X12_part, Or.inr ⟨⟨"AlgolHouse$Variable", "part", "(I)LAlgolHouse$Node;"⟩, "AlgolHouse$Node", by decide +kernel, lw_g (lw_at lw_m13 97 rfl) rfl, lw_g (lw_at lw_m13 98 rfl) rfl, Or.inl (lw_at lw_m10 110 rfl), ⟨by decide +kernel, by decide +kernel⟩, lw_g (lw_at lw_m13 99 rfl) rfl⟩⟩⟩
theorem ow44_12 : ∀ q ∈ ([(55, 46)] : List (Nat × Nat)), ∀ n, pN q.2 n → PMk "AlgolHouse$Variable" q.1 q.2 n := List.forall_mem_cons.mpr ⟨(fun n hn => by cases hn; exact ow44_12_0), fun q h => by cases h⟩
theorem ow44_13 : ∀ q ∈ ([] : List (Nat × Nat)), Cond.methodLink "AlgolHouse$Variable" q.1 Lib.objectInit ∈ lw_all := fun q h => by cases h
theorem ow44_14 : ∀ q ∈ ([] : List (Nat × Nat)), JMk "AlgolHouse$Variable" q.1 q.2 := fun q h => by cases h
theorem ow44_15 : ∀ q ∈ ([] : List (Nat × Nat)), exT q.2 ∧ NLk "AlgolHouse$Variable" q.1 q.2 := fun q h => by cases h
theorem ow44_16 : ∀ q ∈ ([] : List (Nat × Nat)), exT q.2 ∧ Cond.methodLink "AlgolHouse$Variable" q.1 ⟨cN q.2, "<init>", "()V"⟩ ∈ lw_all := fun q h => by cases h
def Om44 : Om := [[(9, 873472067), (15, 881860674), (19, 890249281), (23, 898637888), (27, 907026499), (41, 823140410), (45, 748831790), (67, 126027276), (78, 453381144), (81, 740443180), (88, 201524750), (100, 436603930), (108, 444992538), (112, 1520980130), (118, 621285404)], [(41, 823140410), (67, 126027276), (88, 201524750)], [(9, 873472067), (15, 881860674), (19, 890249281), (23, 898637888), (27, 907026499)], [], [], [(30, 9)], [], [], [], [(59, 6029314)], [(3, 127959266), (32, 24660115)], [(35, 15212613), (49, 165249793), (63, 17047619), (72, 27275364), (84, 32780389), (92, 159940865), (96, 26488930), (104, 28061796), (123, 33042530), (126, 29634659)], [(55, 46)], [], [], [], []]
def Ok44 : List (Nat × Int) := []
def Ol44 : List (Nat × Int) := []
theorem ow44 {s0 : State} (hN : NCs s0) : OwnOK s0 "AlgolHouse$Variable" Om44 Ok44 Ol44 := ⟨ow44_k, ow44_l, ow44_0, ow44_1, ow44_2, ow44_3, ow44_4, ow44_5, ow44_6, ow44_7, ow44_8 hN, ow44_9, ow44_10, ow44_11, ow44_12, ow44_13, ow44_14, ow44_15, ow44_16⟩
theorem ow45_k : ∀ q ∈ ([] : List (Nat × Int)), Cond.constant "AlgolHouse$When" q.1 (Int32.ofInt q.2) ∈ lw_all := fun q h => by cases h
theorem ow45_l : ∀ q ∈ ([] : List (Nat × Int)), Cond.constantLong "AlgolHouse$When" q.1 (Int64.ofInt q.2) ∈ lw_all := fun q h => by cases h
theorem ow45_0 : ∀ q ∈ ([(12, 957754458), (18, 966143066), (21, 974531674), (24, 982920282), (27, 991308890), (30, 748831790), (67, 740443180), (83, 126027276), (98, 436603930), (110, 1563055275), (120, 1613386922), (130, 444992538), (138, 1520980130), (147, 1621775530), (171, 369495066)] : List (Nat × Nat)), q.2 ∈ iFs ∧ FLk "AlgolHouse$When" q.1 q.2 := List.forall_mem_cons.mpr ⟨⟨List.mem_of_getElem? (i := 114) rfl, ⟨"AlgolHouse$When", Or.inl (lw_g (lw_at lw_m9 140 rfl) rfl), Or.inl rfl⟩⟩, List.forall_mem_cons.mpr ⟨⟨List.mem_of_getElem? (i := 115) rfl, ⟨"AlgolHouse$When", Or.inl (lw_g (lw_at lw_m9 142 rfl) rfl), Or.inl rfl⟩⟩, List.forall_mem_cons.mpr ⟨⟨List.mem_of_getElem? (i := 116) rfl, ⟨"AlgolHouse$When", Or.inl (lw_g (lw_at lw_m9 144 rfl) rfl), Or.inl rfl⟩⟩, List.forall_mem_cons.mpr ⟨⟨List.mem_of_getElem? (i := 117) rfl, ⟨"AlgolHouse$When", Or.inl (lw_g (lw_at lw_m9 145 rfl) rfl), Or.inl rfl⟩⟩, List.forall_mem_cons.mpr ⟨⟨List.mem_of_getElem? (i := 118) rfl, ⟨"AlgolHouse$When", Or.inl (lw_g (lw_at lw_m9 146 rfl) rfl), Or.inl rfl⟩⟩, List.forall_mem_cons.mpr ⟨⟨List.mem_of_getElem? (i := 89) rfl, ⟨"AlgolHouse$When", Or.inl (lw_g (lw_at lw_m5 142 rfl) rfl), Or.inr (lw_g (lw_at lw_m5 143 rfl) rfl)⟩⟩, List.forall_mem_cons.mpr ⟨⟨List.mem_of_getElem? (i := 88) rfl, ⟨"AlgolHouse$When", Or.inl (lw_g (lw_at lw_m5 124 rfl) rfl), Or.inr (lw_g (lw_at lw_m5 125 rfl) rfl)⟩⟩, List.forall_mem_cons.mpr ⟨⟨List.mem_of_getElem? (i := 15) rfl, ⟨"AlgolHouse$Frame", Or.inr ⟨_, lw_at lw_m15 160 rfl⟩, Or.inl rfl⟩⟩, List.forall_mem_cons.mpr ⟨⟨List.mem_of_getElem? (i := 52) rfl, ⟨"AlgolHouse$Machine", Or.inr ⟨_, lw_at lw_m4 25 rfl⟩, Or.inl rfl⟩⟩, List.forall_mem_cons.mpr ⟨⟨List.mem_of_getElem? (i := 186) rfl, ⟨"AlgolHouse$Value", Or.inr ⟨_, lw_at lw_m16 135 rfl⟩, Or.inl rfl⟩⟩, List.forall_mem_cons.mpr ⟨⟨List.mem_of_getElem? (i := 192) rfl, ⟨"AlgolHouse$Value", Or.inr ⟨_, lw_at lw_m16 162 rfl⟩, Or.inl rfl⟩⟩, List.forall_mem_cons.mpr ⟨⟨List.mem_of_getElem? (i := 53) rfl, ⟨"AlgolHouse$Machine", Or.inr ⟨_, lw_at lw_m4 33 rfl⟩, Or.inl rfl⟩⟩, List.forall_mem_cons.mpr ⟨⟨List.mem_of_getElem? (i := 181) rfl, ⟨"AlgolHouse$Range", Or.inr ⟨_, lw_at lw_m3 233 rfl⟩, Or.inl rfl⟩⟩, List.forall_mem_cons.mpr ⟨⟨List.mem_of_getElem? (i := 193) rfl, ⟨"AlgolHouse$Value", Or.inr ⟨_, lw_at lw_m16 166 rfl⟩, Or.inl rfl⟩⟩, List.forall_mem_cons.mpr ⟨⟨List.mem_of_getElem? (i := 44) rfl, ⟨"AlgolHouse$Machine", Or.inr ⟨_, lw_at lw_m4 6 rfl⟩, Or.inl rfl⟩⟩, fun q h => by cases h⟩⟩⟩⟩⟩⟩⟩⟩⟩⟩⟩⟩⟩⟩⟩
theorem ow45_1 : ∀ q ∈ ([(83, 126027276)] : List (Nat × Nat)), q.2 ∈ iFs ∧ PLk "AlgolHouse$When" q.1 q.2 := List.forall_mem_cons.mpr ⟨⟨List.mem_of_getElem? (i := 15) rfl, ⟨"AlgolHouse$Frame", Or.inr ⟨_, lw_at lw_m15 160 rfl⟩, Or.inl rfl⟩, rfl⟩, fun q h => by cases h⟩
theorem ow45_2 : ∀ q ∈ ([(12, 957754458), (18, 966143066), (21, 974531674), (24, 982920282), (27, 991308890)] : List (Nat × Nat)), q.2 ∈ iFs ∧ PFk "AlgolHouse$When" q.1 q.2 := List.forall_mem_cons.mpr ⟨⟨List.mem_of_getElem? (i := 114) rfl, rfl, rfl, "AlgolHouse$When", lw_g (lw_at lw_m9 140 rfl) rfl, Or.inl rfl⟩, List.forall_mem_cons.mpr ⟨⟨List.mem_of_getElem? (i := 115) rfl, rfl, rfl, "AlgolHouse$When", lw_g (lw_at lw_m9 142 rfl) rfl, Or.inl rfl⟩, List.forall_mem_cons.mpr ⟨⟨List.mem_of_getElem? (i := 116) rfl, rfl, rfl, "AlgolHouse$When", lw_g (lw_at lw_m9 144 rfl) rfl, Or.inl rfl⟩, List.forall_mem_cons.mpr ⟨⟨List.mem_of_getElem? (i := 117) rfl, rfl, rfl, "AlgolHouse$When", lw_g (lw_at lw_m9 145 rfl) rfl, Or.inl rfl⟩, List.forall_mem_cons.mpr ⟨⟨List.mem_of_getElem? (i := 118) rfl, rfl, rfl, "AlgolHouse$When", lw_g (lw_at lw_m9 146 rfl) rfl, Or.inl rfl⟩, fun q h => by cases h⟩⟩⟩⟩⟩
theorem ow45_3 : ∀ q ∈ ([] : List (Nat × Nat)), q.2 ∈ sFs ∧ FLk "AlgolHouse$When" q.1 q.2 := fun q h => by cases h
theorem ow45_4 : ∀ q ∈ ([] : List (Nat × Nat)), TLk "AlgolHouse$When" q.1 q.2 ∧ q.2 % 4 = 2 := fun q h => by cases h
theorem ow45_5 : ∀ q ∈ ([(9, 48)] : List (Nat × Nat)), mdT q.2 = true ∧ NLk "AlgolHouse$When" q.1 q.2 := List.forall_mem_cons.mpr ⟨⟨rfl, lw_g (lw_at lw_m9 138 rfl) rfl, lw_g (lw_at lw_m1 187 rfl) rfl, lw_g (lw_at lw_m1 11 rfl) rfl⟩, fun q h => by cases h⟩
theorem ow45_6 : ∀ q ∈ ([] : List (Nat × Nat)), mdA q.2 = true ∧ ak q.2 = 2 ∧ ALk "AlgolHouse$When" q.1 q.2 := fun q h => by cases h
theorem ow45_7_0 : XLk "AlgolHouse$When" 59 6707 := (Or.inl ⟨"java/lang/Long", lw_g (lw_at lw_m14 93 rfl) rfl, fun t h1 h2 => by
  rcases (by omega : t = 51 ∨ t = 52) with rfl | rfl
  · exact ⟨⟨by omega, by omega⟩, Or.inl rfl⟩
  · exact ⟨⟨by omega, by omega⟩, Or.inl rfl⟩⟩)
theorem ow45_7_1 : XLk "AlgolHouse$When" 65 1161 := (Or.inl ⟨"AlgolHouse$Mode", lw_g (lw_at lw_m14 95 rfl) rfl, fun t h1 h2 => by
  obtain rfl : t = 9 := by omega
  exact ⟨⟨by omega, by omega⟩, Or.inl rfl⟩⟩)
theorem ow45_7_2 : XLk "AlgolHouse$When" 128 5289 := (Or.inl ⟨"AlgolHouse$Scope", lw_g (lw_at lw_m18 14 rfl) rfl, fun t h1 h2 => by
  obtain rfl : t = 41 := by omega
  exact ⟨⟨by omega, by omega⟩, Or.inl rfl⟩⟩)
theorem ow45_7_3 : XLk "AlgolHouse$When" 154 6449 := (Or.inl ⟨"java/lang/Integer", lw_g (lw_at lw_m18 5 rfl) rfl, fun t h1 h2 => by
  rcases (by omega : t = 49 ∨ t = 50) with rfl | rfl
  · exact ⟨⟨by omega, by omega⟩, Or.inl rfl⟩
  · exact ⟨⟨by omega, by omega⟩, Or.inl rfl⟩⟩)
theorem ow45_7 : ∀ q ∈ ([(59, 6707), (65, 1161), (128, 5289), (154, 6449)] : List (Nat × Nat)), XLk "AlgolHouse$When" q.1 q.2 := List.forall_mem_cons.mpr ⟨ow45_7_0, List.forall_mem_cons.mpr ⟨ow45_7_1, List.forall_mem_cons.mpr ⟨ow45_7_2, List.forall_mem_cons.mpr ⟨ow45_7_3, fun q h => by cases h⟩⟩⟩⟩
theorem ow45_8 {s0 : State} (hN : NCs s0) : ∀ q ∈ ([] : List (Nat × Nat)), YLk s0 "AlgolHouse$When" q.1 q.2 := fun q h => by cases h
theorem ow45_9 : ∀ q ∈ ([(163, 148373507), (167, 169869313)] : List (Nat × Nat)), q.2 = ACN ∧ ACk "AlgolHouse$When" q.1 ∨ q.2 ≠ ACN ∧ SMk "AlgolHouse$When" q.1 q.2 := List.forall_mem_cons.mpr ⟨Or.inr ⟨by decide, mok_X31_takes, np_X31_takes, ⟨sm_X31_takes, lw_g (lw_at lw_m1 58 rfl) rfl⟩, Or.inl (lw_g (lw_at lw_m18 8 rfl) rfl)⟩, List.forall_mem_cons.mpr ⟨Or.inr ⟨by decide, mok_J17_valueOf, np_J17_valueOf, ⟨sm_J17_valueOf, lw_g (lw_at lw_m1 25 rfl) rfl⟩, Or.inl (lw_g (lw_at lw_m18 13 rfl) rfl)⟩, fun q h => by cases h⟩⟩
theorem ow45_10 : ∀ q ∈ ([(3, 121155890), (11, 164987650)] : List (Nat × Nat)), IMk "AlgolHouse$When" q.1 q.2 ∧ ∀ t, inT (q.2 / 16 % 128) (q.2 / 2048 % 128) t → inT 1 55 t := List.forall_mem_cons.mpr ⟨⟨⟨mok_X13_init, np_X13_init, by decide, rfl, im_X13_init, ⟨_, _, rfl⟩, Or.inl (lw_g (lw_at lw_m9 137 rfl) rfl)⟩, fun t ht => ⟨Nat.le_trans (by decide) ht.1, Nat.le_trans ht.2 (by decide)⟩⟩, List.forall_mem_cons.mpr ⟨⟨⟨mok_J6_init_2, np_J6_init_2, by decide, rfl, im_J6_init_2, ⟨_, _, rfl⟩, Or.inl (lw_g (lw_at lw_m9 139 rfl) rfl)⟩, fun t ht => ⟨Nat.le_trans (by decide) ht.1, Nat.le_trans ht.2 (by decide)⟩⟩, fun q h => by cases h⟩⟩
theorem ow45_11_0 : VMk "AlgolHouse$When" 33 165249793 := ⟨mok_J6_size, by decide, fun t ht => by
  obtain rfl : t = 48 := Nat.le_antisymm (Nat.le_trans ht.2 (by decide)) (Nat.le_trans (by decide) ht.1)
  exact ⟨⟨by decide, by decide⟩, im_J6_size, Or.inl ⟨np_J6_size, lw_g (lw_at lw_m4 167 rfl) rfl, Or.inl (lw_g (lw_at lw_m12 62 rfl) rfl)⟩⟩⟩
theorem ow45_11_1 : VMk "AlgolHouse$When" 41 146846050 := ⟨mok_X31_isChoice, by decide, fun t ht => by
  obtain rfl : t = 22 := Nat.le_antisymm (Nat.le_trans ht.2 (by decide)) (Nat.le_trans (by decide) ht.1)
  exact ⟨⟨by decide, by decide⟩, im_X31_isChoice, Or.inl ⟨np_X31_isChoice, lw_g (lw_ms _ (List.mem_map.mpr ⟨_, List.mem_of_getElem? (i := 87) rfl, rfl⟩)) rfl, Or.inl (lw_g (lw_at lw_m13 106 rfl) rfl)⟩⟩⟩
theorem ow45_11_2 : VMk "AlgolHouse$When" 45 14950465 := ⟨mok_X3_begin, by decide, fun t ht => by
  obtain rfl : t = 4 := Nat.le_antisymm (Nat.le_trans ht.2 (by decide)) (Nat.le_trans (by decide) ht.1)
  exact ⟨⟨by decide, by decide⟩, im_X3_begin, Or.inl ⟨np_X3_begin, lw_g (lw_at lw_m11 92 rfl) rfl, Or.inl (lw_g (lw_at lw_m14 90 rfl) rfl)⟩⟩⟩
theorem ow45_11_3 : VMk "AlgolHouse$When" 51 165774082 := ⟨mok_J6_add, by decide, fun t ht => by
  obtain rfl : t = 48 := Nat.le_antisymm (Nat.le_trans ht.2 (by decide)) (Nat.le_trans (by decide) ht.1)
  exact ⟨⟨by decide, by decide⟩, im_J6_add, Or.inl ⟨np_J6_add, lw_g (lw_at lw_m6 44 rfl) rfl, Or.inl (lw_g (lw_at lw_m14 91 rfl) rfl)⟩⟩⟩
theorem ow45_11_4 : VMk "AlgolHouse$When" 55 166822658 := ⟨mok_J6_get, by decide, fun t ht => by
  obtain rfl : t = 48 := Nat.le_antisymm (Nat.le_trans ht.2 (by decide)) (Nat.le_trans (by decide) ht.1)
  exact ⟨⟨by decide, by decide⟩, im_J6_get, Or.inl ⟨np_J6_get, lw_g (lw_at lw_m7 79 rfl) rfl, Or.inl (lw_g (lw_at lw_m14 92 rfl) rfl)⟩⟩⟩
theorem ow45_11_5 : VMk "AlgolHouse$When" 61 171811633 := ⟨mok_J20_longValue, by decide, fun t ht => by
  rcases tg_51_52 (Nat.le_trans (by decide) ht.1) (Nat.le_trans ht.2 (by decide)) with rfl | rfl
  · exact ⟨⟨by decide, by decide⟩, im_J20_longValue, Or.inl ⟨np_J20_longValue, lw_g (lw_at lw_m7 199 rfl) rfl, Or.inl (lw_g (lw_at lw_m14 94 rfl) rfl)⟩⟩
  · exact ⟨⟨by decide, by decide⟩, im_J20_longValue, Or.inl ⟨np_J20_longValue, lw_g (lw_at lw_m7 199 rfl) rfl, Or.inl (lw_g (lw_at lw_m14 94 rfl) rfl)⟩⟩⟩
theorem ow45_11_6 : VMk "AlgolHouse$When" 71 15212613 := ⟨mok_X3_declare, by decide, fun t ht => by
  obtain rfl : t = 4 := Nat.le_antisymm (Nat.le_trans ht.2 (by decide)) (Nat.le_trans (by decide) ht.1)
  exact ⟨⟨by decide, by decide⟩, im_X3_declare, Or.inl ⟨np_X3_declare, lw_g (lw_at lw_m11 128 rfl) rfl, Or.inl (lw_g (lw_at lw_m14 96 rfl) rfl)⟩⟩⟩
theorem ow45_11_7 : VMk "AlgolHouse$When" 75 17309764 := ⟨mok_X3_come, by decide, fun t ht => by
  obtain rfl : t = 4 := Nat.le_antisymm (Nat.le_trans ht.2 (by decide)) (Nat.le_trans (by decide) ht.1)
  exact ⟨⟨by decide, by decide⟩, im_X3_come, Or.inl ⟨np_X3_come, lw_g (lw_at lw_m13 1 rfl) rfl, Or.inl (lw_g (lw_at lw_m13 105 rfl) rfl)⟩⟩⟩
theorem ow45_11_8 : VMk "AlgolHouse$When" 79 17834049 := ⟨mok_X3_end, by decide, fun t ht => by
  obtain rfl : t = 4 := Nat.le_antisymm (Nat.le_trans ht.2 (by decide)) (Nat.le_trans (by decide) ht.1)
  exact ⟨⟨by decide, by decide⟩, im_X3_end, Or.inl ⟨np_X3_end, lw_g (lw_at lw_m13 77 rfl) rfl, Or.inl (lw_g (lw_at lw_m13 110 rfl) rfl)⟩⟩⟩
theorem ow45_11_9 : VMk "AlgolHouse$When" 88 26488930 := ⟨mok_X7_push, by decide, fun t ht => by
  obtain rfl : t = 6 := Nat.le_antisymm (Nat.le_trans ht.2 (by decide)) (Nat.le_trans (by decide) ht.1)
  exact ⟨⟨by decide, by decide⟩, im_X7_push, Or.inl ⟨np_X7_push, lw_g (lw_at lw_m15 124 rfl) rfl, Or.inl (lw_g (lw_at lw_m17 235 rfl) rfl)⟩⟩⟩
theorem ow45_11_10 : VMk "AlgolHouse$When" 94 147894627 := ⟨mok_X31_choose, by decide, fun t ht => by
  obtain rfl : t = 22 := Nat.le_antisymm (Nat.le_trans ht.2 (by decide)) (Nat.le_trans (by decide) ht.1)
  exact ⟨⟨by decide, by decide⟩, im_X31_choose, Or.inl ⟨np_X31_choose, lw_g (lw_ms _ (List.mem_map.mpr ⟨_, List.mem_of_getElem? (i := 110) rfl, rfl⟩)) rfl, Or.inl (lw_g (lw_at lw_m17 236 rfl) rfl)⟩⟩⟩
theorem ow45_11_11 : VMk "AlgolHouse$When" 102 30683236 := ⟨mok_X7_leave, by decide, fun t ht => by
  obtain rfl : t = 6 := Nat.le_antisymm (Nat.le_trans ht.2 (by decide)) (Nat.le_trans (by decide) ht.1)
  exact ⟨⟨by decide, by decide⟩, im_X7_leave, Or.inl ⟨np_X7_leave, lw_g (lw_at lw_m16 103 rfl) rfl, Or.inl (lw_g (lw_at lw_m18 19 rfl) rfl)⟩⟩⟩
theorem ow45_11_12 : VMk "AlgolHouse$When" 106 29634659 := ⟨mok_X7_done, by decide, fun t ht => by
  obtain rfl : t = 6 := Nat.le_antisymm (Nat.le_trans ht.2 (by decide)) (Nat.le_trans (by decide) ht.1)
  exact ⟨⟨by decide, by decide⟩, im_X7_done, Or.inl ⟨np_X7_done, lw_g (lw_at lw_m16 80 rfl) rfl, Or.inl (lw_g (lw_at lw_m18 18 rfl) rfl)⟩⟩⟩
theorem ow45_11_13 : VMk "AlgolHouse$When" 116 27013220 := ⟨mok_X7_need, by decide, fun t ht => by
  obtain rfl : t = 6 := Nat.le_antisymm (Nat.le_trans ht.2 (by decide)) (Nat.le_trans (by decide) ht.1)
  exact ⟨⟨by decide, by decide⟩, im_X7_need, Or.inl ⟨np_X7_need, lw_g (lw_at lw_m15 132 rfl) rfl, Or.inl (lw_g (lw_at lw_m18 0 rfl) rfl)⟩⟩⟩
theorem ow45_11_14 : VMk "AlgolHouse$When" 124 148156771 := ⟨mok_X31_choice, by decide, fun t ht => by
  obtain rfl : t = 22 := Nat.le_antisymm (Nat.le_trans ht.2 (by decide)) (Nat.le_trans (by decide) ht.1)
  exact ⟨⟨by decide, by decide⟩, im_X31_choice, Or.inl ⟨np_X31_choice, lw_g (lw_ms _ (List.mem_map.mpr ⟨_, List.mem_of_getElem? (i := 111) rfl, rfl⟩)) rfl, Or.inl (lw_g (lw_at lw_m18 1 rfl) rfl)⟩⟩⟩
theorem ow45_11_15 : VMk "AlgolHouse$When" 134 30158948 := ⟨mok_X7_enter, by decide, fun t ht => by
  obtain rfl : t = 6 := Nat.le_antisymm (Nat.le_trans ht.2 (by decide)) (Nat.le_trans (by decide) ht.1)
  exact ⟨⟨by decide, by decide⟩, im_X7_enter, Or.inl ⟨np_X7_enter, lw_g (lw_at lw_m16 93 rfl) rfl, Or.inl (lw_g (lw_at lw_m18 15 rfl) rfl)⟩⟩⟩
theorem ow45_11_16 : VMk "AlgolHouse$When" 144 25446546 := ⟨mok_X6_isPlain, by decide, fun t ht => by
  obtain rfl : t = 9 := Nat.le_antisymm (Nat.le_trans ht.2 (by decide)) (Nat.le_trans (by decide) ht.1)
  exact ⟨⟨by decide, by decide⟩, im_X6_isPlain, Or.inl ⟨np_X6_isPlain, lw_g (lw_at lw_m12 140 rfl) rfl, Or.inl (lw_g (lw_at lw_m18 16 rfl) rfl)⟩⟩⟩
theorem ow45_11_17 : VMk "AlgolHouse$When" 150 30945377 := ⟨mok_X7_undefined, by decide, fun t ht => by
  obtain rfl : t = 6 := Nat.le_antisymm (Nat.le_trans ht.2 (by decide)) (Nat.le_trans (by decide) ht.1)
  exact ⟨⟨by decide, by decide⟩, im_X7_undefined, Or.inl ⟨np_X7_undefined, lw_g (lw_at lw_m16 114 rfl) rfl, Or.inl (lw_g (lw_at lw_m18 17 rfl) rfl)⟩⟩⟩
theorem ow45_11_18 : VMk "AlgolHouse$When" 156 170496785 := ⟨mok_J17_intValue, by decide, fun t ht => by
  rcases tg_49_50 (Nat.le_trans (by decide) ht.1) (Nat.le_trans ht.2 (by decide)) with rfl | rfl
  · exact ⟨⟨by decide, by decide⟩, im_J17_intValue, Or.inl ⟨np_J17_intValue, lw_g (lw_at lw_m7 192 rfl) rfl, Or.inl (lw_g (lw_at lw_m18 6 rfl) rfl)⟩⟩
  · exact ⟨⟨by decide, by decide⟩, im_J17_intValue, Or.inl ⟨np_J17_intValue, lw_g (lw_at lw_m7 192 rfl) rfl, Or.inl (lw_g (lw_at lw_m18 6 rfl) rfl)⟩⟩⟩
theorem ow45_11_19 : VMk "AlgolHouse$When" 159 24922257 := ⟨mok_X6_real, by decide, fun t ht => by
  obtain rfl : t = 9 := Nat.le_antisymm (Nat.le_trans ht.2 (by decide)) (Nat.le_trans (by decide) ht.1)
  exact ⟨⟨by decide, by decide⟩, im_X6_real, Or.inl ⟨np_X6_real, lw_g (lw_at lw_m11 4 rfl) rfl, Or.inl (lw_g (lw_at lw_m18 7 rfl) rfl)⟩⟩⟩
theorem ow45_11_20 : VMk "AlgolHouse$When" 174 19681443 := ⟨mok_X4_one, by decide, fun t ht => by
  obtain rfl : t = 10 := Nat.le_antisymm (Nat.le_trans ht.2 (by decide)) (Nat.le_trans (by decide) ht.1)
  exact ⟨⟨by decide, by decide⟩, im_X4_one, Or.inl ⟨np_X4_one, lw_g (lw_at lw_m11 9 rfl) rfl, Or.inl (lw_g (lw_at lw_m18 11 rfl) rfl)⟩⟩⟩
theorem ow45_11_21 : VMk "AlgolHouse$When" 180 22302883 := ⟨mok_X4_unites, by decide, fun t ht => by
  obtain rfl : t = 10 := Nat.le_antisymm (Nat.le_trans ht.2 (by decide)) (Nat.le_trans (by decide) ht.1)
  exact ⟨⟨by decide, by decide⟩, im_X4_unites, Or.inl ⟨np_X4_unites, lw_g (lw_at lw_m12 183 rfl) rfl, Or.inl (lw_g (lw_at lw_m18 12 rfl) rfl)⟩⟩⟩
theorem ow45_11 : ∀ q ∈ ([(33, 165249793), (41, 146846050), (45, 14950465), (51, 165774082), (55, 166822658), (61, 171811633), (71, 15212613), (75, 17309764), (79, 17834049), (88, 26488930), (94, 147894627), (102, 30683236), (106, 29634659), (116, 27013220), (124, 148156771), (134, 30158948), (144, 25446546), (150, 30945377), (156, 170496785), (159, 24922257), (174, 19681443), (180, 22302883)] : List (Nat × Nat)), VMk "AlgolHouse$When" q.1 q.2 := List.forall_mem_cons.mpr ⟨ow45_11_0, List.forall_mem_cons.mpr ⟨ow45_11_1, List.forall_mem_cons.mpr ⟨ow45_11_2, List.forall_mem_cons.mpr ⟨ow45_11_3, List.forall_mem_cons.mpr ⟨ow45_11_4, List.forall_mem_cons.mpr ⟨ow45_11_5, List.forall_mem_cons.mpr ⟨ow45_11_6, List.forall_mem_cons.mpr ⟨ow45_11_7, List.forall_mem_cons.mpr ⟨ow45_11_8, List.forall_mem_cons.mpr ⟨ow45_11_9, List.forall_mem_cons.mpr ⟨ow45_11_10, List.forall_mem_cons.mpr ⟨ow45_11_11, List.forall_mem_cons.mpr ⟨ow45_11_12, List.forall_mem_cons.mpr ⟨ow45_11_13, List.forall_mem_cons.mpr ⟨ow45_11_14, List.forall_mem_cons.mpr ⟨ow45_11_15, List.forall_mem_cons.mpr ⟨ow45_11_16, List.forall_mem_cons.mpr ⟨ow45_11_17, List.forall_mem_cons.mpr ⟨ow45_11_18, List.forall_mem_cons.mpr ⟨ow45_11_19, List.forall_mem_cons.mpr ⟨ow45_11_20, List.forall_mem_cons.mpr ⟨ow45_11_21, fun q h => by cases h⟩⟩⟩⟩⟩⟩⟩⟩⟩⟩⟩⟩⟩⟩⟩⟩⟩⟩⟩⟩⟩⟩
theorem ow45_12_0 : PMk "AlgolHouse$When" 37 39 2 := ⟨by decide, fun t m h => by
  rcases dsp_39 h with ⟨rfl, rfl⟩
  · exact ⟨mok_X12_part, ⟨by decide, by decide⟩, im_X12_part, Or.inr ⟨⟨"AlgolHouse$When", "part", "(I)LAlgolHouse$Node;"⟩, "AlgolHouse$Node", by decide +kernel, lw_g (lw_at lw_m12 105 rfl) rfl, lw_g (lw_at lw_m12 106 rfl) rfl, Or.inl (lw_at lw_m10 110 rfl), ⟨by decide +kernel, by decide +kernel⟩, lw_g (lw_at lw_m12 107 rfl) rfl⟩⟩⟩
theorem ow45_12 : ∀ q ∈ ([(37, 39)] : List (Nat × Nat)), ∀ n, pN q.2 n → PMk "AlgolHouse$When" q.1 q.2 n := List.forall_mem_cons.mpr ⟨(fun n hn => by cases hn; exact ow45_12_0), fun q h => by cases h⟩
theorem ow45_13 : ∀ q ∈ ([] : List (Nat × Nat)), Cond.methodLink "AlgolHouse$When" q.1 Lib.objectInit ∈ lw_all := fun q h => by cases h
theorem ow45_14 : ∀ q ∈ ([] : List (Nat × Nat)), JMk "AlgolHouse$When" q.1 q.2 := fun q h => by cases h
theorem ow45_15 : ∀ q ∈ ([] : List (Nat × Nat)), exT q.2 ∧ NLk "AlgolHouse$When" q.1 q.2 := fun q h => by cases h
theorem ow45_16 : ∀ q ∈ ([] : List (Nat × Nat)), exT q.2 ∧ Cond.methodLink "AlgolHouse$When" q.1 ⟨cN q.2, "<init>", "()V"⟩ ∈ lw_all := fun q h => by cases h
def Om45 : Om := [[(12, 957754458), (18, 966143066), (21, 974531674), (24, 982920282), (27, 991308890), (30, 748831790), (67, 740443180), (83, 126027276), (98, 436603930), (110, 1563055275), (120, 1613386922), (130, 444992538), (138, 1520980130), (147, 1621775530), (171, 369495066)], [(83, 126027276)], [(12, 957754458), (18, 966143066), (21, 974531674), (24, 982920282), (27, 991308890)], [], [], [(9, 48)], [], [(59, 6707), (65, 1161), (128, 5289), (154, 6449)], [], [(163, 148373507), (167, 169869313)], [(3, 121155890), (11, 164987650)], [(33, 165249793), (41, 146846050), (45, 14950465), (51, 165774082), (55, 166822658), (61, 171811633), (71, 15212613), (75, 17309764), (79, 17834049), (88, 26488930), (94, 147894627), (102, 30683236), (106, 29634659), (116, 27013220), (124, 148156771), (134, 30158948), (144, 25446546), (150, 30945377), (156, 170496785), (159, 24922257), (174, 19681443), (180, 22302883)], [(37, 39)], [], [], [], []]
def Ok45 : List (Nat × Int) := []
def Ol45 : List (Nat × Int) := []
theorem ow45 {s0 : State} (hN : NCs s0) : OwnOK s0 "AlgolHouse$When" Om45 Ok45 Ol45 := ⟨ow45_k, ow45_l, ow45_0, ow45_1, ow45_2, ow45_3, ow45_4, ow45_5, ow45_6, ow45_7, ow45_8 hN, ow45_9, ow45_10, ow45_11, ow45_12, ow45_13, ow45_14, ow45_15, ow45_16⟩
theorem ow46_k : ∀ q ∈ ([] : List (Nat × Int)), Cond.constant "AlgolHouseLaw" q.1 (Int32.ofInt q.2) ∈ lw_all := fun q h => by cases h
theorem ow46_l : ∀ q ∈ ([(75, 4294967295)] : List (Nat × Int)), Cond.constantLong "AlgolHouseLaw" q.1 (Int64.ofInt q.2) ∈ lw_all := List.forall_mem_cons.mpr ⟨lw_g (lw_at lw_m25 83 rfl) rfl, fun q h => by cases h⟩
theorem ow46_0 : ∀ q ∈ ([] : List (Nat × Nat)), q.2 ∈ iFs ∧ FLk "AlgolHouseLaw" q.1 q.2 := fun q h => by cases h
theorem ow46_1 : ∀ q ∈ ([] : List (Nat × Nat)), q.2 ∈ iFs ∧ PLk "AlgolHouseLaw" q.1 q.2 := fun q h => by cases h
theorem ow46_2 : ∀ q ∈ ([] : List (Nat × Nat)), q.2 ∈ iFs ∧ PFk "AlgolHouseLaw" q.1 q.2 := fun q h => by cases h
theorem ow46_3 : ∀ q ∈ ([] : List (Nat × Nat)), q.2 ∈ sFs ∧ FLk "AlgolHouseLaw" q.1 q.2 := fun q h => by cases h
theorem ow46_4 : ∀ q ∈ ([] : List (Nat × Nat)), TLk "AlgolHouseLaw" q.1 q.2 ∧ q.2 % 4 = 2 := fun q h => by cases h
theorem ow46_5 : ∀ q ∈ ([(8, 1), (72, 43)] : List (Nat × Nat)), mdT q.2 = true ∧ NLk "AlgolHouseLaw" q.1 q.2 := List.forall_mem_cons.mpr ⟨⟨rfl, lw_g (lw_at lw_m1 77 rfl) rfl, lw_g (lw_at lw_m1 78 rfl) rfl, lw_g (lw_at lw_m1 1 rfl) rfl⟩, List.forall_mem_cons.mpr ⟨⟨rfl, lw_g (lw_at lw_m18 114 rfl) rfl, lw_g (lw_at lw_m18 115 rfl) rfl, lw_g (lw_at lw_m1 29 rfl) rfl⟩, fun q h => by cases h⟩⟩
theorem ow46_6 : ∀ q ∈ ([] : List (Nat × Nat)), mdA q.2 = true ∧ ak q.2 = 2 ∧ ALk "AlgolHouseLaw" q.1 q.2 := fun q h => by cases h
theorem ow46_7 : ∀ q ∈ ([] : List (Nat × Nat)), XLk "AlgolHouseLaw" q.1 q.2 := fun q h => by cases h
theorem ow46_8 {s0 : State} (hN : NCs s0) : ∀ q ∈ ([] : List (Nat × Nat)), YLk s0 "AlgolHouseLaw" q.1 q.2 := fun q h => by cases h
theorem ow46_9 : ∀ q ∈ ([(82, 2), (91, 262147), (103, 524291), (106, 786437), (110, 1048581), (113, 1310725), (116, 1572869), (119, 1835014), (123, 2097156), (127, 2359301), (135, 2621443), (138, 2883587), (141, 3145731), (144, 3407877), (147, 3670020), (150, 3932164)] : List (Nat × Nat)), q.2 = ACN ∧ ACk "AlgolHouseLaw" q.1 ∨ q.2 ≠ ACN ∧ SMk "AlgolHouseLaw" q.1 q.2 := List.forall_mem_cons.mpr ⟨Or.inr ⟨by decide, mok_X0_read, np_X0_read, ⟨sm_X0_read, lw_g (lw_at lw_m1 0 rfl) rfl⟩, Or.inl (lw_g (lw_at lw_m4 181 rfl) rfl)⟩, List.forall_mem_cons.mpr ⟨Or.inr ⟨by decide, mok_X0_fault, np_X0_fault, ⟨sm_X0_fault, lw_g (lw_at lw_m1 0 rfl) rfl⟩, Or.inl (lw_g (lw_at lw_m14 123 rfl) rfl)⟩, List.forall_mem_cons.mpr ⟨Or.inr ⟨by decide, mok_X0_nodes, np_X0_nodes, ⟨sm_X0_nodes, lw_g (lw_at lw_m1 0 rfl) rfl⟩, Or.inl (lw_g (lw_at lw_m14 139 rfl) rfl)⟩, List.forall_mem_cons.mpr ⟨Or.inr ⟨by decide, mok_X0_node, np_X0_node, ⟨sm_X0_node, lw_g (lw_at lw_m1 0 rfl) rfl⟩, Or.inl (lw_g (lw_at lw_m14 188 rfl) rfl)⟩, List.forall_mem_cons.mpr ⟨Or.inr ⟨by decide, mok_X0_step, np_X0_step, ⟨sm_X0_step, lw_g (lw_at lw_m1 0 rfl) rfl⟩, Or.inl (lw_g (lw_at lw_m15 63 rfl) rfl)⟩, List.forall_mem_cons.mpr ⟨Or.inr ⟨by decide, mok_X0_mode, np_X0_mode, ⟨sm_X0_mode, lw_g (lw_at lw_m1 0 rfl) rfl⟩, Or.inl (lw_g (lw_at lw_m15 70 rfl) rfl)⟩, List.forall_mem_cons.mpr ⟨Or.inr ⟨by decide, mok_X0_parts, np_X0_parts, ⟨sm_X0_parts, lw_g (lw_at lw_m1 0 rfl) rfl⟩, Or.inl (lw_g (lw_at lw_m15 82 rfl) rfl)⟩, List.forall_mem_cons.mpr ⟨Or.inr ⟨by decide, mok_X0_one, np_X0_one, ⟨sm_X0_one, lw_g (lw_at lw_m1 0 rfl) rfl⟩, Or.inl (lw_g (lw_at lw_m15 90 rfl) rfl)⟩, List.forall_mem_cons.mpr ⟨Or.inr ⟨by decide, mok_X0_meant, np_X0_meant, ⟨sm_X0_meant, lw_g (lw_at lw_m1 0 rfl) rfl⟩, Or.inl (lw_g (lw_at lw_m15 98 rfl) rfl)⟩, List.forall_mem_cons.mpr ⟨Or.inr ⟨by decide, mok_X0_run, np_X0_run, ⟨sm_X0_run, lw_g (lw_at lw_m1 0 rfl) rfl⟩, Or.inl (lw_g (lw_at lw_m15 107 rfl) rfl)⟩, List.forall_mem_cons.mpr ⟨Or.inr ⟨by decide, mok_X0_number, np_X0_number, ⟨sm_X0_number, lw_g (lw_at lw_m1 0 rfl) rfl⟩, Or.inl (lw_g (lw_at lw_m18 29 rfl) rfl)⟩, List.forall_mem_cons.mpr ⟨Or.inr ⟨by decide, mok_X0_kind, np_X0_kind, ⟨sm_X0_kind, lw_g (lw_at lw_m1 0 rfl) rfl⟩, Or.inl (lw_g (lw_at lw_m18 36 rfl) rfl)⟩, List.forall_mem_cons.mpr ⟨Or.inr ⟨by decide, mok_X0_ran, np_X0_ran, ⟨sm_X0_ran, lw_g (lw_at lw_m1 0 rfl) rfl⟩, Or.inl (lw_g (lw_at lw_m18 43 rfl) rfl)⟩, List.forall_mem_cons.mpr ⟨Or.inr ⟨by decide, mok_X0_orders, np_X0_orders, ⟨sm_X0_orders, lw_g (lw_at lw_m1 0 rfl) rfl⟩, Or.inl (lw_g (lw_at lw_m18 50 rfl) rfl)⟩, List.forall_mem_cons.mpr ⟨Or.inr ⟨by decide, mok_X0_outcome, np_X0_outcome, ⟨sm_X0_outcome, lw_g (lw_at lw_m1 0 rfl) rfl⟩, Or.inl (lw_g (lw_at lw_m18 100 rfl) rfl)⟩, List.forall_mem_cons.mpr ⟨Or.inr ⟨by decide, mok_X0_outcomes, np_X0_outcomes, ⟨sm_X0_outcomes, lw_g (lw_at lw_m1 0 rfl) rfl⟩, Or.inl (lw_g (lw_at lw_m18 107 rfl) rfl)⟩, fun q h => by cases h⟩⟩⟩⟩⟩⟩⟩⟩⟩⟩⟩⟩⟩⟩⟩⟩
theorem ow46_10 : ∀ q ∈ ([(71, 4196369), (74, 36788913)] : List (Nat × Nat)), IMk "AlgolHouseLaw" q.1 q.2 ∧ ∀ t, inT (q.2 / 16 % 128) (q.2 / 2048 % 128) t → inT 1 55 t := List.forall_mem_cons.mpr ⟨⟨⟨mok_X1_init, np_X1_init, by decide, rfl, im_X1_init, ⟨_, _, rfl⟩, Or.inl (lw_g (lw_at lw_m1 79 rfl) rfl)⟩, fun t ht => ⟨Nat.le_trans (by decide) ht.1, Nat.le_trans ht.2 (by decide)⟩⟩, List.forall_mem_cons.mpr ⟨⟨⟨mok_X10_init, np_X10_init, by decide, rfl, im_X10_init, ⟨_, _, rfl⟩, Or.inl (lw_g (lw_at lw_m18 116 rfl) rfl)⟩, fun t ht => ⟨Nat.le_trans (by decide) ht.1, Nat.le_trans ht.2 (by decide)⟩⟩, fun q h => by cases h⟩⟩
theorem ow46_11_0 : VMk "AlgolHouseLaw" 7 5507089 := ⟨mok_X1_read, by decide, fun t ht => by
  obtain rfl : t = 1 := Nat.le_antisymm (Nat.le_trans ht.2 (by decide)) (Nat.le_trans (by decide) ht.1)
  exact ⟨⟨by decide, by decide⟩, im_X1_read, Or.inl ⟨np_X1_read, lw_g (lw_at lw_m4 187 rfl) rfl, Or.inl (lw_g (lw_at lw_m4 185 rfl) rfl)⟩⟩⟩
theorem ow46_11_1 : VMk "AlgolHouseLaw" 15 6293522 := ⟨mok_X1_fault, by decide, fun t ht => by
  obtain rfl : t = 1 := Nat.le_antisymm (Nat.le_trans ht.2 (by decide)) (Nat.le_trans (by decide) ht.1)
  exact ⟨⟨by decide, by decide⟩, im_X1_fault, Or.inl ⟨np_X1_fault, lw_g (lw_at lw_m14 129 rfl) rfl, Or.inl (lw_g (lw_at lw_m14 127 rfl) rfl)⟩⟩⟩
theorem ow46_11_2 : VMk "AlgolHouseLaw" 21 6817810 := ⟨mok_X1_nodes, by decide, fun t ht => by
  obtain rfl : t = 1 := Nat.le_antisymm (Nat.le_trans ht.2 (by decide)) (Nat.le_trans (by decide) ht.1)
  exact ⟨⟨by decide, by decide⟩, im_X1_nodes, Or.inl ⟨np_X1_nodes, lw_g (lw_at lw_m14 163 rfl) rfl, Or.inl (lw_g (lw_at lw_m14 161 rfl) rfl)⟩⟩⟩
theorem ow46_11_3 : VMk "AlgolHouseLaw" 26 7604244 := ⟨mok_X1_node, by decide, fun t ht => by
  obtain rfl : t = 1 := Nat.le_antisymm (Nat.le_trans ht.2 (by decide)) (Nat.le_trans (by decide) ht.1)
  exact ⟨⟨by decide, by decide⟩, im_X1_node, Or.inl ⟨np_X1_node, lw_g (lw_at lw_m14 193 rfl) rfl, Or.inl (lw_g (lw_at lw_m14 191 rfl) rfl)⟩⟩⟩
theorem ow46_11_4 : VMk "AlgolHouseLaw" 30 8128532 := ⟨mok_X1_step, by decide, fun t ht => by
  obtain rfl : t = 1 := Nat.le_antisymm (Nat.le_trans ht.2 (by decide)) (Nat.le_trans (by decide) ht.1)
  exact ⟨⟨by decide, by decide⟩, im_X1_step, Or.inl ⟨np_X1_step, lw_g (lw_at lw_m15 68 rfl) rfl, Or.inl (lw_g (lw_at lw_m15 66 rfl) rfl)⟩⟩⟩
theorem ow46_11_5 : VMk "AlgolHouseLaw" 33 8390676 := ⟨mok_X1_mode, by decide, fun t ht => by
  obtain rfl : t = 1 := Nat.le_antisymm (Nat.le_trans ht.2 (by decide)) (Nat.le_trans (by decide) ht.1)
  exact ⟨⟨by decide, by decide⟩, im_X1_mode, Or.inl ⟨np_X1_mode, lw_g (lw_at lw_m15 75 rfl) rfl, Or.inl (lw_g (lw_at lw_m15 73 rfl) rfl)⟩⟩⟩
theorem ow46_11_6 : VMk "AlgolHouseLaw" 36 8914964 := ⟨mok_X1_parts, by decide, fun t ht => by
  obtain rfl : t = 1 := Nat.le_antisymm (Nat.le_trans ht.2 (by decide)) (Nat.le_trans (by decide) ht.1)
  exact ⟨⟨by decide, by decide⟩, im_X1_parts, Or.inl ⟨np_X1_parts, lw_g (lw_at lw_m15 87 rfl) rfl, Or.inl (lw_g (lw_at lw_m15 85 rfl) rfl)⟩⟩⟩
theorem ow46_11_7 : VMk "AlgolHouseLaw" 39 9177109 := ⟨mok_X1_one, by decide, fun t ht => by
  obtain rfl : t = 1 := Nat.le_antisymm (Nat.le_trans ht.2 (by decide)) (Nat.le_trans (by decide) ht.1)
  exact ⟨⟨by decide, by decide⟩, im_X1_one, Or.inl ⟨np_X1_one, lw_g (lw_at lw_m15 95 rfl) rfl, Or.inl (lw_g (lw_at lw_m15 93 rfl) rfl)⟩⟩⟩
theorem ow46_11_8 : VMk "AlgolHouseLaw" 43 9439251 := ⟨mok_X1_meant, by decide, fun t ht => by
  obtain rfl : t = 1 := Nat.le_antisymm (Nat.le_trans ht.2 (by decide)) (Nat.le_trans (by decide) ht.1)
  exact ⟨⟨by decide, by decide⟩, im_X1_meant, Or.inl ⟨np_X1_meant, lw_g (lw_at lw_m15 103 rfl) rfl, Or.inl (lw_g (lw_at lw_m15 101 rfl) rfl)⟩⟩⟩
theorem ow46_11_9 : VMk "AlgolHouseLaw" 47 9701396 := ⟨mok_X1_run, by decide, fun t ht => by
  obtain rfl : t = 1 := Nat.le_antisymm (Nat.le_trans ht.2 (by decide)) (Nat.le_trans (by decide) ht.1)
  exact ⟨⟨by decide, by decide⟩, im_X1_run, Or.inl ⟨np_X1_run, lw_g (lw_at lw_m15 112 rfl) rfl, Or.inl (lw_g (lw_at lw_m15 110 rfl) rfl)⟩⟩⟩
theorem ow46_11_10 : VMk "AlgolHouseLaw" 51 9963538 := ⟨mok_X1_number, by decide, fun t ht => by
  obtain rfl : t = 1 := Nat.le_antisymm (Nat.le_trans ht.2 (by decide)) (Nat.le_trans (by decide) ht.1)
  exact ⟨⟨by decide, by decide⟩, im_X1_number, Or.inl ⟨np_X1_number, lw_g (lw_at lw_m18 34 rfl) rfl, Or.inl (lw_g (lw_at lw_m18 32 rfl) rfl)⟩⟩⟩
theorem ow46_11_11 : VMk "AlgolHouseLaw" 55 10225682 := ⟨mok_X1_kind, by decide, fun t ht => by
  obtain rfl : t = 1 := Nat.le_antisymm (Nat.le_trans ht.2 (by decide)) (Nat.le_trans (by decide) ht.1)
  exact ⟨⟨by decide, by decide⟩, im_X1_kind, Or.inl ⟨np_X1_kind, lw_g (lw_at lw_m18 41 rfl) rfl, Or.inl (lw_g (lw_at lw_m18 39 rfl) rfl)⟩⟩⟩
theorem ow46_11_12 : VMk "AlgolHouseLaw" 58 10487826 := ⟨mok_X1_ran, by decide, fun t ht => by
  obtain rfl : t = 1 := Nat.le_antisymm (Nat.le_trans ht.2 (by decide)) (Nat.le_trans (by decide) ht.1)
  exact ⟨⟨by decide, by decide⟩, im_X1_ran, Or.inl ⟨np_X1_ran, lw_g (lw_at lw_m18 48 rfl) rfl, Or.inl (lw_g (lw_at lw_m18 46 rfl) rfl)⟩⟩⟩
theorem ow46_11_13 : VMk "AlgolHouseLaw" 61 10749972 := ⟨mok_X1_orders, by decide, fun t ht => by
  obtain rfl : t = 1 := Nat.le_antisymm (Nat.le_trans ht.2 (by decide)) (Nat.le_trans (by decide) ht.1)
  exact ⟨⟨by decide, by decide⟩, im_X1_orders, Or.inl ⟨np_X1_orders, lw_g (lw_at lw_m18 55 rfl) rfl, Or.inl (lw_g (lw_at lw_m18 53 rfl) rfl)⟩⟩⟩
theorem ow46_11_14 : VMk "AlgolHouseLaw" 64 11274259 := ⟨mok_X1_outcome, by decide, fun t ht => by
  obtain rfl : t = 1 := Nat.le_antisymm (Nat.le_trans ht.2 (by decide)) (Nat.le_trans (by decide) ht.1)
  exact ⟨⟨by decide, by decide⟩, im_X1_outcome, Or.inl ⟨np_X1_outcome, lw_g (lw_at lw_m18 105 rfl) rfl, Or.inl (lw_g (lw_at lw_m18 103 rfl) rfl)⟩⟩⟩
theorem ow46_11_15 : VMk "AlgolHouseLaw" 67 11536403 := ⟨mok_X1_outcomes, by decide, fun t ht => by
  obtain rfl : t = 1 := Nat.le_antisymm (Nat.le_trans ht.2 (by decide)) (Nat.le_trans (by decide) ht.1)
  exact ⟨⟨by decide, by decide⟩, im_X1_outcomes, Or.inl ⟨np_X1_outcomes, lw_g (lw_at lw_m18 112 rfl) rfl, Or.inl (lw_g (lw_at lw_m18 110 rfl) rfl)⟩⟩⟩
theorem ow46_11_16 : VMk "AlgolHouseLaw" 77 4458514 := ⟨mok_X1_type, by decide, fun t ht => by
  obtain rfl : t = 1 := Nat.le_antisymm (Nat.le_trans ht.2 (by decide)) (Nat.le_trans (by decide) ht.1)
  exact ⟨⟨by decide, by decide⟩, im_X1_type, Or.inl ⟨np_X1_type, lw_g (lw_at lw_m4 158 rfl) rfl, Or.inl (lw_g (lw_at lw_m4 156 rfl) rfl)⟩⟩⟩
theorem ow46_11_17 : VMk "AlgolHouseLaw" 81 37313202 := ⟨mok_X10_type, by decide, fun t ht => by
  obtain rfl : t = 43 := Nat.le_antisymm (Nat.le_trans ht.2 (by decide)) (Nat.le_trans (by decide) ht.1)
  exact ⟨⟨by decide, by decide⟩, im_X10_type, Or.inl ⟨np_X10_type, lw_g (lw_at lw_m21 51 rfl) rfl, Or.inl (lw_g (lw_at lw_m21 49 rfl) rfl)⟩⟩⟩
theorem ow46_11_18 : VMk "AlgolHouseLaw" 87 37575345 := ⟨mok_X10_read, by decide, fun t ht => by
  obtain rfl : t = 43 := Nat.le_antisymm (Nat.le_trans ht.2 (by decide)) (Nat.le_trans (by decide) ht.1)
  exact ⟨⟨by decide, by decide⟩, im_X10_read, Or.inl ⟨np_X10_read, lw_g (lw_at lw_m21 56 rfl) rfl, Or.inl (lw_g (lw_at lw_m21 54 rfl) rfl)⟩⟩⟩
theorem ow46_11_19 : VMk "AlgolHouseLaw" 88 37051057 := ⟨mok_X10_thrown, by decide, fun t ht => by
  obtain rfl : t = 43 := Nat.le_antisymm (Nat.le_trans ht.2 (by decide)) (Nat.le_trans (by decide) ht.1)
  exact ⟨⟨by decide, by decide⟩, im_X10_thrown, Or.inl ⟨np_X10_thrown, lw_g (lw_at lw_m21 47 rfl) rfl, Or.inl (lw_g (lw_at lw_m21 45 rfl) rfl)⟩⟩⟩
theorem ow46_11_20 : VMk "AlgolHouseLaw" 94 77159090 := ⟨mok_X10_fault, by decide, fun t ht => by
  obtain rfl : t = 43 := Nat.le_antisymm (Nat.le_trans ht.2 (by decide)) (Nat.le_trans (by decide) ht.1)
  exact ⟨⟨by decide, by decide⟩, im_X10_fault, Or.inl ⟨np_X10_fault, lw_g (lw_at lw_m23 197 rfl) rfl, Or.inl (lw_g (lw_at lw_m23 195 rfl) rfl)⟩⟩⟩
theorem ow46_11_21 : VMk "AlgolHouseLaw" 95 4720657 := ⟨mok_X1_programs, by decide, fun t ht => by
  obtain rfl : t = 1 := Nat.le_antisymm (Nat.le_trans ht.2 (by decide)) (Nat.le_trans (by decide) ht.1)
  exact ⟨⟨by decide, by decide⟩, im_X1_programs, Or.inl ⟨np_X1_programs, lw_g (lw_at lw_m4 163 rfl) rfl, Or.inl (lw_g (lw_at lw_m4 161 rfl) rfl)⟩⟩⟩
theorem ow46_11_22 : VMk "AlgolHouseLaw" 98 77421233 := ⟨mok_X10_programs, by decide, fun t ht => by
  obtain rfl : t = 43 := Nat.le_antisymm (Nat.le_trans ht.2 (by decide)) (Nat.le_trans (by decide) ht.1)
  exact ⟨⟨by decide, by decide⟩, im_X10_programs, Or.inl ⟨np_X10_programs, lw_g (lw_at lw_m23 201 rfl) rfl, Or.inl (lw_g (lw_at lw_m23 199 rfl) rfl)⟩⟩⟩
theorem ow46_11_23 : VMk "AlgolHouseLaw" 99 4982801 := ⟨mok_X1_clear, by decide, fun t ht => by
  obtain rfl : t = 1 := Nat.le_antisymm (Nat.le_trans ht.2 (by decide)) (Nat.le_trans (by decide) ht.1)
  exact ⟨⟨by decide, by decide⟩, im_X1_clear, Or.inl ⟨np_X1_clear, lw_g (lw_at lw_m4 171 rfl) rfl, Or.inl (lw_g (lw_at lw_m4 169 rfl) rfl)⟩⟩⟩
theorem ow46_11_24 : VMk "AlgolHouseLaw" 102 77683377 := ⟨mok_X10_clear, by decide, fun t ht => by
  obtain rfl : t = 43 := Nat.le_antisymm (Nat.le_trans ht.2 (by decide)) (Nat.le_trans (by decide) ht.1)
  exact ⟨⟨by decide, by decide⟩, im_X10_clear, Or.inl ⟨np_X10_clear, lw_g (lw_at lw_m23 205 rfl) rfl, Or.inl (lw_g (lw_at lw_m23 203 rfl) rfl)⟩⟩⟩
theorem ow46_11_25 : VMk "AlgolHouseLaw" 105 77945522 := ⟨mok_X10_nodes, by decide, fun t ht => by
  obtain rfl : t = 43 := Nat.le_antisymm (Nat.le_trans ht.2 (by decide)) (Nat.le_trans (by decide) ht.1)
  exact ⟨⟨by decide, by decide⟩, im_X10_nodes, Or.inl ⟨np_X10_nodes, lw_g (lw_at lw_m23 209 rfl) rfl, Or.inl (lw_g (lw_at lw_m23 207 rfl) rfl)⟩⟩⟩
theorem ow46_11_26 : VMk "AlgolHouseLaw" 109 78469812 := ⟨mok_X10_node, by decide, fun t ht => by
  obtain rfl : t = 43 := Nat.le_antisymm (Nat.le_trans ht.2 (by decide)) (Nat.le_trans (by decide) ht.1)
  exact ⟨⟨by decide, by decide⟩, im_X10_node, Or.inl ⟨np_X10_node, lw_g (lw_at lw_m23 217 rfl) rfl, Or.inl (lw_g (lw_at lw_m23 215 rfl) rfl)⟩⟩⟩
theorem ow46_11_27 : VMk "AlgolHouseLaw" 112 78994100 := ⟨mok_X10_step, by decide, fun t ht => by
  obtain rfl : t = 43 := Nat.le_antisymm (Nat.le_trans ht.2 (by decide)) (Nat.le_trans (by decide) ht.1)
  exact ⟨⟨by decide, by decide⟩, im_X10_step, Or.inl ⟨np_X10_step, lw_g (lw_at lw_m23 226 rfl) rfl, Or.inl (lw_g (lw_at lw_m23 224 rfl) rfl)⟩⟩⟩
theorem ow46_11_28 : VMk "AlgolHouseLaw" 115 79256244 := ⟨mok_X10_mode, by decide, fun t ht => by
  obtain rfl : t = 43 := Nat.le_antisymm (Nat.le_trans ht.2 (by decide)) (Nat.le_trans (by decide) ht.1)
  exact ⟨⟨by decide, by decide⟩, im_X10_mode, Or.inl ⟨np_X10_mode, lw_g (lw_at lw_m23 230 rfl) rfl, Or.inl (lw_g (lw_at lw_m23 228 rfl) rfl)⟩⟩⟩
theorem ow46_11_29 : VMk "AlgolHouseLaw" 118 80042676 := ⟨mok_X10_parts, by decide, fun t ht => by
  obtain rfl : t = 43 := Nat.le_antisymm (Nat.le_trans ht.2 (by decide)) (Nat.le_trans (by decide) ht.1)
  exact ⟨⟨by decide, by decide⟩, im_X10_parts, Or.inl ⟨np_X10_parts, lw_g (lw_at lw_m24 2 rfl) rfl, Or.inl (lw_g (lw_at lw_m24 0 rfl) rfl)⟩⟩⟩
theorem ow46_11_30 : VMk "AlgolHouseLaw" 122 80304821 := ⟨mok_X10_one, by decide, fun t ht => by
  obtain rfl : t = 43 := Nat.le_antisymm (Nat.le_trans ht.2 (by decide)) (Nat.le_trans (by decide) ht.1)
  exact ⟨⟨by decide, by decide⟩, im_X10_one, Or.inl ⟨np_X10_one, lw_g (lw_at lw_m24 6 rfl) rfl, Or.inl (lw_g (lw_at lw_m24 4 rfl) rfl)⟩⟩⟩
theorem ow46_11_31 : VMk "AlgolHouseLaw" 126 80566963 := ⟨mok_X10_meant, by decide, fun t ht => by
  obtain rfl : t = 43 := Nat.le_antisymm (Nat.le_trans ht.2 (by decide)) (Nat.le_trans (by decide) ht.1)
  exact ⟨⟨by decide, by decide⟩, im_X10_meant, Or.inl ⟨np_X10_meant, lw_g (lw_at lw_m24 10 rfl) rfl, Or.inl (lw_g (lw_at lw_m24 8 rfl) rfl)⟩⟩⟩
theorem ow46_11_32 : VMk "AlgolHouseLaw" 130 80829108 := ⟨mok_X10_run, by decide, fun t ht => by
  obtain rfl : t = 43 := Nat.le_antisymm (Nat.le_trans ht.2 (by decide)) (Nat.le_trans (by decide) ht.1)
  exact ⟨⟨by decide, by decide⟩, im_X10_run, Or.inl ⟨np_X10_run, lw_g (lw_at lw_m24 14 rfl) rfl, Or.inl (lw_g (lw_at lw_m24 12 rfl) rfl)⟩⟩⟩
theorem ow46_11_33 : VMk "AlgolHouseLaw" 131 5244945 := ⟨mok_X1_told, by decide, fun t ht => by
  obtain rfl : t = 1 := Nat.le_antisymm (Nat.le_trans ht.2 (by decide)) (Nat.le_trans (by decide) ht.1)
  exact ⟨⟨by decide, by decide⟩, im_X1_told, Or.inl ⟨np_X1_told, lw_g (lw_at lw_m4 179 rfl) rfl, Or.inl (lw_g (lw_at lw_m4 177 rfl) rfl)⟩⟩⟩
theorem ow46_11_34 : VMk "AlgolHouseLaw" 134 98130609 := ⟨mok_X10_told, by decide, fun t ht => by
  obtain rfl : t = 43 := Nat.le_antisymm (Nat.le_trans ht.2 (by decide)) (Nat.le_trans (by decide) ht.1)
  exact ⟨⟨by decide, by decide⟩, im_X10_told, Or.inl ⟨np_X10_told, lw_g (lw_at lw_m25 43 rfl) rfl, Or.inl (lw_g (lw_at lw_m25 41 rfl) rfl)⟩⟩⟩
theorem ow46_11_35 : VMk "AlgolHouseLaw" 137 98392754 := ⟨mok_X10_number, by decide, fun t ht => by
  obtain rfl : t = 43 := Nat.le_antisymm (Nat.le_trans ht.2 (by decide)) (Nat.le_trans (by decide) ht.1)
  exact ⟨⟨by decide, by decide⟩, im_X10_number, Or.inl ⟨np_X10_number, lw_g (lw_at lw_m25 47 rfl) rfl, Or.inl (lw_g (lw_at lw_m25 45 rfl) rfl)⟩⟩⟩
theorem ow46_11_36 : VMk "AlgolHouseLaw" 140 98654898 := ⟨mok_X10_kind, by decide, fun t ht => by
  obtain rfl : t = 43 := Nat.le_antisymm (Nat.le_trans ht.2 (by decide)) (Nat.le_trans (by decide) ht.1)
  exact ⟨⟨by decide, by decide⟩, im_X10_kind, Or.inl ⟨np_X10_kind, lw_g (lw_at lw_m25 51 rfl) rfl, Or.inl (lw_g (lw_at lw_m25 49 rfl) rfl)⟩⟩⟩
theorem ow46_11_37 : VMk "AlgolHouseLaw" 143 98917042 := ⟨mok_X10_ran, by decide, fun t ht => by
  obtain rfl : t = 43 := Nat.le_antisymm (Nat.le_trans ht.2 (by decide)) (Nat.le_trans (by decide) ht.1)
  exact ⟨⟨by decide, by decide⟩, im_X10_ran, Or.inl ⟨np_X10_ran, lw_g (lw_at lw_m25 55 rfl) rfl, Or.inl (lw_g (lw_at lw_m25 53 rfl) rfl)⟩⟩⟩
theorem ow46_11_38 : VMk "AlgolHouseLaw" 146 99179188 := ⟨mok_X10_orders, by decide, fun t ht => by
  obtain rfl : t = 43 := Nat.le_antisymm (Nat.le_trans ht.2 (by decide)) (Nat.le_trans (by decide) ht.1)
  exact ⟨⟨by decide, by decide⟩, im_X10_orders, Or.inl ⟨np_X10_orders, lw_g (lw_at lw_m25 60 rfl) rfl, Or.inl (lw_g (lw_at lw_m25 58 rfl) rfl)⟩⟩⟩
theorem ow46_11_39 : VMk "AlgolHouseLaw" 149 100227763 := ⟨mok_X10_outcome, by decide, fun t ht => by
  obtain rfl : t = 43 := Nat.le_antisymm (Nat.le_trans ht.2 (by decide)) (Nat.le_trans (by decide) ht.1)
  exact ⟨⟨by decide, by decide⟩, im_X10_outcome, Or.inl ⟨np_X10_outcome, lw_g (lw_at lw_m25 77 rfl) rfl, Or.inl (lw_g (lw_at lw_m25 75 rfl) rfl)⟩⟩⟩
theorem ow46_11_40 : VMk "AlgolHouseLaw" 152 100489907 := ⟨mok_X10_outcomes, by decide, fun t ht => by
  obtain rfl : t = 43 := Nat.le_antisymm (Nat.le_trans ht.2 (by decide)) (Nat.le_trans (by decide) ht.1)
  exact ⟨⟨by decide, by decide⟩, im_X10_outcomes, Or.inl ⟨np_X10_outcomes, lw_g (lw_at lw_m25 81 rfl) rfl, Or.inl (lw_g (lw_at lw_m25 79 rfl) rfl)⟩⟩⟩
theorem ow46_11 : ∀ q ∈ ([(7, 5507089), (15, 6293522), (21, 6817810), (26, 7604244), (30, 8128532), (33, 8390676), (36, 8914964), (39, 9177109), (43, 9439251), (47, 9701396), (51, 9963538), (55, 10225682), (58, 10487826), (61, 10749972), (64, 11274259), (67, 11536403), (77, 4458514), (81, 37313202), (87, 37575345), (88, 37051057), (94, 77159090), (95, 4720657), (98, 77421233), (99, 4982801), (102, 77683377), (105, 77945522), (109, 78469812), (112, 78994100), (115, 79256244), (118, 80042676), (122, 80304821), (126, 80566963), (130, 80829108), (131, 5244945), (134, 98130609), (137, 98392754), (140, 98654898), (143, 98917042), (146, 99179188), (149, 100227763), (152, 100489907)] : List (Nat × Nat)), VMk "AlgolHouseLaw" q.1 q.2 := List.forall_mem_cons.mpr ⟨ow46_11_0, List.forall_mem_cons.mpr ⟨ow46_11_1, List.forall_mem_cons.mpr ⟨ow46_11_2, List.forall_mem_cons.mpr ⟨ow46_11_3, List.forall_mem_cons.mpr ⟨ow46_11_4, List.forall_mem_cons.mpr ⟨ow46_11_5, List.forall_mem_cons.mpr ⟨ow46_11_6, List.forall_mem_cons.mpr ⟨ow46_11_7, List.forall_mem_cons.mpr ⟨ow46_11_8, List.forall_mem_cons.mpr ⟨ow46_11_9, List.forall_mem_cons.mpr ⟨ow46_11_10, List.forall_mem_cons.mpr ⟨ow46_11_11, List.forall_mem_cons.mpr ⟨ow46_11_12, List.forall_mem_cons.mpr ⟨ow46_11_13, List.forall_mem_cons.mpr ⟨ow46_11_14, List.forall_mem_cons.mpr ⟨ow46_11_15, List.forall_mem_cons.mpr ⟨ow46_11_16, List.forall_mem_cons.mpr ⟨ow46_11_17, List.forall_mem_cons.mpr ⟨ow46_11_18, List.forall_mem_cons.mpr ⟨ow46_11_19, List.forall_mem_cons.mpr ⟨ow46_11_20, List.forall_mem_cons.mpr ⟨ow46_11_21, List.forall_mem_cons.mpr ⟨ow46_11_22, List.forall_mem_cons.mpr ⟨ow46_11_23, List.forall_mem_cons.mpr ⟨ow46_11_24, List.forall_mem_cons.mpr ⟨ow46_11_25, List.forall_mem_cons.mpr ⟨ow46_11_26, List.forall_mem_cons.mpr ⟨ow46_11_27, List.forall_mem_cons.mpr ⟨ow46_11_28, List.forall_mem_cons.mpr ⟨ow46_11_29, List.forall_mem_cons.mpr ⟨ow46_11_30, List.forall_mem_cons.mpr ⟨ow46_11_31, List.forall_mem_cons.mpr ⟨ow46_11_32, List.forall_mem_cons.mpr ⟨ow46_11_33, List.forall_mem_cons.mpr ⟨ow46_11_34, List.forall_mem_cons.mpr ⟨ow46_11_35, List.forall_mem_cons.mpr ⟨ow46_11_36, List.forall_mem_cons.mpr ⟨ow46_11_37, List.forall_mem_cons.mpr ⟨ow46_11_38, List.forall_mem_cons.mpr ⟨ow46_11_39, List.forall_mem_cons.mpr ⟨ow46_11_40, fun q h => by cases h⟩⟩⟩⟩⟩⟩⟩⟩⟩⟩⟩⟩⟩⟩⟩⟩⟩⟩⟩⟩⟩⟩⟩⟩⟩⟩⟩⟩⟩⟩⟩⟩⟩⟩⟩⟩⟩⟩⟩⟩⟩
theorem ow46_12 : ∀ q ∈ ([] : List (Nat × Nat)), ∀ n, pN q.2 n → PMk "AlgolHouseLaw" q.1 q.2 n := fun q h => by cases h
theorem ow46_13 : ∀ q ∈ ([] : List (Nat × Nat)), Cond.methodLink "AlgolHouseLaw" q.1 Lib.objectInit ∈ lw_all := fun q h => by cases h
theorem ow46_14 : ∀ q ∈ ([] : List (Nat × Nat)), JMk "AlgolHouseLaw" q.1 q.2 := fun q h => by cases h
theorem ow46_15 : ∀ q ∈ ([] : List (Nat × Nat)), exT q.2 ∧ NLk "AlgolHouseLaw" q.1 q.2 := fun q h => by cases h
theorem ow46_16 : ∀ q ∈ ([] : List (Nat × Nat)), exT q.2 ∧ Cond.methodLink "AlgolHouseLaw" q.1 ⟨cN q.2, "<init>", "()V"⟩ ∈ lw_all := fun q h => by cases h
def Om46 : Om := [[], [], [], [], [], [(8, 1), (72, 43)], [], [], [], [(82, 2), (91, 262147), (103, 524291), (106, 786437), (110, 1048581), (113, 1310725), (116, 1572869), (119, 1835014), (123, 2097156), (127, 2359301), (135, 2621443), (138, 2883587), (141, 3145731), (144, 3407877), (147, 3670020), (150, 3932164)], [(71, 4196369), (74, 36788913)], [(7, 5507089), (15, 6293522), (21, 6817810), (26, 7604244), (30, 8128532), (33, 8390676), (36, 8914964), (39, 9177109), (43, 9439251), (47, 9701396), (51, 9963538), (55, 10225682), (58, 10487826), (61, 10749972), (64, 11274259), (67, 11536403), (77, 4458514), (81, 37313202), (87, 37575345), (88, 37051057), (94, 77159090), (95, 4720657), (98, 77421233), (99, 4982801), (102, 77683377), (105, 77945522), (109, 78469812), (112, 78994100), (115, 79256244), (118, 80042676), (122, 80304821), (126, 80566963), (130, 80829108), (131, 5244945), (134, 98130609), (137, 98392754), (140, 98654898), (143, 98917042), (146, 99179188), (149, 100227763), (152, 100489907)], [], [], [], [], []]
def Ok46 : List (Nat × Int) := []
def Ol46 : List (Nat × Int) := [(75, 4294967295)]
theorem ow46 {s0 : State} (hN : NCs s0) : OwnOK s0 "AlgolHouseLaw" Om46 Ok46 Ol46 := ⟨ow46_k, ow46_l, ow46_0, ow46_1, ow46_2, ow46_3, ow46_4, ow46_5, ow46_6, ow46_7, ow46_8 hN, ow46_9, ow46_10, ow46_11, ow46_12, ow46_13, ow46_14, ow46_15, ow46_16⟩
