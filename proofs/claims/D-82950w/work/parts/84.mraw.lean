/-! THE MODEL's PARSER: its questions by the state alone -/
set_option maxRecDepth 100000
section MR
variable {b : PH} {m : Nat} {s : MS}
theorem b01_T : b01 True = 1 := rfl
theorem b01_F : b01 False = 0 := rfl
theorem inA_1 {x n : Int} (h : inA x n) (hn : n ≤ 1000000) : w32 (x + 1) = x + 1 := w32_id (by omega) (by omega)
/-- the token at hand -/
abbrev tkd (s : MS) : Int := aI s 2 (fI s 1764447916)
abbrev tis (s : MS) : Int := aI s 4 (fI s 1764447916)
abbrev tpl (s : MS) : Int := aI s 3 (fI s 1764447916)
theorem mr_isSign (d : Nat) (B : MB b m) (h : inA (fI s 1764447916) 490) (c : Int) : F (d + 1) 43604658 [vR m, vI c] (MH b m s) = some (.inl (some (vI (b01 (tkd s = 5 ∧ tis s = c)))), MH b m s) := by
  rw [e_X10_isSign, k_X10_isSign_0 _ _ _ _ _ B h]
  by_cases q : tkd s = 5
  · rw [if_pos q, k_X10_isSign_13 _ _ _ _ _ B h]
    by_cases r : tis s = c
    · rw [if_pos r, k_X10_isSign_26 _ _ _ _ _ B, k_X10_isSign_31 _ _ _ _ _ _ B (Or.inr rfl), b01_p ⟨q, r⟩]
    · rw [if_neg r, k_X10_isSign_30 _ _ _ _ _ B, k_X10_isSign_31 _ _ _ _ _ _ B (Or.inl rfl), b01_n (fun z => r z.2)]
  · rw [if_neg q, k_X10_isSign_30 _ _ _ _ _ B, k_X10_isSign_31 _ _ _ _ _ _ B (Or.inl rfl), b01_n (fun z => q z.1)]
theorem mr_isKept (d : Nat) (B : MB b m) (h : inA (fI s 1764447916) 490) (c : Int) : F (d + 1) 42556082 [vR m, vI c] (MH b m s) = some (.inl (some (vI (b01 (tkd s = 1 ∧ tis s = c)))), MH b m s) := by
  rw [e_X10_isKept, k_X10_isKept_0 _ _ _ _ _ B h]
  by_cases q : tkd s = 1
  · rw [if_pos q, k_X10_isKept_13 _ _ _ _ _ B h]
    by_cases r : tis s = c
    · rw [if_pos r, k_X10_isKept_26 _ _ _ _ _ B, k_X10_isKept_31 _ _ _ _ _ _ B (Or.inr rfl), b01_p ⟨q, r⟩]
    · rw [if_neg r, k_X10_isKept_30 _ _ _ _ _ B, k_X10_isKept_31 _ _ _ _ _ _ B (Or.inl rfl), b01_n (fun z => r z.2)]
  · rw [if_neg q, k_X10_isKept_30 _ _ _ _ _ B, k_X10_isKept_31 _ _ _ _ _ _ B (Or.inl rfl), b01_n (fun z => q z.1)]
theorem mr_fails (d : Nat) (B : MB b m) (h : inA (fI s 1764447916) 490) (hb : fI s 1772836524 = -1) : F (d + 1) 42293937 [vR m] (MH b m s) = some (.inl (some (vI 0)), MH b m (uI s 1772836524 (tpl s))) := by
  rw [e_X10_fails, k_X10_fails_0 _ _ _ _ B, if_pos (by omega), k_X10_fails_8 _ _ _ _ B h, k_X10_fails_24 _ _ _ _ _ B]
theorem mr_takeSign (d : Nat) (B : MB b m) (h : inA (fI s 1764447916) 490) (hb : fI s 1772836524 = -1) (c : Int) : F (d + 2) 45177522 [vR m, vI c] (MH b m s) = if tkd s = 5 ∧ tis s = c then some (.inl (some (vI 1)), MH b m (uI s 1764447916 (fI s 1764447916 + 1))) else some (.inl (some (vI 0)), MH b m (uI s 1772836524 (tpl s))) := by
  rw [e_X10_takeSign, k_X10_takeSign_0 _ _ _ _ _ B, mr_isSign d B h c, bnd_v, pu_s, k_X10_takeSign_5 _ _ _ _ _ _ B]
  by_cases q : tkd s = 5 ∧ tis s = c
  · rw [if_pos q, b01_p q, if_neg (by decide), k_X10_takeSign_13 _ _ _ _ _ B, inA_1 h (by decide)]
  · rw [if_neg q, b01_n q, if_pos rfl, k_X10_takeSign_8 _ _ _ _ _ B, mr_fails d B h hb, bnd_v, pu_s, k_X10_takeSign_12 _ _ _ _ _ _ B (Or.inl rfl)]
theorem mr_takeKept (d : Nat) (B : MB b m) (h : inA (fI s 1764447916) 490) (hb : fI s 1772836524 = -1) (c : Int) : F (d + 2) 57498290 [vR m, vI c] (MH b m s) = if tkd s = 1 ∧ tis s = c then some (.inl (some (vI 1)), MH b m (uI s 1764447916 (fI s 1764447916 + 1))) else some (.inl (some (vI 0)), MH b m (uI s 1772836524 (tpl s))) := by
  rw [e_X10_takeKept, k_X10_takeKept_0 _ _ _ _ _ B, mr_isKept d B h c, bnd_v, pu_s, k_X10_takeKept_5 _ _ _ _ _ _ B]
  by_cases q : tkd s = 1 ∧ tis s = c
  · rw [if_pos q, b01_p q, if_neg (by decide), k_X10_takeKept_13 _ _ _ _ _ B, inA_1 h (by decide)]
  · rw [if_neg q, b01_n q, if_pos rfl, k_X10_takeKept_8 _ _ _ _ _ B, mr_fails d B h hb, bnd_v, pu_s, k_X10_takeKept_12 _ _ _ _ _ _ B (Or.inl rfl)]
theorem mr_opens (d : Nat) (B : MB b m) (h : inA (fI s 1764447916) 490) (hb : fI s 1772836524 = -1) (ho : inA (fI s 1781225132) 25) : F (d + 2) 43866801 [vR m] (MH b m s) = if fI s 1781225132 = 24 then some (.inl (some (vI 0)), MH b m (uI s 1772836524 (tpl s))) else some (.inl (some (vI 1)), MH b m (uI s 1781225132 (fI s 1781225132 + 1))) := by
  rw [e_X10_opens, k_X10_opens_0 _ _ _ _ B]
  by_cases q : fI s 1781225132 = 24
  · rw [if_pos q, if_pos q, k_X10_opens_9 _ _ _ _ B, mr_fails d B h hb, bnd_v, pu_s, k_X10_opens_13 _ _ _ _ _ B (Or.inl rfl)]
  · rw [if_neg q, if_neg q, k_X10_opens_14 _ _ _ _ B, inA_1 ho (by decide)]
theorem mr_opensSign (d : Nat) (B : MB b m) (h : inA (fI s 1764447916) 490) (hb : fI s 1772836524 = -1) (ho : inA (fI s 1781225132) 25) (hp : 0 ≤ tpl s) (c : Int) : F (d + 3) 43342514 [vR m, vI c] (MH b m s) = if (tkd s = 5 ∧ tis s = c) ∧ fI s 1781225132 ≠ 24 then some (.inl (some (vI 1)), MH b m (uI (uI s 1781225132 (fI s 1781225132 + 1)) 1764447916 (fI s 1764447916 + 1))) else some (.inl (some (vI 0)), MH b m (uI s 1772836524 (tpl s))) := by
  rw [e_X10_opensSign, k_X10_opensSign_0 _ _ _ _ _ B, mr_isSign (d + 1) B h c, bnd_v, pu_s, k_X10_opensSign_5 _ _ _ _ _ _ B]
  by_cases q : tkd s = 5 ∧ tis s = c
  · rw [b01_p q, if_neg (by decide), k_X10_opensSign_8 _ _ _ _ _ B, mr_opens d B h hb ho]
    by_cases r : fI s 1781225132 = 24
    · have eb : fI (uI s 1772836524 (tpl s)) 1772836524 = tpl s := by rw [fI_uI, if_pos rfl]
      rw [if_pos r, if_neg (fun z => z.2 r), bnd_v, pu_s, k_X10_opensSign_12 _ _ _ _ _ _ B, if_pos rfl, k_X10_opensSign_15 _ _ _ _ _ B, mf_fails2 (d + 1) B (by rw [eb]; exact hp), bnd_v, pu_s, k_X10_opensSign_19 _ _ _ _ _ _ B (Or.inl rfl), uI_id]
    · have ea : fI (uI s 1781225132 (fI s 1781225132 + 1)) 1764447916 = fI s 1764447916 := by rw [fI_uI, if_neg (by decide)]
      rw [if_neg r, if_pos ⟨q, r⟩, bnd_v, pu_s, k_X10_opensSign_12 _ _ _ _ _ _ B, if_neg (by decide), k_X10_opensSign_20 _ _ _ _ _ B, ea, inA_1 h (by decide)]
  · rw [b01_n q, if_pos rfl, if_neg (fun z => q z.1), k_X10_opensSign_15 _ _ _ _ _ B, mr_fails (d + 1) B h hb, bnd_v, pu_s, k_X10_opensSign_19 _ _ _ _ _ _ B (Or.inl rfl)]
theorem mr_closesSign (d : Nat) (B : MB b m) (h : inA (fI s 1764447916) 490) (hb : fI s 1772836524 = -1) (ho : inA (fI s 1781225132) 25) (c : Int) : F (d + 3) 51993266 [vR m, vI c] (MH b m s) = if tkd s = 5 ∧ tis s = c then some (.inl (some (vI 1)), MH b m (uI (uI s 1764447916 (fI s 1764447916 + 1)) 1781225132 (fI s 1781225132 - 1))) else some (.inl (some (vI 0)), MH b m (uI s 1772836524 (tpl s))) := by
  rw [e_X10_closesSign, k_X10_closesSign_0 _ _ _ _ _ B, mr_takeSign d B h hb c]
  by_cases q : tkd s = 5 ∧ tis s = c
  · have ea : fI (uI s 1764447916 (fI s 1764447916 + 1)) 1781225132 = fI s 1781225132 := by rw [fI_uI, if_neg (by decide)]
    rw [if_pos q, if_pos q, bnd_v, pu_s, k_X10_closesSign_5 _ _ _ _ _ _ B, if_neg (by decide), k_X10_closesSign_10 _ _ _ _ _ B, ea, w32_id (by omega) (by omega)]
  · rw [if_neg q, if_neg q, bnd_v, pu_s, k_X10_closesSign_5 _ _ _ _ _ _ B, if_pos rfl, k_X10_closesSign_8 _ _ _ _ _ B]
end MR
