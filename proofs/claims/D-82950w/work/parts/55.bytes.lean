/-! BYTES OF A LONG; ROWS OF AN ARRAY AS FUNCTIONS -/
set_option maxRecDepth 100000
def byt (v : Int) (j : Nat) : Int := (((Int64.ofInt v).toBitVec >>> (8 * j)) &&& 255#64).toNat
theorem and255 (X : BitVec 64) : (X &&& 255#64).toInt = ((X &&& 255#64).toNat : Int) := by
  have h : (X &&& 255#64).toNat ≤ 255 := by
    rw [BitVec.toNat_and]
    exact Nat.and_le_right
  rw [BitVec.toInt_eq_toNat_cond, if_pos (by omega)]
theorem byt_rng (v : Int) (j : Nat) : 0 ≤ byt v j ∧ byt v j < 256 := by
  unfold byt
  have h : (((Int64.ofInt v).toBitVec >>> (8 * j)) &&& 255#64).toNat ≤ 255 := by
    rw [BitVec.toNat_and]
    exact Nat.and_le_right
  omega
theorem land255 (X : Int64) : (X &&& Int64.ofInt 255).toInt = ((X.toBitVec &&& 255#64).toNat : Int) := and255 X.toBitVec
theorem byt_u (v : Int) (j : Nat) (hj : j < 8) : land (lushr v (w32 (8 * (j : Int)))) 255 = byt v j := by
  unfold land lushr byt
  rw [Int64.ofInt_toInt, land255]
  have : j = 0 ∨ j = 1 ∨ j = 2 ∨ j = 3 ∨ j = 4 ∨ j = 5 ∨ j = 6 ∨ j = 7 := by omega
  rcases this with rfl | rfl | rfl | rfl | rfl | rfl | rfl | rfl <;> rfl
theorem byt_s (v : Int) (j : Nat) (hj : j < 8) : land (lshr v (w32 (8 * (j : Int)))) 255 = byt v j := by
  unfold land lshr byt
  rw [Int64.ofInt_toInt, land255]
  have key : ∀ (X : BitVec 64) (s : Nat), s ≤ 56 → (X.sshiftRight s &&& 255#64) = (X >>> s &&& 255#64) := by
    intro X s hs
    apply BitVec.eq_of_getLsbD_eq
    intro i hi
    simp only [BitVec.getLsbD_and, BitVec.getLsbD_sshiftRight, BitVec.getLsbD_ushiftRight]
    by_cases h8 : i < 8
    · have h1 : s + i < 64 := by omega
      have h2 : ¬ 64 ≤ i := by omega
      simp [h1, h2]
    · have : (255#64).getLsbD i = false := by
        rw [BitVec.getLsbD_ofNat]
        have e : (255 : Nat).testBit i = false := Nat.testBit_lt_two_pow (Nat.lt_of_lt_of_le (by decide : 255 < 2 ^ 8) (Nat.pow_le_pow_right (by decide) (by omega)))
        rw [e]; simp
      rw [this]; simp
  have : j = 0 ∨ j = 1 ∨ j = 2 ∨ j = 3 ∨ j = 4 ∨ j = 5 ∨ j = 6 ∨ j = 7 := by omega
  rcases this with rfl | rfl | rfl | rfl | rfl | rfl | rfl | rfl
  · exact congrArg (fun X : BitVec 64 => (X.toNat : Int)) (key (Int64.ofInt v).toBitVec 0 (by decide))
  · exact congrArg (fun X : BitVec 64 => (X.toNat : Int)) (key (Int64.ofInt v).toBitVec 8 (by decide))
  · exact congrArg (fun X : BitVec 64 => (X.toNat : Int)) (key (Int64.ofInt v).toBitVec 16 (by decide))
  · exact congrArg (fun X : BitVec 64 => (X.toNat : Int)) (key (Int64.ofInt v).toBitVec 24 (by decide))
  · exact congrArg (fun X : BitVec 64 => (X.toNat : Int)) (key (Int64.ofInt v).toBitVec 32 (by decide))
  · exact congrArg (fun X : BitVec 64 => (X.toNat : Int)) (key (Int64.ofInt v).toBitVec 40 (by decide))
  · exact congrArg (fun X : BitVec 64 => (X.toNat : Int)) (key (Int64.ofInt v).toBitVec 48 (by decide))
  · exact congrArg (fun X : BitVec 64 => (X.toNat : Int)) (key (Int64.ofInt v).toBitVec 56 (by decide))
theorem w8_32 (x : Int) : w8 (w32 x) = w8 x := by unfold w8 w32; omega
theorem byt_8 (v : Int) (j : Nat) (hj : j < 8) : w8 (w32 (lushr v (w32 (8 * (j : Int))))) = w8 (byt v j) := by
  rw [w8_32, ← byt_u v j hj]
  generalize lushr v (w32 (8 * (j : Int))) = y
  unfold land
  rw [land255]
  have e : (Int64.ofInt y).toBitVec = BitVec.ofInt 64 y := rfl
  rw [e]
  have h1 : ((BitVec.ofInt 64 y &&& 255#64).toNat : Int) = y % 256 := by
    have : (BitVec.ofInt 64 y &&& 255#64).toNat = (BitVec.ofInt 64 y).toNat % 2 ^ 8 := by
      rw [BitVec.toNat_and]
      exact Nat.and_two_pow_sub_one_eq_mod _ 8
    rw [this, BitVec.toNat_ofInt]
    omega
  rw [h1]
  unfold w8
  omega
/-- an array's ints, all at once -/
def sE (h : PH) (r : Nat) (f : Int → Int) : PH := (hc h, hl h, gI h, gJ h, gR h, (fun q i => if q = r then f i else eI h q i), eJ h, eR h, hn h, hs h, hk h)
theorem eI_sE {h : PH} {r : Nat} {f : Int → Int} {i : Int} : eI (sE h r f) r i = f i := if_pos rfl
theorem eI_sEo {h : PH} {r q : Nat} {f : Int → Int} {i : Int} (e : q ≠ r) : eI (sE h r f) q i = eI h q i := if_neg e
theorem sE_id {h : PH} {r : Nat} : sE h r (eI h r) = h := by
  have e : (fun q i => if q = r then eI h r i else eI h q i) = eI h := by
    funext q i
    by_cases z : q = r
    · rw [if_pos z, z]
    · rw [if_neg z]
  unfold sE
  rw [e]
  rfl
theorem qI_sE {h : PH} {r : Nat} {f : Int → Int} {i v : Int} : qI (sE h r f) r i v = sE h r (fun j => if j = i then v else f j) := by
  have e : ue2 (eI (sE h r f)) r i v = (fun q j => if q = r then (if j = i then v else f j) else eI h q j) := by
    funext q j
    unfold ue2
    by_cases z : q = r
    · subst z
      rw [if_pos rfl]
      by_cases w : j = i
      · rw [if_pos ⟨rfl, w⟩, if_pos w]
      · rw [if_neg (fun z => w z.2), if_neg w]; exact eI_sE
    · rw [if_neg (fun w => z w.1), if_neg z]; exact eI_sEo z
  unfold qI
  rw [e]
  rfl
theorem qI_is {h : PH} {r : Nat} {i v : Int} : qI h r i v = sE h r (fun j => if j = i then v else eI h r j) := by
  have := qI_sE (h := h) (r := r) (f := eI h r) (i := i) (v := v)
  rw [sE_id] at this
  exact this
theorem pI_pI {h : PH} {f r : Nat} {a b : Int} : pI (pI h f r a) f r b = pI h f r b := by
  have e : up2 (gI (pI h f r a)) f r b = up2 (gI h) f r b := by
    funext g q
    show (if g = f ∧ q = r then b else (if g = f ∧ q = r then a else gI h g q)) = if g = f ∧ q = r then b else gI h g q
    by_cases z : g = f ∧ q = r
    · rw [if_pos z, if_pos z]
    · rw [if_neg z, if_neg z, if_neg z]
  show (hc h, hl h, up2 (gI (pI h f r a)) f r b, gJ h, gR h, eI h, eJ h, eR h, hn h, hs h, hk h) = _
  rw [e]
  rfl
theorem gI_pIo {h : PH} {f r g q : Nat} {v : Int} (e : ¬ (g = f ∧ q = r)) : gI (pI h f r v) g q = gI h g q := if_neg e
theorem pI_id {h : PH} {f r : Nat} : pI h f r (gI h f r) = h := by
  have e : up2 (gI h) f r (gI h f r) = gI h := by
    funext g q
    unfold up2
    by_cases z : g = f ∧ q = r
    · rw [if_pos z, z.1, z.2]
    · rw [if_neg z]
  unfold pI
  rw [e]
  rfl
