/-! NUMBERS: Ints and the machine's words -/
theorem bm32 (x : Int) : Int.bmod x 4294967296 = w32 x := by
  unfold w32
  rw [Int.bmod_def]
  split <;> omega
theorem bm64 (x : Int) : Int.bmod x 18446744073709551616 = w64 x := by
  unfold w64
  rw [Int.bmod_def]
  split <;> omega
theorem ti32 (x : Int) : (Int32.ofInt x).toInt = w32 x := by rw [Int32.toInt_ofInt]; exact bm32 x
theorem ti64 (x : Int) : (Int64.ofInt x).toInt = w64 x := by rw [Int64.toInt_ofInt]; exact bm64 x
theorem of32 {x : Int} (h : in32 x) : (Int32.ofInt x).toInt = x := by rw [ti32]; exact w32_id h.1 h.2
theorem of64 {x : Int} (h : in64 x) : (Int64.ofInt x).toInt = x := by rw [ti64]; exact w64_id h.1 h.2
theorem to32 (x : Int32) : in32 x.toInt := by
  have h := x.minValue_le_toInt
  have e : Int32.minValue.toInt = -2147483648 := by decide
  rw [e] at h
  exact ⟨h, Int32.toInt_lt x⟩
theorem to64 (x : Int64) : in64 x.toInt := by
  have h := x.minValue_le_toInt
  have e : Int64.minValue.toInt = -9223372036854775808 := by decide
  rw [e] at h
  exact ⟨h, Int64.toInt_lt x⟩
theorem e32 {a b : Int32} (h : a.toInt = b.toInt) : a = b := Int32.toInt_inj.mp h
theorem e64 {a b : Int64} (h : a.toInt = b.toInt) : a = b := Int64.toInt_inj.mp h
theorem ot32 (x : Int32) : Int32.ofInt x.toInt = x := Int32.ofInt_toInt x
theorem ot64 (x : Int64) : Int64.ofInt x.toInt = x := Int64.ofInt_toInt x
theorem w32w (x : Int) : w32 (w32 x) = w32 x := by unfold w32; omega
theorem c_w32 (x : Int) : Int32.ofInt (w32 x) = Int32.ofInt x := e32 (by rw [ti32, ti32, w32w])
theorem w64w (x : Int) : w64 (w64 x) = w64 x := by unfold w64; omega
theorem c_w64 (x : Int) : Int64.ofInt (w64 x) = Int64.ofInt x := e64 (by rw [ti64, ti64, w64w])
theorem c_add (x y : Int) : Int32.ofInt x + Int32.ofInt y = Int32.ofInt (w32 (x + y)) := by rw [c_w32, Int32.ofInt_add]
theorem c_sub (x y : Int) : Int32.ofInt x - Int32.ofInt y = Int32.ofInt (w32 (x - y)) := by rw [c_w32, Int32.ofInt_sub]
theorem c_mul (x y : Int) : Int32.ofInt x * Int32.ofInt y = Int32.ofInt (w32 (x * y)) := by rw [c_w32, Int32.ofInt_mul]
theorem d_add (x y : Int) : Int64.ofInt x + Int64.ofInt y = Int64.ofInt (w64 (x + y)) := by rw [c_w64, Int64.ofInt_add]
theorem d_sub (x y : Int) : Int64.ofInt x - Int64.ofInt y = Int64.ofInt (w64 (x - y)) := by rw [c_w64, Int64.ofInt_sub]
theorem d_mul (x y : Int) : Int64.ofInt x * Int64.ofInt y = Int64.ofInt (w64 (x * y)) := by rw [c_w64, Int64.ofInt_mul]
theorem d_neg (x : Int) : -Int64.ofInt x = Int64.ofInt (w64 (-x)) := by rw [c_w64, Int64.ofInt_neg]
theorem c_lt {x y : Int} (hx : in32 x) (hy : in32 y) : Int32.ofInt x < Int32.ofInt y ↔ x < y := by rw [Int32.lt_iff_toInt_lt, of32 hx, of32 hy]
theorem c_le {x y : Int} (hx : in32 x) (hy : in32 y) : Int32.ofInt x ≤ Int32.ofInt y ↔ x ≤ y := by rw [Int32.le_iff_toInt_le, of32 hx, of32 hy]
theorem c_eq {x y : Int} (hx : in32 x) (hy : in32 y) : Int32.ofInt x = Int32.ofInt y ↔ x = y := by rw [← Int32.toInt_inj, of32 hx, of32 hy]
theorem d_lt {x y : Int} (hx : in64 x) (hy : in64 y) : Int64.ofInt x < Int64.ofInt y ↔ x < y := by rw [Int64.lt_iff_toInt_lt, of64 hx, of64 hy]
theorem d_eq {x y : Int} (hx : in64 x) (hy : in64 y) : Int64.ofInt x = Int64.ofInt y ↔ x = y := by rw [← Int64.toInt_inj, of64 hx, of64 hy]
theorem c_div {x y : Int} (hx : in32 x) (hy : in32 y) : Int32.ofInt x / Int32.ofInt y = Int32.ofInt (w32 (x.tdiv y)) := by
  apply e32
  rw [c_w32, ti32, Int32.toInt_div, of32 hx, of32 hy]
  exact bm32 _
theorem d_div {x y : Int} (hx : in64 x) (hy : in64 y) : Int64.ofInt x / Int64.ofInt y = Int64.ofInt (w64 (x.tdiv y)) := by
  apply e64
  rw [c_w64, ti64, Int64.toInt_div, of64 hx, of64 hy]
  exact bm64 _
theorem tmod_in {x y b : Int} (hx : -b ≤ x) (hx2 : x < b) (hb : 0 < b) : -b ≤ x.tmod y ∧ x.tmod y < b := by
  rcases Int.le_total 0 x with h | h
  · have h1 := Int.tmod_nonneg y h
    have h2 : x.tmod y ≤ x := by
      have := Int.tmod_add_mul_tdiv x y
      have h3 : 0 ≤ y * x.tdiv y := by
        rcases Int.le_total 0 y with g | g
        · exact Int.mul_nonneg g (Int.tdiv_nonneg h g)
        · have := Int.tdiv_nonpos_of_nonneg_of_nonpos h g
          exact Int.mul_nonneg_of_nonpos_of_nonpos g this
      omega
    omega
  · have e : x.tmod y = -((-x).tmod y) := by rw [Int.neg_tmod, Int.neg_neg]
    have h' : 0 ≤ -x := by omega
    have h1 := Int.tmod_nonneg y h'
    have h2 : (-x).tmod y ≤ -x := by
      have := Int.tmod_add_mul_tdiv (-x) y
      have h3 : 0 ≤ y * (-x).tdiv y := by
        rcases Int.le_total 0 y with g | g
        · exact Int.mul_nonneg g (Int.tdiv_nonneg h' g)
        · have := Int.tdiv_nonpos_of_nonneg_of_nonpos h' g
          exact Int.mul_nonneg_of_nonpos_of_nonpos g this
      omega
    omega
