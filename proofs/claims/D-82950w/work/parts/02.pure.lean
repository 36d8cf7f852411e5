/-! THE PURE HEAP. A key r is an address + 1; 0 is null. hc: tag of a cell (0: not known here), hl: an array's length, gI gJ gR: fields (of int kind, long, references) by field number and key, eI eJ eR: elements by key and place, hn: the next key, hs: slots made, hk: cells made. Numbers are Ints. -/
abbrev PH : Type := (Nat → Nat) × (Nat → Int) × (Nat → Nat → Int) × (Nat → Nat → Int) × (Nat → Nat → Nat) × (Nat → Int → Int) × (Nat → Int → Int) × (Nat → Int → Nat) × Nat × Nat × Nat
def hc (h : PH) : Nat → Nat := h.1
def hl (h : PH) : Nat → Int := h.2.1
def gI (h : PH) : Nat → Nat → Int := h.2.2.1
def gJ (h : PH) : Nat → Nat → Int := h.2.2.2.1
def gR (h : PH) : Nat → Nat → Nat := h.2.2.2.2.1
def eI (h : PH) : Nat → Int → Int := h.2.2.2.2.2.1
def eJ (h : PH) : Nat → Int → Int := h.2.2.2.2.2.2.1
def eR (h : PH) : Nat → Int → Nat := h.2.2.2.2.2.2.2.1
def hn (h : PH) : Nat := h.2.2.2.2.2.2.2.2.1
def hs (h : PH) : Nat := h.2.2.2.2.2.2.2.2.2.1
def hk (h : PH) : Nat := h.2.2.2.2.2.2.2.2.2.2
/-- the tag of an array that was there at the start (constants; the script): it lies in a row of the statics that no code names -/
def kc (h : PH) (r : Nat) : Nat := gR h (4 * r + 1) 0
def up2 {α : Type} (f : Nat → Nat → α) (a b : Nat) (v : α) : Nat → Nat → α := fun x y => if x = a ∧ y = b then v else f x y
def ue2 {α : Type} (f : Nat → Int → α) (a : Nat) (b : Int) (v : α) : Nat → Int → α := fun x y => if x = a ∧ y = b then v else f x y
def up1 {α : Type} (f : Nat → α) (a : Nat) (v : α) : Nat → α := fun x => if x = a then v else f x
def pI (h : PH) (f r : Nat) (v : Int) : PH := (hc h, hl h, up2 (gI h) f r v, gJ h, gR h, eI h, eJ h, eR h, hn h, hs h, hk h)
def pJ (h : PH) (f r : Nat) (v : Int) : PH := (hc h, hl h, gI h, up2 (gJ h) f r v, gR h, eI h, eJ h, eR h, hn h, hs h, hk h)
def pR (h : PH) (f r : Nat) (v : Nat) : PH := (hc h, hl h, gI h, gJ h, up2 (gR h) f r v, eI h, eJ h, eR h, hn h, hs h, hk h)
def qI (h : PH) (r : Nat) (i : Int) (v : Int) : PH := (hc h, hl h, gI h, gJ h, gR h, ue2 (eI h) r i v, eJ h, eR h, hn h, hs h, hk h)
def qJ (h : PH) (r : Nat) (i : Int) (v : Int) : PH := (hc h, hl h, gI h, gJ h, gR h, eI h, ue2 (eJ h) r i v, eR h, hn h, hs h, hk h)
def qR (h : PH) (r : Nat) (i : Int) (v : Nat) : PH := (hc h, hl h, gI h, gJ h, gR h, eI h, eJ h, ue2 (eR h) r i v, hn h, hs h, hk h)
/-- a new object of tag k with n slots, at the key hn h -/
def nO (h : PH) (k n : Nat) : PH := (up1 (hc h) (hn h) k, hl h, fun f r => if r = hn h then 0 else gI h f r, fun f r => if r = hn h then 0 else gJ h f r, fun f r => if r = hn h then 0 else gR h f r, eI h, eJ h, eR h, hn h + 1, hs h + n, hk h + 1)
/-- a new array of tag k and length n -/
def nA (h : PH) (k : Nat) (n : Int) : PH := (up1 (hc h) (hn h) k, up1 (hl h) (hn h) n, gI h, gJ h, gR h, fun r i => if r = hn h then 0 else eI h r i, fun r i => if r = hn h then 0 else eJ h r i, fun r i => if r = hn h then 0 else eR h r i, hn h + 1, hs h + n.toNat, hk h + 1)
/-- n elements of a from i on come to b from j on -/
def cpE {α : Type} (e : Nat → Int → α) (a : Nat) (i : Int) (b : Nat) (j n : Int) : Nat → Int → α := fun x y => if x = b ∧ j ≤ y ∧ y < j + n then e a (i + (y - j)) else e x y
def aC (h : PH) (a : Nat) (i : Int) (b : Nat) (j n : Int) : PH := (hc h, hl h, gI h, gJ h, gR h, cpE (eI h) a i b j n, cpE (eJ h) a i b j n, cpE (eR h) a i b j n, hn h, hs h, hk h)
/-- values of the pure machine: an int, a long, a key, unset -/
abbrev PV : Type := Int ⊕ (Int ⊕ (Nat ⊕ Unit))
def rv : Nat → Value
  | 0 => .null
  | a + 1 => .ref a
def cv : PV → Value
  | .inl x => .int (Int32.ofInt x)
  | .inr (.inl y) => .long (Int64.ofInt y)
  | .inr (.inr (.inl r)) => rv r
  | .inr (.inr (.inr _)) => .null
abbrev vI (x : Int) : PV := .inl x
abbrev vJ (x : Int) : PV := .inr (.inl x)
abbrev vR (x : Nat) : PV := .inr (.inr (.inl x))
abbrev vX : PV := .inr (.inr (.inr ()))
/-- a guard -/
def gd {α : Type} (c : Prop) [Decidable c] (x : Option α) : Option α := if c then x else none
theorem gd_t {α : Type} {c : Prop} [Decidable c] {x : Option α} (h : c) : gd c x = x := if_pos h
theorem gd_some {α : Type} {c : Prop} [Decidable c] {x : Option α} {b : α} (h : gd c x = some b) : c ∧ x = some b := by
  unfold gd at h
  split at h
  · exact ⟨‹c›, h⟩
  · cases h
/-- wrapping -/
def w32 (x : Int) : Int := (x + 2147483648) % 4294967296 - 2147483648
def w64 (x : Int) : Int := (x + 9223372036854775808) % 18446744073709551616 - 9223372036854775808
def w8 (x : Int) : Int := (x + 128) % 256 - 128
def in32 (x : Int) : Prop := -2147483648 ≤ x ∧ x < 2147483648
def in64 (x : Int) : Prop := -9223372036854775808 ≤ x ∧ x < 9223372036854775808
theorem w32_in (x : Int) : in32 (w32 x) := by unfold in32 w32; omega
theorem w64_in (x : Int) : in64 (w64 x) := by unfold in64 w64; omega
theorem w32_id {x : Int} (h : -2147483648 ≤ x) (k : x < 2147483648) : w32 x = x := by unfold w32; omega
theorem w64_id {x : Int} (h : -9223372036854775808 ≤ x) (k : x < 9223372036854775808) : w64 x = x := by unfold w64; omega
def nz (x : Int) : Int := if x = 0 then 0 else 1
theorem nz01 (x : Int) : nz x = 0 ∨ nz x = 1 := by unfold nz; split <;> simp
/-- from h to h1 nothing is lost: keys, slots grow; tags, lengths of what was there stay -/
def Le (h h1 : PH) : Prop := hn h ≤ hn h1 ∧ hs h ≤ hs h1 ∧ hk h ≤ hk h1 ∧ (∀ r, r < hn h → hc h1 r = hc h r) ∧ ∀ r, r < hn h → hl h1 r = hl h r
theorem Le.rf {h : PH} : Le h h := ⟨Nat.le_refl _, Nat.le_refl _, Nat.le_refl _, fun _ _ => rfl, fun _ _ => rfl⟩
theorem Le.tr {a b c : PH} (h : Le a b) (k : Le b c) : Le a c :=
  ⟨Nat.le_trans h.1 k.1, Nat.le_trans h.2.1 k.2.1, Nat.le_trans h.2.2.1 k.2.2.1, fun r hr => (k.2.2.2.1 r (Nat.lt_of_lt_of_le hr h.1)).trans (h.2.2.2.1 r hr), fun r hr => (k.2.2.2.2 r (Nat.lt_of_lt_of_le hr h.1)).trans (h.2.2.2.2 r hr)⟩
theorem Le.nO {h : PH} {k n : Nat} : Le h (nO h k n) := by
  refine ⟨Nat.le_succ _, Nat.le_add_right _ _, Nat.le_succ _, fun r hr => ?_, fun r hr => rfl⟩
  show up1 (hc h) (hn h) k r = _
  unfold up1
  rw [if_neg (by omega)]
theorem Le.nA {h : PH} {k : Nat} {n : Int} : Le h (nA h k n) := by
  refine ⟨Nat.le_succ _, Nat.le_add_right _ _, Nat.le_succ _, fun r hr => ?_, fun r hr => ?_⟩
  · show up1 (hc h) (hn h) k r = _
    unfold up1
    rw [if_neg (by omega)]
  · show up1 (hl h) (hn h) n r = _
    unfold up1
    rw [if_neg (by omega)]
theorem rv_some (a : Nat) : rv (a + 1) = .ref a := rfl
theorem cv_cat1 (x : Int) : (cv (vI x)).category = 1 := rfl
theorem cv_cat2 (x : Int) : (cv (vJ x)).category = 2 := rfl
theorem cv_catR (x : Nat) : (cv (vR x)).category = 1 := by cases x <;> rfl
