/-! WHAT THE JDK METHODS DO (text: gen/lib.tail.txt, printed by gen/lib.py) -/
set_option maxRecDepth 100000
section LIB
variable {d : Nat} {h : PH} {r e : Nat} {l : List Nat}
theorem f_max (d : Nat) (a b : Int) (h : PH) : F (d + 1) 174587906 [vI a, vI b] h = some (.inl (some (vI (if a < b then b else a))), h) := by
  rw [e_J14_max, c_J14_max_0]
  by_cases q : a < b
  · rw [if_pos q, if_pos q, c_J14_max_9, c_J14_max_10]
  · rw [if_neg q, if_neg q, c_J14_max_5, c_J14_max_10]
theorem f_min (d : Nat) (a b : Int) (h : PH) : F (d + 1) 174850050 [vI a, vI b] h = some (.inl (some (vI (if b < a then b else a))), h) := by
  rw [e_J14_min, c_J14_min_0]
  by_cases q : b < a
  · rw [if_pos q, if_pos q, c_J14_min_9, c_J14_min_10]
  · rw [if_neg q, if_neg q, c_J14_min_5, c_J14_min_10]
theorem f_chk2 (d : Nat) {i n : Int} {x : Nat} (h : PH) (h1 : 0 ≤ i) (h2 : i < n) : F (d + 1) 172752899 [vI i, vI n, vR x] h = some (.inl (some (vI i)), h) := by
  rw [e_J2_checkIndex, c_J2_checkIndex_0, if_neg (by omega), c_J2_checkIndex_4, if_pos h2, c_J2_checkIndex_16]
theorem f_chk (d : Nat) {i n : Int} (h : PH) (h1 : 0 ≤ i) (h2 : i < n) : F (d + 2) 172490754 [vI i, vI n] h = some (.inl (some (vI i)), h) := by
  rw [e_J22_checkIndex, c_J22_checkIndex_0, f_chk2 d h h1 h2]
  exact c_J22_checkIndex_6 _ _ _ _ _
/-- a list: the object at r holds l -/
def AL (h : PH) (r : Nat) (l : List Nat) : Prop := hc h r = 48 ∧ gI h 3543163072 r = l.length ∧ (hc h (gR h 3534774466 r) = 71 ∨ kc h (gR h 3534774466 r) = 72 ∧ hl h (gR h 3534774466 r) = 0) ∧ (l.length : Int) ≤ hl h (gR h 3534774466 r) ∧ (∀ j, j < l.length → eR h (gR h 3534774466 r) (j : Int) = l.getD j 0) ∧ (∀ v ∈ l, okE h 71 v) ∧ l.length ≤ 100000
theorem AL.in48 (A : AL h r l) : inT 48 48 (hc h r) := by rw [A.1]; exact ⟨Nat.le_refl _, Nat.le_refl _⟩
theorem AL.arr (A : AL h r l) : inT 71 77 (hc h (gR h 3534774466 r)) ∨ inT 71 77 (kc h (gR h 3534774466 r)) := by
  rcases A.2.2.1 with z | ⟨z, -⟩
  · left; omega
  · right; omega
theorem AL.arr2 (A : AL h r l) : inT 64 77 (hc h (gR h 3534774466 r)) ∨ inT 64 77 (kc h (gR h 3534774466 r)) := by
  rcases A.arr with ⟨z1, z2⟩ | ⟨z1, z2⟩
  · left; omega
  · right; omega
theorem f_size (d : Nat) (A : AL h r l) : F (d + 1) 165249793 [vR r] h = some (.inl (some (vI l.length)), h) := by
  rw [e_J6_size, c_J6_size_0 _ _ _ A.in48, A.2.1]
theorem f_get (d : Nat) (A : AL h r l) {i : Int} (h1 : 0 ≤ i) (h2 : i < l.length) : F (d + 3) 166822658 [vR r, vI i] h = some (.inl (some (vR (l.getD i.toNat 0))), h) := by
  rw [e_J6_get, c_J6_get_0 _ _ _ _ A.in48, A.2.1, f_chk d h h1 h2]
  show FA _ 166822658 8 [vR r, vI i] [vI i] h = _
  rw [c_J6_get_8 _ _ _ _ _ A.in48, e_J6_elementData, c_J6_elementData_0 _ _ _ _ A.in48 ⟨A.arr, h1, by have := A.2.2.2.1; omega⟩]
  show FA _ 166822658 14 [vR r, vI i] [vR (eR h (gR h 3534774466 r) i)] h = _
  rw [c_J6_get_14]
  have e1 := A.2.2.2.2.1 i.toNat (by omega)
  have e2 : ((i.toNat : Nat) : Int) = i := by omega
  rw [e2] at e1
  rw [e1]
/-- only the list r (its fields, its array) is changed -/
def LFr (r : Nat) (h h' : PH) : Prop := Le h h' ∧ (∀ f q, q < hn h → (q ≠ r ∨ f ≠ 3534774466 ∧ f ≠ 3543163072 ∧ f ≠ 3526385856) → gI h' f q = gI h f q ∧ gJ h' f q = gJ h f q ∧ gR h' f q = gR h f q) ∧ (∀ q j, q < hn h → eI h' q j = eI h q j ∧ eJ h' q j = eJ h q j ∧ (q ≠ gR h 3534774466 r → eR h' q j = eR h q j)) ∧ (gR h' 3534774466 r = gR h 3534774466 r ∨ hn h ≤ gR h' 3534774466 r ∧ gR h' 3534774466 r < hn h')
theorem okE_le {h h' : PH} {t v : Nat} (L : Le h h') (hv : v < hn h) (k : okE h t v) : okE h' t v := by
  unfold okE at k ⊢
  rw [L.2.2.2.1 v hv]
  exact k
theorem okE_up {h h' : PH} {v : Nat} (L : Le h h') (hf : ∀ q, hn h ≤ q → hc h q = 0) (k : okE h 71 v) : okE h' 71 v := by
  rcases Nat.lt_or_ge v (hn h) with z | z
  · exact okE_le L z k
  · have e := hf v z
    rcases k with k | ⟨-, k⟩ | ⟨k, -⟩ | ⟨k, -⟩ | ⟨k, -⟩
    · exact Or.inl k
    · rcases k with ⟨k1, -⟩ | k1 <;> omega
    · omega
    · omega
    · omega
end LIB
