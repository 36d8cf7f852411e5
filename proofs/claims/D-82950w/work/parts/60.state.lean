/-! THE MODEL's STATE AS A VALUE: ints and longs of its fields, of its arrays -/
set_option maxRecDepth 100000
abbrev MS : Type := (Nat → Int) × (Nat → Int) × (Nat → Int → Int) × (Nat → Int → Int)
def fI (s : MS) (f : Nat) : Int := s.1 f
def fJ (s : MS) (f : Nat) : Int := s.2.1 f
def aI (s : MS) (k : Nat) (j : Int) : Int := s.2.2.1 k j
def aJ (s : MS) (k : Nat) (j : Int) : Int := s.2.2.2 k j
def uI (s : MS) (f : Nat) (v : Int) : MS := (fun g => if g = f then v else fI s g, fJ s, aI s, aJ s)
def uJ (s : MS) (f : Nat) (v : Int) : MS := (fI s, fun g => if g = f then v else fJ s g, aI s, aJ s)
def vI' (s : MS) (k : Nat) (j v : Int) : MS := (fI s, fJ s, fun a i => if a = k ∧ i = j then v else aI s a i, aJ s)
def vJ' (s : MS) (k : Nat) (j v : Int) : MS := (fI s, fJ s, aI s, fun a i => if a = k ∧ i = j then v else aJ s a i)
/-- the heap b, with the model's state s -/
def MH (b : PH) (m : Nat) (s : MS) : PH := (hc b, hl b, (fun f r => if r = m then fI s f else gI b f r), (fun f r => if r = m then fJ s f else gJ b f r), gR b, (fun r j => if m < r ∧ r < m + 147 then aI s (r - m) j else eI b r j), (fun r j => if m < r ∧ r < m + 147 then aJ s (r - m) j else eJ b r j), eR b, hn b, hs b, hk b)
/-- its state in a heap -/
def msOf (b : PH) (m : Nat) : MS := (fun f => gI b f m, fun f => gJ b f m, fun k j => eI b (m + k) j, fun k j => eJ b (m + k) j)
section MSL
variable {b : PH} {m : Nat} {s : MS}
theorem MH_id : MH b m (msOf b m) = b := by
  have e1 : (fun f r => if r = m then fI (msOf b m) f else gI b f r) = gI b := by
    funext f r
    by_cases z : r = m
    · rw [if_pos z, z]; rfl
    · rw [if_neg z]
  have e2 : (fun f r => if r = m then fJ (msOf b m) f else gJ b f r) = gJ b := by
    funext f r
    by_cases z : r = m
    · rw [if_pos z, z]; rfl
    · rw [if_neg z]
  have e3 : (fun r j => if m < r ∧ r < m + 147 then aI (msOf b m) (r - m) j else eI b r j) = eI b := by
    funext r j
    by_cases z : m < r ∧ r < m + 147
    · rw [if_pos z]; show eI b (m + (r - m)) j = _; rw [show m + (r - m) = r from by omega]
    · rw [if_neg z]
  have e4 : (fun r j => if m < r ∧ r < m + 147 then aJ (msOf b m) (r - m) j else eJ b r j) = eJ b := by
    funext r j
    by_cases z : m < r ∧ r < m + 147
    · rw [if_pos z]; show eJ b (m + (r - m)) j = _; rw [show m + (r - m) = r from by omega]
    · rw [if_neg z]
  unfold MH
  rw [e1, e2, e3, e4]
  rfl
theorem MB.mh (B : MB b m) : MB (MH b m s) m := B
theorem gI_MH {f : Nat} : gI (MH b m s) f m = fI s f := if_pos rfl
theorem gJ_MH {f : Nat} : gJ (MH b m s) f m = fJ s f := if_pos rfl
theorem gR_MH {f r : Nat} : gR (MH b m s) f r = gR b f r := rfl
theorem eI_MH {k : Nat} {j : Int} (h1 : 0 < k) (h2 : k < 147) : eI (MH b m s) (m + k) j = aI s k j := by
  show (if m < m + k ∧ m + k < m + 147 then aI s (m + k - m) j else eI b (m + k) j) = _
  rw [if_pos (by omega), show m + k - m = k from by omega]
theorem eJ_MH {k : Nat} {j : Int} (h1 : 0 < k) (h2 : k < 147) : eJ (MH b m s) (m + k) j = aJ s k j := by
  show (if m < m + k ∧ m + k < m + 147 then aJ s (m + k - m) j else eJ b (m + k) j) = _
  rw [if_pos (by omega), show m + k - m = k from by omega]
theorem pI_MH {f : Nat} {v : Int} : pI (MH b m s) f m v = MH b m (uI s f v) := by
  have e1 : up2 (gI (MH b m s)) f m v = (fun g r => if r = m then fI (uI s f v) g else gI b g r) := by
    funext g r
    unfold up2
    by_cases z : r = m
    · subst z
      rw [if_pos rfl]
      show _ = if g = f then v else fI s g
      by_cases w : g = f
      · rw [if_pos ⟨w, rfl⟩, if_pos w]
      · rw [if_neg (fun z => w z.1), if_neg w]; exact gI_MH
    · rw [if_neg (fun w => z w.2), if_neg z]; exact if_neg z
  unfold pI
  rw [e1]
  rfl
theorem pJ_MH {f : Nat} {v : Int} : pJ (MH b m s) f m v = MH b m (uJ s f v) := by
  have e1 : up2 (gJ (MH b m s)) f m v = (fun g r => if r = m then fJ (uJ s f v) g else gJ b g r) := by
    funext g r
    unfold up2
    by_cases z : r = m
    · subst z
      rw [if_pos rfl]
      show _ = if g = f then v else fJ s g
      by_cases w : g = f
      · rw [if_pos ⟨w, rfl⟩, if_pos w]
      · rw [if_neg (fun z => w z.1), if_neg w]; exact gJ_MH
    · rw [if_neg (fun w => z w.2), if_neg z]; exact if_neg z
  unfold pJ
  rw [e1]
  rfl
theorem qI_MH {k : Nat} {j v : Int} (h1 : 0 < k) (h2 : k < 147) : qI (MH b m s) (m + k) j v = MH b m (vI' s k j v) := by
  have e1 : ue2 (eI (MH b m s)) (m + k) j v = (fun r i => if m < r ∧ r < m + 147 then aI (vI' s k j v) (r - m) i else eI b r i) := by
    funext r i
    unfold ue2
    by_cases z : m < r ∧ r < m + 147
    · rw [if_pos z]
      show _ = if r - m = k ∧ i = j then v else aI s (r - m) i
      by_cases w : r - m = k ∧ i = j
      · rw [if_pos w, if_pos ⟨by omega, w.2⟩]
      · rw [if_neg w, if_neg (fun y => w ⟨by omega, y.2⟩)]; exact if_pos z
    · rw [if_neg z, if_neg (fun y => z (by omega))]; exact if_neg z
  unfold qI
  rw [e1]
  rfl
theorem qJ_MH {k : Nat} {j v : Int} (h1 : 0 < k) (h2 : k < 147) : qJ (MH b m s) (m + k) j v = MH b m (vJ' s k j v) := by
  have e1 : ue2 (eJ (MH b m s)) (m + k) j v = (fun r i => if m < r ∧ r < m + 147 then aJ (vJ' s k j v) (r - m) i else eJ b r i) := by
    funext r i
    unfold ue2
    by_cases z : m < r ∧ r < m + 147
    · rw [if_pos z]
      show _ = if r - m = k ∧ i = j then v else aJ s (r - m) i
      by_cases w : r - m = k ∧ i = j
      · rw [if_pos w, if_pos ⟨by omega, w.2⟩]
      · rw [if_neg w, if_neg (fun y => w ⟨by omega, y.2⟩)]; exact if_pos z
    · rw [if_neg z, if_neg (fun y => z (by omega))]; exact if_neg z
  unfold qJ
  rw [e1]
  rfl
/- reading behind writing -/
theorem fI_uI {f g : Nat} {v : Int} : fI (uI s f v) g = if g = f then v else fI s g := rfl
theorem fI_uJ {f g : Nat} {v : Int} : fI (uJ s f v) g = fI s g := rfl
theorem fI_vI {k g : Nat} {j v : Int} : fI (vI' s k j v) g = fI s g := rfl
theorem fI_vJ {k g : Nat} {j v : Int} : fI (vJ' s k j v) g = fI s g := rfl
theorem fJ_uI {f g : Nat} {v : Int} : fJ (uI s f v) g = fJ s g := rfl
theorem fJ_uJ {f g : Nat} {v : Int} : fJ (uJ s f v) g = if g = f then v else fJ s g := rfl
theorem fJ_vI {k g : Nat} {j v : Int} : fJ (vI' s k j v) g = fJ s g := rfl
theorem fJ_vJ {k g : Nat} {j v : Int} : fJ (vJ' s k j v) g = fJ s g := rfl
theorem aI_uI {f k : Nat} {v j : Int} : aI (uI s f v) k j = aI s k j := rfl
theorem aI_uJ {f k : Nat} {v j : Int} : aI (uJ s f v) k j = aI s k j := rfl
theorem aI_vI {k l : Nat} {j i v : Int} : aI (vI' s k j v) l i = if l = k ∧ i = j then v else aI s l i := rfl
theorem aI_vJ {k l : Nat} {j i v : Int} : aI (vJ' s k j v) l i = aI s l i := rfl
theorem aJ_uI {f k : Nat} {v j : Int} : aJ (uI s f v) k j = aJ s k j := rfl
theorem aJ_uJ {f k : Nat} {v j : Int} : aJ (uJ s f v) k j = aJ s k j := rfl
theorem aJ_vI {k l : Nat} {j i v : Int} : aJ (vI' s k j v) l i = aJ s l i := rfl
theorem aJ_vJ {k l : Nat} {j i v : Int} : aJ (vJ' s k j v) l i = if l = k ∧ i = j then v else aJ s l i := rfl
end MSL
theorem T65 {x : Nat} (e : x = 65) : inT 64 65 x := by rw [e]; decide
theorem T67 {x : Nat} (e : x = 67) : inT 67 69 x := by rw [e]; decide
theorem T69 {x : Nat} (e : x = 69) : inT 67 69 x := by rw [e]; decide
theorem IAe {i n n' : Int} (e : n' = n) (z : inA i n) : inA i n' := by rw [e]; exact z
