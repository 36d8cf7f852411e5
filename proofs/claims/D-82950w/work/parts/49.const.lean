/-! CONSTANTS STAY: statics, objects and arrays that were there at the start -/
set_option maxRecDepth 100000
def wC (_ t : Nat) : Bool := mdT t
theorem con_ok : ((List.range 704).all (okM wC mdA (fun _ => true))) = true := by decide +kernel
theorem codM_ge {m : Nat} (h : 704 ≤ m) : codM m = [] := by
  unfold codM
  rw [nth_ge codT (m / 32) (by have e : codT.length = 22 := rfl; omega)]
  rfl
theorem F_con {d M : Nat} {av : List PV} {h h' : PH} {o : Ot} (hF : F d M av h = some (o, h')) : Frm wC mdA h h' := by
  refine F_frm (S := fun _ => true) ⟨fun M _ _ => ?_, fun _ => ⟨rfl, rfl, rfl, rfl⟩⟩ d M av h o h' rfl hF
  rcases Nat.lt_or_ge (M / 262144) 704 with z | z
  · exact List.all_eq_true.mp con_ok _ (List.mem_range.mpr z)
  · unfold okM
    rw [codM_ge z]
    rfl
/-- what stays -/
def Kept (h h' : PH) : Prop := Frm wC mdA h h'
theorem Kept.st {h h' : PH} (K : Kept h h') (h0 : hc h 0 = 0) (hp : 0 < hn h) (f : Nat) : gI h' f 0 = gI h f 0 ∧ gJ h' f 0 = gJ h f 0 ∧ gR h' f 0 = gR h f 0 := (K.2.2 0 hp).1 f (by rw [h0]; rfl)
theorem Kept.kc {h h' : PH} (K : Kept h h') (h0 : hc h 0 = 0) (hp : 0 < hn h) (r : Nat) : kc h' r = kc h r := (K.st h0 hp _).2.2
