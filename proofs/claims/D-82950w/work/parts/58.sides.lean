/-! THE LAW OUT OF TWO SIDES: each object by itself, against one spec (text: gen/sides.txt, printed by gen/sides.py) -/
set_option maxRecDepth 100000
def Sx (m : Nat) : Bool := (!(Nat.beq (m / 262144) 671) || Nat.beq m 175995589) && (!(Nat.beq (m / 262144) 664) || Nat.beq m 174063618)
def Sn (m : Nat) : Bool := Nat.ble 141 (m / 262144) && Nat.ble (m / 262144) 383
theorem sx_code : ((List.range 704).all fun i => Nat.beq i 671 || (Nat.beq i 664 || okMN true Sx i)) = true := by decide +kernel
theorem sn_code : ((List.range 243).all fun i => okMN false Sn (141 + i)) = true := by decide +kernel
theorem tr_x : TrOK true Sx := by
  refine ⟨fun M hS hlt => ?_, fun z => by cases z⟩
  unfold Sx at hS
  simp only [Bool.and_eq_true, Bool.or_eq_true, Bool.not_eq_true'] at hS
  rcases Nat.lt_or_ge (M / 262144) 704 with z | z
  · have q := List.all_eq_true.mp sx_code _ (List.mem_range.mpr z)
    simp only [Bool.or_eq_true] at q
    rcases q with q | q | q
    · rcases hS.1 with w | w
      · rw [w] at q; cases q
      · exact Or.inl (Nat.eq_of_beq_eq_true w)
    · rcases hS.2 with w | w
      · rw [w] at q; cases q
      · exact Or.inr (Or.inl (Nat.eq_of_beq_eq_true w))
    · exact Or.inr (Or.inr q)
  · refine Or.inr (Or.inr ?_)
    unfold okMN
    rw [codM_ge z]
    rfl
theorem tr_m : TrOK false Sn := by
  have key : ∀ M, Sn M = true → 141 ≤ M / 262144 ∧ M / 262144 ≤ 383 := by
    intro M h
    unfold Sn at h
    rw [Bool.and_eq_true, Nat.ble_eq, Nat.ble_eq] at h
    exact h
  refine ⟨fun M hS _ => Or.inr (Or.inr ?_), fun _ M hS e => ?_⟩
  · have z := key M hS
    have q := List.all_eq_true.mp sn_code (M / 262144 - 141) (List.mem_range.mpr (by omega))
    have e : 141 + (M / 262144 - 141) = M / 262144 := by omega
    rw [e] at q
    exact q
  · have z := key M hS
    omega
/-- keys of the one, of the other -/
def PX (m o r : Nat) : Prop := ¬ (m ≤ r ∧ r < m + 147) ∧ r ≠ o
def PM (b0 m r : Nat) : Prop := r < b0 ∨ (m ≤ r ∧ r < m + 147)
theorem po_x {m o : Nat} (h : m + 147 ≤ o) : PO true (fun _ r => PX m o r) (PX m o) (o + 1) := ⟨fun _ _ _ _ a => a, fun _ _ a => a, fun _ n hn0 => ⟨fun z => by omega, by omega⟩, fun _ _ a => Or.inl a⟩
theorem po_m {b0 m : Nat} : PO false (fun _ r => PM b0 m r) (PM b0 m) 0 := ⟨fun _ _ _ _ a => a, fun _ _ a => a, fun z => (by cases z), fun _ _ a => Or.inl a⟩
theorem po_w : PO true (fun n r => r < n) (fun _ => True) 0 := ⟨fun _ _ _ a b => Nat.lt_of_lt_of_le b a, fun _ _ _ => trivial, fun _ n _ => Nat.lt_succ_self n, fun n r a => by omega⟩
def Bt (b L : Nat) (xs : Nat → Int) (b0 x m o : Nat) (hx hm h : PH) : Prop := (Cl (PX m o) hx ∧ Sm true (o + 1) (PX m o) hx h) ∧ (Cl (PM b0 m) hm ∧ Sm false 0 (PM b0 m) hm h) ∧ (hc h x = 1 ∧ hc h m = 43 ∧ hc h o = 66 ∧ hl h o = 1 ∧ ConH h ∧ ScrH h b L xs) ∧ (PX m o x ∧ b0 ≤ m ∧ m + 147 ≤ o ∧ o < hn h ∧ ∀ r, r < b0 → mdT (hc h r) = false ∧ mdA (hc h r) = false)
theorem kept_sm {h h1 : PH} {r : Nat} (K : Kept h h1) (hr : r < hn h) (e1 : mdT (hc h r) = false) (e2 : mdA (hc h r) = false) : SmR h h1 r := by
  have a := K.1.2.2.2.1 r hr
  have b := K.1.2.2.2.2 r hr
  obtain ⟨c, d⟩ := K.2.2 r hr
  exact ⟨a, b, fun f => (c f e1).1, fun f => (c f e1).2.1, fun f => (c f e1).2.2, fun j => (d e2 j).1, fun j => (d e2 j).2.1, fun j => (d e2 j).2.2⟩
section SIDES
variable {b L : Nat} {xs : Nat → Int} {b0 x m o : Nat} {hx hm h : PH}
theorem bt_hx (B : Bt b L xs b0 x m o hx hm h) : hc h x = 1 := B.2.2.1.1
theorem bt_ho (B : Bt b L xs b0 x m o hx hm h) : hc h o = 66 ∧ inA 0 (hl h o) := ⟨B.2.2.1.2.2.1, by decide, by rw [B.2.2.1.2.2.2.1]; decide⟩
theorem base_keep {h1 : PH} (K : Kept h h1) (z : hc h x = 1 ∧ hc h m = 43 ∧ hc h o = 66 ∧ hl h o = 1 ∧ ConH h ∧ ScrH h b L xs) (ho : o < hn h) : hc h1 x = 1 ∧ hc h1 m = 43 ∧ hc h1 o = 66 ∧ hl h1 o = 1 ∧ ConH h1 ∧ ScrH h1 b L xs := by
  obtain ⟨z1, z2, z3, z4, C, S⟩ := z
  refine ⟨(hc_keep C K (by rw [z1]; decide)).trans z1, (hc_keep C K (by rw [z2]; decide)).trans z2, (hc_keep C K (by rw [z3]; decide)).trans z3, (K.1.2.2.2.2 o ho).trans z4, C.keep K, S.keep C K⟩
theorem after_x (B : Bt b L xs b0 x m o hx hm h) {d M : Nat} {av : List PV} {o1 : Ot} {hx1 : PH} (hS : Sx M = true) (hav : ∀ R, AllV R av) (f1 : F d M (vR x :: av) hx = some (o1, hx1)) : ∃ h1, F d M (vR x :: av) h = some (o1, h1) ∧ Bt b L xs b0 x m o hx1 hm h1 ∧ ∀ e, o1 = .inr e → hc h1 e = hc hx1 e := by
  obtain ⟨⟨cl, sm⟩, ⟨cm, sn⟩, base, ⟨pxx, hb, hmo, hon, hst⟩⟩ := B
  obtain ⟨h1, g1, ⟨cl1, sm1, ou1⟩, ok1, hle⟩ := F_tr (N := o + 1) (P := fun _ r => PX m o r) (Q := PX m o) tr_x (po_x hmo) d M (vR x :: av) hx h o1 hx1 hS (av_c pxx (hav _)) ⟨cl, sm, Ou.rf⟩ f1
  have K : Kept h h1 := F_con g1
  refine ⟨h1, g1, ⟨⟨cl1, sm1⟩, ⟨cm, ⟨fun r hr => ?_, fun z => by cases z⟩⟩, base_keep K base hon, ⟨pxx, hb, hmo, Nat.lt_of_lt_of_le hon K.1.1, fun r hr => ?_⟩⟩, fun e he => ?_⟩
  · rcases hr with hr | hr
    · refine (sn.1 r (Or.inl hr)).tr ?_
      rcases hr with hr | hr
      · exact kept_sm K (by omega) (hst r hr).1 (hst r hr).2
      · exact ou1.1 r (fun z => z.1 hr)
    · cases hr.1
  · rw [K.1.2.2.2.1 r (by omega)]
    exact hst r hr
  · subst he
    exact (sm1.1 e (Or.inl ok1)).1
theorem after_m (B : Bt b L xs b0 x m o hx hm h) {d M : Nat} {av : List PV} {o1 : Ot} {hm1 : PH} (hS : Sn M = true) (hav : ∀ R, AllV R av) (f1 : F d M (vR m :: av) hm = some (o1, hm1)) : ∃ h1, F d M (vR m :: av) h = some (o1, h1) ∧ Bt b L xs b0 x m o hx hm1 h1 ∧ gI h1 1672173228 m = gI hm1 1672173228 m ∧ eJ h1 o 0 = eJ h o 0 := by
  obtain ⟨⟨cl, sm⟩, ⟨cm, sn⟩, base, ⟨pxx, hb, hmo, hon, hst⟩⟩ := B
  have pmm : PM b0 m m := Or.inr (by omega)
  have pmo : ¬ PM b0 m o := by unfold PM; omega
  obtain ⟨h1, g1, ⟨cm1, sn1, ou1⟩, ok1, hle⟩ := F_tr (N := 0) (P := fun _ r => PM b0 m r) (Q := PM b0 m) tr_m po_m d M (vR m :: av) hm h o1 hm1 hS (av_c pmm (hav _)) ⟨cm, sn, Ou.rf⟩ f1
  have K : Kept h h1 := F_con g1
  obtain ⟨n1, n2, n3⟩ := ou1.2 rfl
  obtain ⟨⟨y1, y2, y3⟩, y4⟩ := sm.2 rfl
  refine ⟨h1, g1, ⟨⟨cl, ⟨fun r hr => ?_, fun _ => ⟨⟨n1.trans y1, n2.trans y2, n3.trans y3⟩, y4⟩⟩⟩, ⟨cm1, sn1⟩, base_keep K base hon, ⟨pxx, hb, hmo, by rw [n1]; exact hon, fun r hr => ?_⟩⟩, (sn1.1 m (Or.inl pmm)).2.2.1 _, (ou1.1 o pmo).2.2.2.2.2.2.1 0⟩
  · refine (sm.1 r hr).tr ?_
    rcases Nat.lt_or_ge r b0 with hr2 | hr2
    · exact kept_sm K (by omega) (hst r hr2).1 (hst r hr2).2
    · refine ou1.1 r (fun z => ?_)
      unfold PM at z
      rcases hr with hr | hr
      · have := hr.1; omega
      · omega
  · rw [K.1.2.2.2.1 r (by omega)]
    exact hst r hr
theorem sm_qJ {r : Nat} {v : Int} (e : r ≠ o) : SmR h (qJ h o 0 v) r := ⟨rfl, rfl, fun _ => rfl, fun _ => rfl, fun _ => rfl, fun _ => rfl, fun _ => if_neg (fun z => e z.1), fun _ => rfl⟩
theorem after_o (B : Bt b L xs b0 x m o hx hm h) {v : Int} : Bt b L xs b0 x m o hx hm (qJ h o 0 v) := by
  obtain ⟨⟨cl, sm⟩, ⟨cm, sn⟩, base, ⟨pxx, hb, hmo, hon, hst⟩⟩ := B
  obtain ⟨⟨y1, y2, y3⟩, y4⟩ := sm.2 rfl
  refine ⟨⟨cl, ⟨fun r hr => (sm.1 r hr).tr (sm_qJ ?_), sm.2⟩⟩, ⟨cm, ⟨fun r hr => (sn.1 r hr).tr (sm_qJ ?_), sn.2⟩⟩, base, ⟨pxx, hb, hmo, hon, hst⟩⟩
  · rcases hr with hr | hr
    · exact hr.2
    · omega
  · rcases hr with hr | hr
    · unfold PM at hr; omega
    · cases hr.1
end SIDES
def XOut (rv : Int → PV) (t1 t2 : Nat) (h1 : PH) (o : Ot) (r : Int × Int) : Prop := (r.1 = 0 ∧ o = .inl (some (rv r.2))) ∨ (r.1 = 1 ∧ ∃ e, o = .inr e ∧ t1 ≠ 0 ∧ hc h1 e = t1) ∨ ((r.1 = 2 ∧ t2 ≠ 0) ∧ ∃ e, o = .inr e ∧ hc h1 e = t2)
abbrev RL : Type := Nat → PH → Nat → PH → Nat → Prop
/-- a call of both, each on its own heap -/
def JOp (R : RL) (rv : Int → PV) (MX MM : Nat) (av : List PV) (t1 t2 : Nat) : Prop := ∀ d k hx x hm m, 2000 ≤ d → k < 64 → R k hx x hm m → ∃ o hx1 w hm1, F d MX (vR x :: av) hx = some (o, hx1) ∧ F 2039 MM (vR m :: av) hm = some (.inl (some (rv w)), hm1) ∧ R (k + 1) hx1 x hm1 m ∧ XOut rv t1 t2 hx1 o (gI hm1 1672173228 m, w)
def Both (R : RL) (b L : Nat) (xs : Nat → Int) : IV := fun k h x m o => ∃ (hx hm : PH) (b0 : Nat), R k hx x hm m ∧ Bt b L xs b0 x m o hx hm h
theorem w_read_0 {h h1 : PH} {x o : Nat} (hx : hc h x = 1) {v : Int} (f : F 2038 5507089 [vR x] h = some (.inl (some (vI v)), h1)) (ho : hc h1 o = 66 ∧ inA 0 (hl h1 o)) : F 2039 2 [vR x, vR o] h = some (.inl (some (vI 0)), qJ h1 o 0 v) := by
  rw [e_X0_read 2038, c_X0_read_0 (g0 := i11 hx), f]
  dsimp only [bndH, pu]
  rw [c_X0_read_6 (g0 := ho), c_X0_read_14]
theorem w_read_1 {h h1 : PH} {x o : Nat} (hx : hc h x = 1) {e : Nat} (f : F 2038 5507089 [vR x] h = some (.inr e, h1)) (ht : hc h1 e = 46) : F 2039 2 [vR x, vR o] h = some (.inl (some (vI 1)), h1) := by
  rw [e_X0_read 2038, c_X0_read_0 (g0 := i11 hx), f]
  dsimp only [bndH, pu]
  rw [ht]
  exact c_X0_read_11 _ _ _ _ _ _
theorem w_fault_0 {h h1 : PH} {x o : Nat} (v0 : Int) (hx : hc h x = 1) {v : Int} (f : F 2038 6293522 [vR x, vI v0] h = some (.inl (some (vI v)), h1)) (ho : hc h1 o = 66 ∧ inA 0 (hl h1 o)) : F 2039 262147 [vR x, vI v0, vR o] h = some (.inl (some (vI 0)), qJ h1 o 0 v) := by
  rw [e_X0_fault 2038, c_X0_fault_0 (g0 := i11 hx), f]
  dsimp only [bndH, pu]
  rw [c_X0_fault_7 (g0 := ho), c_X0_fault_15]
theorem w_fault_1 {h h1 : PH} {x o : Nat} (v0 : Int) (hx : hc h x = 1) {e : Nat} (f : F 2038 6293522 [vR x, vI v0] h = some (.inr e, h1)) (ht : hc h1 e = 45) : F 2039 262147 [vR x, vI v0, vR o] h = some (.inl (some (vI 1)), h1) := by
  rw [e_X0_fault 2038, c_X0_fault_0 (g0 := i11 hx), f]
  dsimp only [bndH, pu]
  rw [ht]
  exact c_X0_fault_12 _ _ _ _ _ _ _
theorem w_nodes_0 {h h1 : PH} {x o : Nat} (v0 : Int) (hx : hc h x = 1) {v : Int} (f : F 2038 6817810 [vR x, vI v0] h = some (.inl (some (vI v)), h1)) (ho : hc h1 o = 66 ∧ inA 0 (hl h1 o)) : F 2039 524291 [vR x, vI v0, vR o] h = some (.inl (some (vI 0)), qJ h1 o 0 v) := by
  rw [e_X0_nodes 2038, c_X0_nodes_0 (g0 := i11 hx), f]
  dsimp only [bndH, pu]
  rw [c_X0_nodes_7 (g0 := ho), c_X0_nodes_15]
theorem w_nodes_1 {h h1 : PH} {x o : Nat} (v0 : Int) (hx : hc h x = 1) {e : Nat} (f : F 2038 6817810 [vR x, vI v0] h = some (.inr e, h1)) (ht : hc h1 e = 47) : F 2039 524291 [vR x, vI v0, vR o] h = some (.inl (some (vI 1)), h1) := by
  rw [e_X0_nodes 2038, c_X0_nodes_0 (g0 := i11 hx), f]
  dsimp only [bndH, pu]
  rw [ht]
  exact c_X0_nodes_12 _ _ _ _ _ _ _
theorem w_node_0 {h h1 : PH} {x o : Nat} (v0 : Int) (v1 : Int) (v2 : Int) (hx : hc h x = 1) {v : Int} (f : F 2038 7604244 [vR x, vI v0, vI v1, vI v2] h = some (.inl (some (vI v)), h1)) (ho : hc h1 o = 66 ∧ inA 0 (hl h1 o)) : F 2039 786437 [vR x, vI v0, vI v1, vI v2, vR o] h = some (.inl (some (vI 0)), qJ h1 o 0 v) := by
  rw [e_X0_node 2038, c_X0_node_0 (g0 := i11 hx), f]
  dsimp only [bndH, pu]
  rw [c_X0_node_10 (g0 := ho), c_X0_node_23]
theorem w_node_1 {h h1 : PH} {x o : Nat} (v0 : Int) (v1 : Int) (v2 : Int) (hx : hc h x = 1) {e : Nat} (f : F 2038 7604244 [vR x, vI v0, vI v1, vI v2] h = some (.inr e, h1)) (ht : hc h1 e = 47) : F 2039 786437 [vR x, vI v0, vI v1, vI v2, vR o] h = some (.inl (some (vI 1)), h1) := by
  rw [e_X0_node 2038, c_X0_node_0 (g0 := i11 hx), f]
  dsimp only [bndH, pu]
  rw [ht]
  exact c_X0_node_15 _ _ _ _ _ _ _ _ _
theorem w_node_2 {h h1 : PH} {x o : Nat} (v0 : Int) (v1 : Int) (v2 : Int) (hx : hc h x = 1) {e : Nat} (f : F 2038 7604244 [vR x, vI v0, vI v1, vI v2] h = some (.inr e, h1)) (ht : hc h1 e = 45) : F 2039 786437 [vR x, vI v0, vI v1, vI v2, vR o] h = some (.inl (some (vI 2)), h1) := by
  rw [e_X0_node 2038, c_X0_node_0 (g0 := i11 hx), f]
  dsimp only [bndH, pu]
  rw [ht]
  exact c_X0_node_19 _ _ _ _ _ _ _ _ _
theorem w_step_0 {h h1 : PH} {x o : Nat} (v0 : Int) (v1 : Int) (v2 : Int) (hx : hc h x = 1) {v : Int} (f : F 2038 8128532 [vR x, vI v0, vI v1, vI v2] h = some (.inl (some (vI v)), h1)) (ho : hc h1 o = 66 ∧ inA 0 (hl h1 o)) : F 2039 1048581 [vR x, vI v0, vI v1, vI v2, vR o] h = some (.inl (some (vI 0)), qJ h1 o 0 v) := by
  rw [e_X0_step 2038, c_X0_step_0 (g0 := i11 hx), f]
  dsimp only [bndH, pu]
  rw [c_X0_step_10 (g0 := ho), c_X0_step_19]
theorem w_step_1 {h h1 : PH} {x o : Nat} (v0 : Int) (v1 : Int) (v2 : Int) (hx : hc h x = 1) {e : Nat} (f : F 2038 8128532 [vR x, vI v0, vI v1, vI v2] h = some (.inr e, h1)) (ht : hc h1 e = 47) : F 2039 1048581 [vR x, vI v0, vI v1, vI v2, vR o] h = some (.inl (some (vI 1)), h1) := by
  rw [e_X0_step 2038, c_X0_step_0 (g0 := i11 hx), f]
  dsimp only [bndH, pu]
  rw [ht]
  exact c_X0_step_15 _ _ _ _ _ _ _ _ _
theorem w_mode_0 {h h1 : PH} {x o : Nat} (v0 : Int) (v1 : Int) (v2 : Int) (hx : hc h x = 1) {v : Int} (f : F 2038 8390676 [vR x, vI v0, vI v1, vI v2] h = some (.inl (some (vI v)), h1)) (ho : hc h1 o = 66 ∧ inA 0 (hl h1 o)) : F 2039 1310725 [vR x, vI v0, vI v1, vI v2, vR o] h = some (.inl (some (vI 0)), qJ h1 o 0 v) := by
  rw [e_X0_mode 2038, c_X0_mode_0 (g0 := i11 hx), f]
  dsimp only [bndH, pu]
  rw [c_X0_mode_10 (g0 := ho), c_X0_mode_19]
theorem w_mode_1 {h h1 : PH} {x o : Nat} (v0 : Int) (v1 : Int) (v2 : Int) (hx : hc h x = 1) {e : Nat} (f : F 2038 8390676 [vR x, vI v0, vI v1, vI v2] h = some (.inr e, h1)) (ht : hc h1 e = 47) : F 2039 1310725 [vR x, vI v0, vI v1, vI v2, vR o] h = some (.inl (some (vI 1)), h1) := by
  rw [e_X0_mode 2038, c_X0_mode_0 (g0 := i11 hx), f]
  dsimp only [bndH, pu]
  rw [ht]
  exact c_X0_mode_15 _ _ _ _ _ _ _ _ _
theorem w_parts_0 {h h1 : PH} {x o : Nat} (v0 : Int) (v1 : Int) (v2 : Int) (hx : hc h x = 1) {v : Int} (f : F 2038 8914964 [vR x, vI v0, vI v1, vI v2] h = some (.inl (some (vI v)), h1)) (ho : hc h1 o = 66 ∧ inA 0 (hl h1 o)) : F 2039 1572869 [vR x, vI v0, vI v1, vI v2, vR o] h = some (.inl (some (vI 0)), qJ h1 o 0 v) := by
  rw [e_X0_parts 2038, c_X0_parts_0 (g0 := i11 hx), f]
  dsimp only [bndH, pu]
  rw [c_X0_parts_10 (g0 := ho), c_X0_parts_19]
theorem w_parts_1 {h h1 : PH} {x o : Nat} (v0 : Int) (v1 : Int) (v2 : Int) (hx : hc h x = 1) {e : Nat} (f : F 2038 8914964 [vR x, vI v0, vI v1, vI v2] h = some (.inr e, h1)) (ht : hc h1 e = 47) : F 2039 1572869 [vR x, vI v0, vI v1, vI v2, vR o] h = some (.inl (some (vI 1)), h1) := by
  rw [e_X0_parts 2038, c_X0_parts_0 (g0 := i11 hx), f]
  dsimp only [bndH, pu]
  rw [ht]
  exact c_X0_parts_15 _ _ _ _ _ _ _ _ _
theorem w_one_0 {h h1 : PH} {x o : Nat} (v0 : Int) (v1 : Int) (v2 : Int) (v3 : Int) (hx : hc h x = 1) {v : Int} (f : F 2038 9177109 [vR x, vI v0, vI v1, vI v2, vI v3] h = some (.inl (some (vI v)), h1)) (ho : hc h1 o = 66 ∧ inA 0 (hl h1 o)) : F 2039 1835014 [vR x, vI v0, vI v1, vI v2, vI v3, vR o] h = some (.inl (some (vI 0)), qJ h1 o 0 (if v = 0 then 0 else 1)) := by
  rw [e_X0_one 2038, c_X0_one_0 (g0 := i11 hx), f]
  dsimp only [bndH, pu]
  rw [c_X0_one_12]
  by_cases z : v = 0
  · rw [if_pos z, if_pos z, c_X0_one_19, c_X0_one_20 (g0 := ho), c_X0_one_28]
  · rw [if_neg z, if_neg z, c_X0_one_15, c_X0_one_20 (g0 := ho), c_X0_one_28]
theorem w_one_1 {h h1 : PH} {x o : Nat} (v0 : Int) (v1 : Int) (v2 : Int) (v3 : Int) (hx : hc h x = 1) {e : Nat} (f : F 2038 9177109 [vR x, vI v0, vI v1, vI v2, vI v3] h = some (.inr e, h1)) (ht : hc h1 e = 47) : F 2039 1835014 [vR x, vI v0, vI v1, vI v2, vI v3, vR o] h = some (.inl (some (vI 1)), h1) := by
  rw [e_X0_one 2038, c_X0_one_0 (g0 := i11 hx), f]
  dsimp only [bndH, pu]
  rw [ht]
  exact c_X0_one_24 _ _ _ _ _ _ _ _ _ _
theorem w_meant_0 {h h1 : PH} {x o : Nat} (v0 : Int) (v1 : Int) (hx : hc h x = 1) {v : Int} (f : F 2038 9439251 [vR x, vI v0, vI v1] h = some (.inl (some (vI v)), h1)) (ho : hc h1 o = 66 ∧ inA 0 (hl h1 o)) : F 2039 2097156 [vR x, vI v0, vI v1, vR o] h = some (.inl (some (vI 0)), qJ h1 o 0 v) := by
  rw [e_X0_meant 2038, c_X0_meant_0 (g0 := i11 hx), f]
  dsimp only [bndH, pu]
  rw [c_X0_meant_8 (g0 := ho), c_X0_meant_17]
theorem w_meant_1 {h h1 : PH} {x o : Nat} (v0 : Int) (v1 : Int) (hx : hc h x = 1) {e : Nat} (f : F 2038 9439251 [vR x, vI v0, vI v1] h = some (.inr e, h1)) (ht : hc h1 e = 47) : F 2039 2097156 [vR x, vI v0, vI v1, vR o] h = some (.inl (some (vI 1)), h1) := by
  rw [e_X0_meant 2038, c_X0_meant_0 (g0 := i11 hx), f]
  dsimp only [bndH, pu]
  rw [ht]
  exact c_X0_meant_13 _ _ _ _ _ _ _ _
theorem w_run_0 {h h1 : PH} {x o : Nat} (v0 : Int) (v1 : Int) (v2 : Int) (hx : hc h x = 1) {v : Int} (f : F 2038 9701396 [vR x, vI v0, vJ v1, vI v2] h = some (.inl (some (vI v)), h1)) (ho : hc h1 o = 66 ∧ inA 0 (hl h1 o)) : F 2039 2359301 [vR x, vI v0, vJ v1, vI v2, vR o] h = some (.inl (some (vI 0)), qJ h1 o 0 v) := by
  rw [e_X0_run 2038, c_X0_run_0 (g0 := i11 hx), f]
  dsimp only [bndH, pu]
  rw [c_X0_run_11 (g0 := ho), c_X0_run_24]
theorem w_run_1 {h h1 : PH} {x o : Nat} (v0 : Int) (v1 : Int) (v2 : Int) (hx : hc h x = 1) {e : Nat} (f : F 2038 9701396 [vR x, vI v0, vJ v1, vI v2] h = some (.inr e, h1)) (ht : hc h1 e = 47) : F 2039 2359301 [vR x, vI v0, vJ v1, vI v2, vR o] h = some (.inl (some (vI 1)), h1) := by
  rw [e_X0_run 2038, c_X0_run_0 (g0 := i11 hx), f]
  dsimp only [bndH, pu]
  rw [ht]
  exact c_X0_run_16 _ _ _ _ _ _ _ _ _
theorem w_run_2 {h h1 : PH} {x o : Nat} (v0 : Int) (v1 : Int) (v2 : Int) (hx : hc h x = 1) {e : Nat} (f : F 2038 9701396 [vR x, vI v0, vJ v1, vI v2] h = some (.inr e, h1)) (ht : hc h1 e = 45) : F 2039 2359301 [vR x, vI v0, vJ v1, vI v2, vR o] h = some (.inl (some (vI 2)), h1) := by
  rw [e_X0_run 2038, c_X0_run_0 (g0 := i11 hx), f]
  dsimp only [bndH, pu]
  rw [ht]
  exact c_X0_run_20 _ _ _ _ _ _ _ _ _
theorem w_number_0 {h h1 : PH} {x o : Nat} (v0 : Int) (hx : hc h x = 1) {v : Int} (f : F 2038 9963538 [vR x, vI v0] h = some (.inl (some (vJ v)), h1)) (ho : hc h1 o = 66 ∧ inA 0 (hl h1 o)) : F 2039 2621443 [vR x, vI v0, vR o] h = some (.inl (some (vI 0)), qJ h1 o 0 v) := by
  rw [e_X0_number 2038, c_X0_number_0 (g0 := i11 hx), f]
  dsimp only [bndH, pu]
  rw [c_X0_number_7 (g0 := ho), c_X0_number_14]
theorem w_number_1 {h h1 : PH} {x o : Nat} (v0 : Int) (hx : hc h x = 1) {e : Nat} (f : F 2038 9963538 [vR x, vI v0] h = some (.inr e, h1)) (ht : hc h1 e = 47) : F 2039 2621443 [vR x, vI v0, vR o] h = some (.inl (some (vI 1)), h1) := by
  rw [e_X0_number 2038, c_X0_number_0 (g0 := i11 hx), f]
  dsimp only [bndH, pu]
  rw [ht]
  exact c_X0_number_11 _ _ _ _ _ _ _
theorem w_kind_0 {h h1 : PH} {x o : Nat} (v0 : Int) (hx : hc h x = 1) {v : Int} (f : F 2038 10225682 [vR x, vI v0] h = some (.inl (some (vI v)), h1)) (ho : hc h1 o = 66 ∧ inA 0 (hl h1 o)) : F 2039 2883587 [vR x, vI v0, vR o] h = some (.inl (some (vI 0)), qJ h1 o 0 v) := by
  rw [e_X0_kind 2038, c_X0_kind_0 (g0 := i11 hx), f]
  dsimp only [bndH, pu]
  rw [c_X0_kind_7 (g0 := ho), c_X0_kind_15]
theorem w_kind_1 {h h1 : PH} {x o : Nat} (v0 : Int) (hx : hc h x = 1) {e : Nat} (f : F 2038 10225682 [vR x, vI v0] h = some (.inr e, h1)) (ht : hc h1 e = 47) : F 2039 2883587 [vR x, vI v0, vR o] h = some (.inl (some (vI 1)), h1) := by
  rw [e_X0_kind 2038, c_X0_kind_0 (g0 := i11 hx), f]
  dsimp only [bndH, pu]
  rw [ht]
  exact c_X0_kind_12 _ _ _ _ _ _ _
theorem w_ran_0 {h h1 : PH} {x o : Nat} (v0 : Int) (hx : hc h x = 1) {v : Int} (f : F 2038 10487826 [vR x, vI v0] h = some (.inl (some (vI v)), h1)) (ho : hc h1 o = 66 ∧ inA 0 (hl h1 o)) : F 2039 3145731 [vR x, vI v0, vR o] h = some (.inl (some (vI 0)), qJ h1 o 0 v) := by
  rw [e_X0_ran 2038, c_X0_ran_0 (g0 := i11 hx), f]
  dsimp only [bndH, pu]
  rw [c_X0_ran_7 (g0 := ho), c_X0_ran_15]
theorem w_ran_1 {h h1 : PH} {x o : Nat} (v0 : Int) (hx : hc h x = 1) {e : Nat} (f : F 2038 10487826 [vR x, vI v0] h = some (.inr e, h1)) (ht : hc h1 e = 45) : F 2039 3145731 [vR x, vI v0, vR o] h = some (.inl (some (vI 1)), h1) := by
  rw [e_X0_ran 2038, c_X0_ran_0 (g0 := i11 hx), f]
  dsimp only [bndH, pu]
  rw [ht]
  exact c_X0_ran_12 _ _ _ _ _ _ _
theorem w_orders_0 {h h1 : PH} {x o : Nat} (v0 : Int) (v1 : Int) (v2 : Int) (hx : hc h x = 1) {v : Int} (f : F 2038 10749972 [vR x, vI v0, vI v1, vI v2] h = some (.inl (some (vI v)), h1)) (ho : hc h1 o = 66 ∧ inA 0 (hl h1 o)) : F 2039 3407877 [vR x, vI v0, vI v1, vI v2, vR o] h = some (.inl (some (vI 0)), qJ h1 o 0 v) := by
  rw [e_X0_orders 2038, c_X0_orders_0 (g0 := i11 hx), f]
  dsimp only [bndH, pu]
  rw [c_X0_orders_10 (g0 := ho), c_X0_orders_23]
theorem w_orders_1 {h h1 : PH} {x o : Nat} (v0 : Int) (v1 : Int) (v2 : Int) (hx : hc h x = 1) {e : Nat} (f : F 2038 10749972 [vR x, vI v0, vI v1, vI v2] h = some (.inr e, h1)) (ht : hc h1 e = 47) : F 2039 3407877 [vR x, vI v0, vI v1, vI v2, vR o] h = some (.inl (some (vI 1)), h1) := by
  rw [e_X0_orders 2038, c_X0_orders_0 (g0 := i11 hx), f]
  dsimp only [bndH, pu]
  rw [ht]
  exact c_X0_orders_15 _ _ _ _ _ _ _ _ _
theorem w_orders_2 {h h1 : PH} {x o : Nat} (v0 : Int) (v1 : Int) (v2 : Int) (hx : hc h x = 1) {e : Nat} (f : F 2038 10749972 [vR x, vI v0, vI v1, vI v2] h = some (.inr e, h1)) (ht : hc h1 e = 45) : F 2039 3407877 [vR x, vI v0, vI v1, vI v2, vR o] h = some (.inl (some (vI 2)), h1) := by
  rw [e_X0_orders 2038, c_X0_orders_0 (g0 := i11 hx), f]
  dsimp only [bndH, pu]
  rw [ht]
  exact c_X0_orders_19 _ _ _ _ _ _ _ _ _
theorem w_outcome_0 {h h1 : PH} {x o : Nat} (v0 : Int) (v1 : Int) (hx : hc h x = 1) {v : Int} (f : F 2038 11274259 [vR x, vI v0, vI v1] h = some (.inl (some (vI v)), h1)) (ho : hc h1 o = 66 ∧ inA 0 (hl h1 o)) : F 2039 3670020 [vR x, vI v0, vI v1, vR o] h = some (.inl (some (vI 0)), qJ h1 o 0 v) := by
  rw [e_X0_outcome 2038, c_X0_outcome_0 (g0 := i11 hx), f]
  dsimp only [bndH, pu]
  rw [c_X0_outcome_8 (g0 := ho), c_X0_outcome_21]
theorem w_outcome_1 {h h1 : PH} {x o : Nat} (v0 : Int) (v1 : Int) (hx : hc h x = 1) {e : Nat} (f : F 2038 11274259 [vR x, vI v0, vI v1] h = some (.inr e, h1)) (ht : hc h1 e = 47) : F 2039 3670020 [vR x, vI v0, vI v1, vR o] h = some (.inl (some (vI 1)), h1) := by
  rw [e_X0_outcome 2038, c_X0_outcome_0 (g0 := i11 hx), f]
  dsimp only [bndH, pu]
  rw [ht]
  exact c_X0_outcome_13 _ _ _ _ _ _ _ _
theorem w_outcome_2 {h h1 : PH} {x o : Nat} (v0 : Int) (v1 : Int) (hx : hc h x = 1) {e : Nat} (f : F 2038 11274259 [vR x, vI v0, vI v1] h = some (.inr e, h1)) (ht : hc h1 e = 45) : F 2039 3670020 [vR x, vI v0, vI v1, vR o] h = some (.inl (some (vI 2)), h1) := by
  rw [e_X0_outcome 2038, c_X0_outcome_0 (g0 := i11 hx), f]
  dsimp only [bndH, pu]
  rw [ht]
  exact c_X0_outcome_17 _ _ _ _ _ _ _ _
theorem w_outcomes_0 {h h1 : PH} {x o : Nat} (v0 : Int) (v1 : Int) (hx : hc h x = 1) {v : Int} (f : F 2038 11536403 [vR x, vI v0, vI v1] h = some (.inl (some (vJ v)), h1)) (ho : hc h1 o = 66 ∧ inA 0 (hl h1 o)) : F 2039 3932164 [vR x, vI v0, vI v1, vR o] h = some (.inl (some (vI 0)), qJ h1 o 0 v) := by
  rw [e_X0_outcomes 2038, c_X0_outcomes_0 (g0 := i11 hx), f]
  dsimp only [bndH, pu]
  rw [c_X0_outcomes_8 (g0 := ho), c_X0_outcomes_16]
theorem w_outcomes_1 {h h1 : PH} {x o : Nat} (v0 : Int) (v1 : Int) (hx : hc h x = 1) {e : Nat} (f : F 2038 11536403 [vR x, vI v0, vI v1] h = some (.inr e, h1)) (ht : hc h1 e = 47) : F 2039 3932164 [vR x, vI v0, vI v1, vR o] h = some (.inl (some (vI 1)), h1) := by
  rw [e_X0_outcomes 2038, c_X0_outcomes_0 (g0 := i11 hx), f]
  dsimp only [bndH, pu]
  rw [ht]
  exact c_X0_outcomes_12 _ _ _ _ _ _ _ _
def JAll (R : RL) : Prop := (∀ v0 : Int, in64 v0 → JOp R vI 4458514 37313202 [vJ v0] 0 0) ∧ (JOp R vI 5507089 37575345 [] 46 0) ∧ (∀ v0 : Int, in32 v0 → JOp R vI 6293522 77159090 [vI v0] 45 0) ∧ (JOp R vI 4720657 77421233 [] 0 0) ∧ (JOp R vI 4982801 77683377 [] 0 0) ∧ (∀ v0 : Int, in32 v0 → JOp R vI 6817810 77945522 [vI v0] 47 0) ∧ (∀ v0 v1 v2 : Int, in32 v0 → in32 v1 → in32 v2 → JOp R vI 7604244 78469812 [vI v0, vI v1, vI v2] 47 45) ∧ (∀ v0 v1 v2 : Int, in32 v0 → in32 v1 → in32 v2 → JOp R vI 8128532 78994100 [vI v0, vI v1, vI v2] 47 0) ∧ (∀ v0 v1 v2 : Int, in32 v0 → in32 v1 → in32 v2 → JOp R vI 8390676 79256244 [vI v0, vI v1, vI v2] 47 0) ∧ (∀ v0 v1 v2 : Int, in32 v0 → in32 v1 → in32 v2 → JOp R vI 8914964 80042676 [vI v0, vI v1, vI v2] 47 0) ∧ (∀ v0 v1 v2 v3 : Int, in32 v0 → in32 v1 → in32 v2 → in32 v3 → JOp R vI 9177109 80304821 [vI v0, vI v1, vI v2, vI v3] 47 0) ∧ (∀ v0 v1 : Int, in32 v0 → in32 v1 → JOp R vI 9439251 80566963 [vI v0, vI v1] 47 0) ∧ (∀ v0 v1 v2 : Int, in32 v0 → in64 v1 → in32 v2 → JOp R vI 9701396 80829108 [vI v0, vJ v1, vI v2] 47 45) ∧ (JOp R vI 5244945 98130609 [] 0 0) ∧ (∀ v0 : Int, in32 v0 → JOp R vJ 9963538 98392754 [vI v0] 47 0) ∧ (∀ v0 : Int, in32 v0 → JOp R vI 10225682 98654898 [vI v0] 47 0) ∧ (∀ v0 : Int, in32 v0 → JOp R vI 10487826 98917042 [vI v0] 45 0) ∧ (∀ v0 v1 v2 : Int, in32 v0 → in32 v1 → in32 v2 → JOp R vI 10749972 99179188 [vI v0, vI v1, vI v2] 47 45) ∧ (∀ v0 v1 : Int, in32 v0 → in32 v1 → JOp R vI 11274259 100227763 [vI v0, vI v1] 47 45) ∧ (∀ v0 v1 : Int, in32 v0 → in32 v1 → JOp R vJ 11536403 100489907 [vI v0, vI v1] 47 0)
theorem s_type {R : RL} {b L : Nat} {xs : Nat → Int} (v0 : Int) (hJ : JOp R vI 4458514 37313202 [vJ v0] 0 0) : OpV (Both R b L xs) 4458514 37313202 [vJ v0] := by
  rintro k h x m o hk0 ⟨hx, hm, b0, X, B⟩
  obtain ⟨o1, hx1, w, hm1, f1, f2, X1, q1⟩ := hJ 2039 k hx x hm m (by decide) hk0 X
  obtain ⟨h1, g1, B1, t1⟩ := after_x B (M := 4458514) (by decide) (av := [vJ v0]) (fun R => (av_c trivial av_n)) f1
  obtain ⟨h2, g2, B2, t2⟩ := after_m B1 (M := 37313202) (by decide) (av := [vJ v0]) (fun R => (av_c trivial av_n)) f2
  rcases q1 with ⟨c0, rfl⟩ | ⟨c1, e, -, te⟩ | ⟨c1, -⟩
  · exact ⟨_, h1, h2, g1, g2, hx1, hm1, b0, X1, B2⟩
  · exact absurd rfl te.1
  · exact absurd rfl c1.2
theorem s_read {R : RL} {b L : Nat} {xs : Nat → Int} (hJ : JOp R vI 5507089 37575345 [] 46 0) : OpT (Both R b L xs) 2 37575345 [] := by
  rintro k h x m o hk0 ⟨hx, hm, b0, X, B⟩
  obtain ⟨o1, hx1, w, hm1, f1, f2, X1, q1⟩ := hJ 2038 k hx x hm m (by decide) hk0 X
  obtain ⟨h1, g1, B1, t1⟩ := after_x B (M := 5507089) (by decide) (av := []) (fun R => av_n) f1
  have hx0 := bt_hx B
  rcases q1 with ⟨c0, rfl⟩ | ⟨c1, e, rfl, te⟩ | ⟨c1, e, rfl, te⟩
  · have B1o := after_o B1 (v := w)
    obtain ⟨h2, g2, B2, t2⟩ := after_m B1o (M := 37575345) (by decide) (av := []) (fun R => av_n) f2
    exact ⟨0, _, w, h2, w_read_0  hx0 g1 (bt_ho B1), g2, t2.1.trans c0, fun _ => t2.2.trans eJ_qJ, hx1, hm1, b0, X1, B2⟩
  · obtain ⟨h2, g2, B2, t2⟩ := after_m B1 (M := 37575345) (by decide) (av := []) (fun R => av_n) f2
    exact ⟨1, _, w, h2, w_read_1  hx0 g1 ((t1 e rfl).trans te.2), g2, t2.1.trans c1, fun z => absurd z (by decide), hx1, hm1, b0, X1, B2⟩
  · exact absurd rfl c1.2
theorem s_fault {R : RL} {b L : Nat} {xs : Nat → Int} (v0 : Int) (hJ : JOp R vI 6293522 77159090 [vI v0] 45 0) : OpT (Both R b L xs) 262147 77159090 [vI v0] := by
  rintro k h x m o hk0 ⟨hx, hm, b0, X, B⟩
  obtain ⟨o1, hx1, w, hm1, f1, f2, X1, q1⟩ := hJ 2038 k hx x hm m (by decide) hk0 X
  obtain ⟨h1, g1, B1, t1⟩ := after_x B (M := 6293522) (by decide) (av := [vI v0]) (fun R => (av_c trivial av_n)) f1
  have hx0 := bt_hx B
  rcases q1 with ⟨c0, rfl⟩ | ⟨c1, e, rfl, te⟩ | ⟨c1, e, rfl, te⟩
  · have B1o := after_o B1 (v := w)
    obtain ⟨h2, g2, B2, t2⟩ := after_m B1o (M := 77159090) (by decide) (av := [vI v0]) (fun R => (av_c trivial av_n)) f2
    exact ⟨0, _, w, h2, w_fault_0 v0 hx0 g1 (bt_ho B1), g2, t2.1.trans c0, fun _ => t2.2.trans eJ_qJ, hx1, hm1, b0, X1, B2⟩
  · obtain ⟨h2, g2, B2, t2⟩ := after_m B1 (M := 77159090) (by decide) (av := [vI v0]) (fun R => (av_c trivial av_n)) f2
    exact ⟨1, _, w, h2, w_fault_1 v0 hx0 g1 ((t1 e rfl).trans te.2), g2, t2.1.trans c1, fun z => absurd z (by decide), hx1, hm1, b0, X1, B2⟩
  · exact absurd rfl c1.2
theorem s_programs {R : RL} {b L : Nat} {xs : Nat → Int} (hJ : JOp R vI 4720657 77421233 [] 0 0) : OpV (Both R b L xs) 4720657 77421233 [] := by
  rintro k h x m o hk0 ⟨hx, hm, b0, X, B⟩
  obtain ⟨o1, hx1, w, hm1, f1, f2, X1, q1⟩ := hJ 2039 k hx x hm m (by decide) hk0 X
  obtain ⟨h1, g1, B1, t1⟩ := after_x B (M := 4720657) (by decide) (av := []) (fun R => av_n) f1
  obtain ⟨h2, g2, B2, t2⟩ := after_m B1 (M := 77421233) (by decide) (av := []) (fun R => av_n) f2
  rcases q1 with ⟨c0, rfl⟩ | ⟨c1, e, -, te⟩ | ⟨c1, -⟩
  · exact ⟨_, h1, h2, g1, g2, hx1, hm1, b0, X1, B2⟩
  · exact absurd rfl te.1
  · exact absurd rfl c1.2
theorem s_clear {R : RL} {b L : Nat} {xs : Nat → Int} (hJ : JOp R vI 4982801 77683377 [] 0 0) : OpV (Both R b L xs) 4982801 77683377 [] := by
  rintro k h x m o hk0 ⟨hx, hm, b0, X, B⟩
  obtain ⟨o1, hx1, w, hm1, f1, f2, X1, q1⟩ := hJ 2039 k hx x hm m (by decide) hk0 X
  obtain ⟨h1, g1, B1, t1⟩ := after_x B (M := 4982801) (by decide) (av := []) (fun R => av_n) f1
  obtain ⟨h2, g2, B2, t2⟩ := after_m B1 (M := 77683377) (by decide) (av := []) (fun R => av_n) f2
  rcases q1 with ⟨c0, rfl⟩ | ⟨c1, e, -, te⟩ | ⟨c1, -⟩
  · exact ⟨_, h1, h2, g1, g2, hx1, hm1, b0, X1, B2⟩
  · exact absurd rfl te.1
  · exact absurd rfl c1.2
theorem s_nodes {R : RL} {b L : Nat} {xs : Nat → Int} (v0 : Int) (hJ : JOp R vI 6817810 77945522 [vI v0] 47 0) : OpT (Both R b L xs) 524291 77945522 [vI v0] := by
  rintro k h x m o hk0 ⟨hx, hm, b0, X, B⟩
  obtain ⟨o1, hx1, w, hm1, f1, f2, X1, q1⟩ := hJ 2038 k hx x hm m (by decide) hk0 X
  obtain ⟨h1, g1, B1, t1⟩ := after_x B (M := 6817810) (by decide) (av := [vI v0]) (fun R => (av_c trivial av_n)) f1
  have hx0 := bt_hx B
  rcases q1 with ⟨c0, rfl⟩ | ⟨c1, e, rfl, te⟩ | ⟨c1, e, rfl, te⟩
  · have B1o := after_o B1 (v := w)
    obtain ⟨h2, g2, B2, t2⟩ := after_m B1o (M := 77945522) (by decide) (av := [vI v0]) (fun R => (av_c trivial av_n)) f2
    exact ⟨0, _, w, h2, w_nodes_0 v0 hx0 g1 (bt_ho B1), g2, t2.1.trans c0, fun _ => t2.2.trans eJ_qJ, hx1, hm1, b0, X1, B2⟩
  · obtain ⟨h2, g2, B2, t2⟩ := after_m B1 (M := 77945522) (by decide) (av := [vI v0]) (fun R => (av_c trivial av_n)) f2
    exact ⟨1, _, w, h2, w_nodes_1 v0 hx0 g1 ((t1 e rfl).trans te.2), g2, t2.1.trans c1, fun z => absurd z (by decide), hx1, hm1, b0, X1, B2⟩
  · exact absurd rfl c1.2
theorem s_node {R : RL} {b L : Nat} {xs : Nat → Int} (v0 : Int) (v1 : Int) (v2 : Int) (hJ : JOp R vI 7604244 78469812 [vI v0, vI v1, vI v2] 47 45) : OpT (Both R b L xs) 786437 78469812 [vI v0, vI v1, vI v2] := by
  rintro k h x m o hk0 ⟨hx, hm, b0, X, B⟩
  obtain ⟨o1, hx1, w, hm1, f1, f2, X1, q1⟩ := hJ 2038 k hx x hm m (by decide) hk0 X
  obtain ⟨h1, g1, B1, t1⟩ := after_x B (M := 7604244) (by decide) (av := [vI v0, vI v1, vI v2]) (fun R => (av_c trivial (av_c trivial (av_c trivial av_n)))) f1
  have hx0 := bt_hx B
  rcases q1 with ⟨c0, rfl⟩ | ⟨c1, e, rfl, te⟩ | ⟨c1, e, rfl, te⟩
  · have B1o := after_o B1 (v := w)
    obtain ⟨h2, g2, B2, t2⟩ := after_m B1o (M := 78469812) (by decide) (av := [vI v0, vI v1, vI v2]) (fun R => (av_c trivial (av_c trivial (av_c trivial av_n)))) f2
    exact ⟨0, _, w, h2, w_node_0 v0 v1 v2 hx0 g1 (bt_ho B1), g2, t2.1.trans c0, fun _ => t2.2.trans eJ_qJ, hx1, hm1, b0, X1, B2⟩
  · obtain ⟨h2, g2, B2, t2⟩ := after_m B1 (M := 78469812) (by decide) (av := [vI v0, vI v1, vI v2]) (fun R => (av_c trivial (av_c trivial (av_c trivial av_n)))) f2
    exact ⟨1, _, w, h2, w_node_1 v0 v1 v2 hx0 g1 ((t1 e rfl).trans te.2), g2, t2.1.trans c1, fun z => absurd z (by decide), hx1, hm1, b0, X1, B2⟩
  · obtain ⟨h2, g2, B2, t2⟩ := after_m B1 (M := 78469812) (by decide) (av := [vI v0, vI v1, vI v2]) (fun R => (av_c trivial (av_c trivial (av_c trivial av_n)))) f2
    exact ⟨2, _, w, h2, w_node_2 v0 v1 v2 hx0 g1 ((t1 e rfl).trans te), g2, t2.1.trans c1.1, fun z => absurd z (by decide), hx1, hm1, b0, X1, B2⟩
theorem s_step {R : RL} {b L : Nat} {xs : Nat → Int} (v0 : Int) (v1 : Int) (v2 : Int) (hJ : JOp R vI 8128532 78994100 [vI v0, vI v1, vI v2] 47 0) : OpT (Both R b L xs) 1048581 78994100 [vI v0, vI v1, vI v2] := by
  rintro k h x m o hk0 ⟨hx, hm, b0, X, B⟩
  obtain ⟨o1, hx1, w, hm1, f1, f2, X1, q1⟩ := hJ 2038 k hx x hm m (by decide) hk0 X
  obtain ⟨h1, g1, B1, t1⟩ := after_x B (M := 8128532) (by decide) (av := [vI v0, vI v1, vI v2]) (fun R => (av_c trivial (av_c trivial (av_c trivial av_n)))) f1
  have hx0 := bt_hx B
  rcases q1 with ⟨c0, rfl⟩ | ⟨c1, e, rfl, te⟩ | ⟨c1, e, rfl, te⟩
  · have B1o := after_o B1 (v := w)
    obtain ⟨h2, g2, B2, t2⟩ := after_m B1o (M := 78994100) (by decide) (av := [vI v0, vI v1, vI v2]) (fun R => (av_c trivial (av_c trivial (av_c trivial av_n)))) f2
    exact ⟨0, _, w, h2, w_step_0 v0 v1 v2 hx0 g1 (bt_ho B1), g2, t2.1.trans c0, fun _ => t2.2.trans eJ_qJ, hx1, hm1, b0, X1, B2⟩
  · obtain ⟨h2, g2, B2, t2⟩ := after_m B1 (M := 78994100) (by decide) (av := [vI v0, vI v1, vI v2]) (fun R => (av_c trivial (av_c trivial (av_c trivial av_n)))) f2
    exact ⟨1, _, w, h2, w_step_1 v0 v1 v2 hx0 g1 ((t1 e rfl).trans te.2), g2, t2.1.trans c1, fun z => absurd z (by decide), hx1, hm1, b0, X1, B2⟩
  · exact absurd rfl c1.2
theorem s_mode {R : RL} {b L : Nat} {xs : Nat → Int} (v0 : Int) (v1 : Int) (v2 : Int) (hJ : JOp R vI 8390676 79256244 [vI v0, vI v1, vI v2] 47 0) : OpT (Both R b L xs) 1310725 79256244 [vI v0, vI v1, vI v2] := by
  rintro k h x m o hk0 ⟨hx, hm, b0, X, B⟩
  obtain ⟨o1, hx1, w, hm1, f1, f2, X1, q1⟩ := hJ 2038 k hx x hm m (by decide) hk0 X
  obtain ⟨h1, g1, B1, t1⟩ := after_x B (M := 8390676) (by decide) (av := [vI v0, vI v1, vI v2]) (fun R => (av_c trivial (av_c trivial (av_c trivial av_n)))) f1
  have hx0 := bt_hx B
  rcases q1 with ⟨c0, rfl⟩ | ⟨c1, e, rfl, te⟩ | ⟨c1, e, rfl, te⟩
  · have B1o := after_o B1 (v := w)
    obtain ⟨h2, g2, B2, t2⟩ := after_m B1o (M := 79256244) (by decide) (av := [vI v0, vI v1, vI v2]) (fun R => (av_c trivial (av_c trivial (av_c trivial av_n)))) f2
    exact ⟨0, _, w, h2, w_mode_0 v0 v1 v2 hx0 g1 (bt_ho B1), g2, t2.1.trans c0, fun _ => t2.2.trans eJ_qJ, hx1, hm1, b0, X1, B2⟩
  · obtain ⟨h2, g2, B2, t2⟩ := after_m B1 (M := 79256244) (by decide) (av := [vI v0, vI v1, vI v2]) (fun R => (av_c trivial (av_c trivial (av_c trivial av_n)))) f2
    exact ⟨1, _, w, h2, w_mode_1 v0 v1 v2 hx0 g1 ((t1 e rfl).trans te.2), g2, t2.1.trans c1, fun z => absurd z (by decide), hx1, hm1, b0, X1, B2⟩
  · exact absurd rfl c1.2
theorem s_parts {R : RL} {b L : Nat} {xs : Nat → Int} (v0 : Int) (v1 : Int) (v2 : Int) (hJ : JOp R vI 8914964 80042676 [vI v0, vI v1, vI v2] 47 0) : OpT (Both R b L xs) 1572869 80042676 [vI v0, vI v1, vI v2] := by
  rintro k h x m o hk0 ⟨hx, hm, b0, X, B⟩
  obtain ⟨o1, hx1, w, hm1, f1, f2, X1, q1⟩ := hJ 2038 k hx x hm m (by decide) hk0 X
  obtain ⟨h1, g1, B1, t1⟩ := after_x B (M := 8914964) (by decide) (av := [vI v0, vI v1, vI v2]) (fun R => (av_c trivial (av_c trivial (av_c trivial av_n)))) f1
  have hx0 := bt_hx B
  rcases q1 with ⟨c0, rfl⟩ | ⟨c1, e, rfl, te⟩ | ⟨c1, e, rfl, te⟩
  · have B1o := after_o B1 (v := w)
    obtain ⟨h2, g2, B2, t2⟩ := after_m B1o (M := 80042676) (by decide) (av := [vI v0, vI v1, vI v2]) (fun R => (av_c trivial (av_c trivial (av_c trivial av_n)))) f2
    exact ⟨0, _, w, h2, w_parts_0 v0 v1 v2 hx0 g1 (bt_ho B1), g2, t2.1.trans c0, fun _ => t2.2.trans eJ_qJ, hx1, hm1, b0, X1, B2⟩
  · obtain ⟨h2, g2, B2, t2⟩ := after_m B1 (M := 80042676) (by decide) (av := [vI v0, vI v1, vI v2]) (fun R => (av_c trivial (av_c trivial (av_c trivial av_n)))) f2
    exact ⟨1, _, w, h2, w_parts_1 v0 v1 v2 hx0 g1 ((t1 e rfl).trans te.2), g2, t2.1.trans c1, fun z => absurd z (by decide), hx1, hm1, b0, X1, B2⟩
  · exact absurd rfl c1.2
theorem s_one {R : RL} {b L : Nat} {xs : Nat → Int} (v0 : Int) (v1 : Int) (v2 : Int) (v3 : Int) (hJ : JOp R vI 9177109 80304821 [vI v0, vI v1, vI v2, vI v3] 47 0) : OpB (Both R b L xs) 1835014 80304821 [vI v0, vI v1, vI v2, vI v3] := by
  rintro k h x m o hk0 ⟨hx, hm, b0, X, B⟩
  obtain ⟨o1, hx1, w, hm1, f1, f2, X1, q1⟩ := hJ 2038 k hx x hm m (by decide) hk0 X
  obtain ⟨h1, g1, B1, t1⟩ := after_x B (M := 9177109) (by decide) (av := [vI v0, vI v1, vI v2, vI v3]) (fun R => (av_c trivial (av_c trivial (av_c trivial (av_c trivial av_n))))) f1
  have hx0 := bt_hx B
  rcases q1 with ⟨c0, rfl⟩ | ⟨c1, e, rfl, te⟩ | ⟨c1, e, rfl, te⟩
  · have B1o := after_o B1 (v := (if w = 0 then 0 else 1))
    obtain ⟨h2, g2, B2, t2⟩ := after_m B1o (M := 80304821) (by decide) (av := [vI v0, vI v1, vI v2, vI v3]) (fun R => (av_c trivial (av_c trivial (av_c trivial (av_c trivial av_n))))) f2
    exact ⟨0, _, w, h2, w_one_0 v0 v1 v2 v3 hx0 g1 (bt_ho B1), g2, t2.1.trans c0, fun _ => t2.2.trans eJ_qJ, hx1, hm1, b0, X1, B2⟩
  · obtain ⟨h2, g2, B2, t2⟩ := after_m B1 (M := 80304821) (by decide) (av := [vI v0, vI v1, vI v2, vI v3]) (fun R => (av_c trivial (av_c trivial (av_c trivial (av_c trivial av_n))))) f2
    exact ⟨1, _, w, h2, w_one_1 v0 v1 v2 v3 hx0 g1 ((t1 e rfl).trans te.2), g2, t2.1.trans c1, fun z => absurd z (by decide), hx1, hm1, b0, X1, B2⟩
  · exact absurd rfl c1.2
theorem s_meant {R : RL} {b L : Nat} {xs : Nat → Int} (v0 : Int) (v1 : Int) (hJ : JOp R vI 9439251 80566963 [vI v0, vI v1] 47 0) : OpT (Both R b L xs) 2097156 80566963 [vI v0, vI v1] := by
  rintro k h x m o hk0 ⟨hx, hm, b0, X, B⟩
  obtain ⟨o1, hx1, w, hm1, f1, f2, X1, q1⟩ := hJ 2038 k hx x hm m (by decide) hk0 X
  obtain ⟨h1, g1, B1, t1⟩ := after_x B (M := 9439251) (by decide) (av := [vI v0, vI v1]) (fun R => (av_c trivial (av_c trivial av_n))) f1
  have hx0 := bt_hx B
  rcases q1 with ⟨c0, rfl⟩ | ⟨c1, e, rfl, te⟩ | ⟨c1, e, rfl, te⟩
  · have B1o := after_o B1 (v := w)
    obtain ⟨h2, g2, B2, t2⟩ := after_m B1o (M := 80566963) (by decide) (av := [vI v0, vI v1]) (fun R => (av_c trivial (av_c trivial av_n))) f2
    exact ⟨0, _, w, h2, w_meant_0 v0 v1 hx0 g1 (bt_ho B1), g2, t2.1.trans c0, fun _ => t2.2.trans eJ_qJ, hx1, hm1, b0, X1, B2⟩
  · obtain ⟨h2, g2, B2, t2⟩ := after_m B1 (M := 80566963) (by decide) (av := [vI v0, vI v1]) (fun R => (av_c trivial (av_c trivial av_n))) f2
    exact ⟨1, _, w, h2, w_meant_1 v0 v1 hx0 g1 ((t1 e rfl).trans te.2), g2, t2.1.trans c1, fun z => absurd z (by decide), hx1, hm1, b0, X1, B2⟩
  · exact absurd rfl c1.2
theorem s_run {R : RL} {b L : Nat} {xs : Nat → Int} (v0 : Int) (v1 : Int) (v2 : Int) (hJ : JOp R vI 9701396 80829108 [vI v0, vJ v1, vI v2] 47 45) : OpT (Both R b L xs) 2359301 80829108 [vI v0, vJ v1, vI v2] := by
  rintro k h x m o hk0 ⟨hx, hm, b0, X, B⟩
  obtain ⟨o1, hx1, w, hm1, f1, f2, X1, q1⟩ := hJ 2038 k hx x hm m (by decide) hk0 X
  obtain ⟨h1, g1, B1, t1⟩ := after_x B (M := 9701396) (by decide) (av := [vI v0, vJ v1, vI v2]) (fun R => (av_c trivial (av_c trivial (av_c trivial av_n)))) f1
  have hx0 := bt_hx B
  rcases q1 with ⟨c0, rfl⟩ | ⟨c1, e, rfl, te⟩ | ⟨c1, e, rfl, te⟩
  · have B1o := after_o B1 (v := w)
    obtain ⟨h2, g2, B2, t2⟩ := after_m B1o (M := 80829108) (by decide) (av := [vI v0, vJ v1, vI v2]) (fun R => (av_c trivial (av_c trivial (av_c trivial av_n)))) f2
    exact ⟨0, _, w, h2, w_run_0 v0 v1 v2 hx0 g1 (bt_ho B1), g2, t2.1.trans c0, fun _ => t2.2.trans eJ_qJ, hx1, hm1, b0, X1, B2⟩
  · obtain ⟨h2, g2, B2, t2⟩ := after_m B1 (M := 80829108) (by decide) (av := [vI v0, vJ v1, vI v2]) (fun R => (av_c trivial (av_c trivial (av_c trivial av_n)))) f2
    exact ⟨1, _, w, h2, w_run_1 v0 v1 v2 hx0 g1 ((t1 e rfl).trans te.2), g2, t2.1.trans c1, fun z => absurd z (by decide), hx1, hm1, b0, X1, B2⟩
  · obtain ⟨h2, g2, B2, t2⟩ := after_m B1 (M := 80829108) (by decide) (av := [vI v0, vJ v1, vI v2]) (fun R => (av_c trivial (av_c trivial (av_c trivial av_n)))) f2
    exact ⟨2, _, w, h2, w_run_2 v0 v1 v2 hx0 g1 ((t1 e rfl).trans te), g2, t2.1.trans c1.1, fun z => absurd z (by decide), hx1, hm1, b0, X1, B2⟩
theorem s_told {R : RL} {b L : Nat} {xs : Nat → Int} (hJ : JOp R vI 5244945 98130609 [] 0 0) : OpV (Both R b L xs) 5244945 98130609 [] := by
  rintro k h x m o hk0 ⟨hx, hm, b0, X, B⟩
  obtain ⟨o1, hx1, w, hm1, f1, f2, X1, q1⟩ := hJ 2039 k hx x hm m (by decide) hk0 X
  obtain ⟨h1, g1, B1, t1⟩ := after_x B (M := 5244945) (by decide) (av := []) (fun R => av_n) f1
  obtain ⟨h2, g2, B2, t2⟩ := after_m B1 (M := 98130609) (by decide) (av := []) (fun R => av_n) f2
  rcases q1 with ⟨c0, rfl⟩ | ⟨c1, e, -, te⟩ | ⟨c1, -⟩
  · exact ⟨_, h1, h2, g1, g2, hx1, hm1, b0, X1, B2⟩
  · exact absurd rfl te.1
  · exact absurd rfl c1.2
theorem s_number {R : RL} {b L : Nat} {xs : Nat → Int} (v0 : Int) (hJ : JOp R vJ 9963538 98392754 [vI v0] 47 0) : OpJ (Both R b L xs) 2621443 98392754 [vI v0] := by
  rintro k h x m o hk0 ⟨hx, hm, b0, X, B⟩
  obtain ⟨o1, hx1, w, hm1, f1, f2, X1, q1⟩ := hJ 2038 k hx x hm m (by decide) hk0 X
  obtain ⟨h1, g1, B1, t1⟩ := after_x B (M := 9963538) (by decide) (av := [vI v0]) (fun R => (av_c trivial av_n)) f1
  have hx0 := bt_hx B
  rcases q1 with ⟨c0, rfl⟩ | ⟨c1, e, rfl, te⟩ | ⟨c1, e, rfl, te⟩
  · have B1o := after_o B1 (v := w)
    obtain ⟨h2, g2, B2, t2⟩ := after_m B1o (M := 98392754) (by decide) (av := [vI v0]) (fun R => (av_c trivial av_n)) f2
    exact ⟨0, _, w, h2, w_number_0 v0 hx0 g1 (bt_ho B1), g2, t2.1.trans c0, fun _ => t2.2.trans eJ_qJ, hx1, hm1, b0, X1, B2⟩
  · obtain ⟨h2, g2, B2, t2⟩ := after_m B1 (M := 98392754) (by decide) (av := [vI v0]) (fun R => (av_c trivial av_n)) f2
    exact ⟨1, _, w, h2, w_number_1 v0 hx0 g1 ((t1 e rfl).trans te.2), g2, t2.1.trans c1, fun z => absurd z (by decide), hx1, hm1, b0, X1, B2⟩
  · exact absurd rfl c1.2
theorem s_kind {R : RL} {b L : Nat} {xs : Nat → Int} (v0 : Int) (hJ : JOp R vI 10225682 98654898 [vI v0] 47 0) : OpT (Both R b L xs) 2883587 98654898 [vI v0] := by
  rintro k h x m o hk0 ⟨hx, hm, b0, X, B⟩
  obtain ⟨o1, hx1, w, hm1, f1, f2, X1, q1⟩ := hJ 2038 k hx x hm m (by decide) hk0 X
  obtain ⟨h1, g1, B1, t1⟩ := after_x B (M := 10225682) (by decide) (av := [vI v0]) (fun R => (av_c trivial av_n)) f1
  have hx0 := bt_hx B
  rcases q1 with ⟨c0, rfl⟩ | ⟨c1, e, rfl, te⟩ | ⟨c1, e, rfl, te⟩
  · have B1o := after_o B1 (v := w)
    obtain ⟨h2, g2, B2, t2⟩ := after_m B1o (M := 98654898) (by decide) (av := [vI v0]) (fun R => (av_c trivial av_n)) f2
    exact ⟨0, _, w, h2, w_kind_0 v0 hx0 g1 (bt_ho B1), g2, t2.1.trans c0, fun _ => t2.2.trans eJ_qJ, hx1, hm1, b0, X1, B2⟩
  · obtain ⟨h2, g2, B2, t2⟩ := after_m B1 (M := 98654898) (by decide) (av := [vI v0]) (fun R => (av_c trivial av_n)) f2
    exact ⟨1, _, w, h2, w_kind_1 v0 hx0 g1 ((t1 e rfl).trans te.2), g2, t2.1.trans c1, fun z => absurd z (by decide), hx1, hm1, b0, X1, B2⟩
  · exact absurd rfl c1.2
theorem s_ran {R : RL} {b L : Nat} {xs : Nat → Int} (v0 : Int) (hJ : JOp R vI 10487826 98917042 [vI v0] 45 0) : OpT (Both R b L xs) 3145731 98917042 [vI v0] := by
  rintro k h x m o hk0 ⟨hx, hm, b0, X, B⟩
  obtain ⟨o1, hx1, w, hm1, f1, f2, X1, q1⟩ := hJ 2038 k hx x hm m (by decide) hk0 X
  obtain ⟨h1, g1, B1, t1⟩ := after_x B (M := 10487826) (by decide) (av := [vI v0]) (fun R => (av_c trivial av_n)) f1
  have hx0 := bt_hx B
  rcases q1 with ⟨c0, rfl⟩ | ⟨c1, e, rfl, te⟩ | ⟨c1, e, rfl, te⟩
  · have B1o := after_o B1 (v := w)
    obtain ⟨h2, g2, B2, t2⟩ := after_m B1o (M := 98917042) (by decide) (av := [vI v0]) (fun R => (av_c trivial av_n)) f2
    exact ⟨0, _, w, h2, w_ran_0 v0 hx0 g1 (bt_ho B1), g2, t2.1.trans c0, fun _ => t2.2.trans eJ_qJ, hx1, hm1, b0, X1, B2⟩
  · obtain ⟨h2, g2, B2, t2⟩ := after_m B1 (M := 98917042) (by decide) (av := [vI v0]) (fun R => (av_c trivial av_n)) f2
    exact ⟨1, _, w, h2, w_ran_1 v0 hx0 g1 ((t1 e rfl).trans te.2), g2, t2.1.trans c1, fun z => absurd z (by decide), hx1, hm1, b0, X1, B2⟩
  · exact absurd rfl c1.2
theorem s_orders {R : RL} {b L : Nat} {xs : Nat → Int} (v0 : Int) (v1 : Int) (v2 : Int) (hJ : JOp R vI 10749972 99179188 [vI v0, vI v1, vI v2] 47 45) : OpT (Both R b L xs) 3407877 99179188 [vI v0, vI v1, vI v2] := by
  rintro k h x m o hk0 ⟨hx, hm, b0, X, B⟩
  obtain ⟨o1, hx1, w, hm1, f1, f2, X1, q1⟩ := hJ 2038 k hx x hm m (by decide) hk0 X
  obtain ⟨h1, g1, B1, t1⟩ := after_x B (M := 10749972) (by decide) (av := [vI v0, vI v1, vI v2]) (fun R => (av_c trivial (av_c trivial (av_c trivial av_n)))) f1
  have hx0 := bt_hx B
  rcases q1 with ⟨c0, rfl⟩ | ⟨c1, e, rfl, te⟩ | ⟨c1, e, rfl, te⟩
  · have B1o := after_o B1 (v := w)
    obtain ⟨h2, g2, B2, t2⟩ := after_m B1o (M := 99179188) (by decide) (av := [vI v0, vI v1, vI v2]) (fun R => (av_c trivial (av_c trivial (av_c trivial av_n)))) f2
    exact ⟨0, _, w, h2, w_orders_0 v0 v1 v2 hx0 g1 (bt_ho B1), g2, t2.1.trans c0, fun _ => t2.2.trans eJ_qJ, hx1, hm1, b0, X1, B2⟩
  · obtain ⟨h2, g2, B2, t2⟩ := after_m B1 (M := 99179188) (by decide) (av := [vI v0, vI v1, vI v2]) (fun R => (av_c trivial (av_c trivial (av_c trivial av_n)))) f2
    exact ⟨1, _, w, h2, w_orders_1 v0 v1 v2 hx0 g1 ((t1 e rfl).trans te.2), g2, t2.1.trans c1, fun z => absurd z (by decide), hx1, hm1, b0, X1, B2⟩
  · obtain ⟨h2, g2, B2, t2⟩ := after_m B1 (M := 99179188) (by decide) (av := [vI v0, vI v1, vI v2]) (fun R => (av_c trivial (av_c trivial (av_c trivial av_n)))) f2
    exact ⟨2, _, w, h2, w_orders_2 v0 v1 v2 hx0 g1 ((t1 e rfl).trans te), g2, t2.1.trans c1.1, fun z => absurd z (by decide), hx1, hm1, b0, X1, B2⟩
theorem s_outcome {R : RL} {b L : Nat} {xs : Nat → Int} (v0 : Int) (v1 : Int) (hJ : JOp R vI 11274259 100227763 [vI v0, vI v1] 47 45) : OpT (Both R b L xs) 3670020 100227763 [vI v0, vI v1] := by
  rintro k h x m o hk0 ⟨hx, hm, b0, X, B⟩
  obtain ⟨o1, hx1, w, hm1, f1, f2, X1, q1⟩ := hJ 2038 k hx x hm m (by decide) hk0 X
  obtain ⟨h1, g1, B1, t1⟩ := after_x B (M := 11274259) (by decide) (av := [vI v0, vI v1]) (fun R => (av_c trivial (av_c trivial av_n))) f1
  have hx0 := bt_hx B
  rcases q1 with ⟨c0, rfl⟩ | ⟨c1, e, rfl, te⟩ | ⟨c1, e, rfl, te⟩
  · have B1o := after_o B1 (v := w)
    obtain ⟨h2, g2, B2, t2⟩ := after_m B1o (M := 100227763) (by decide) (av := [vI v0, vI v1]) (fun R => (av_c trivial (av_c trivial av_n))) f2
    exact ⟨0, _, w, h2, w_outcome_0 v0 v1 hx0 g1 (bt_ho B1), g2, t2.1.trans c0, fun _ => t2.2.trans eJ_qJ, hx1, hm1, b0, X1, B2⟩
  · obtain ⟨h2, g2, B2, t2⟩ := after_m B1 (M := 100227763) (by decide) (av := [vI v0, vI v1]) (fun R => (av_c trivial (av_c trivial av_n))) f2
    exact ⟨1, _, w, h2, w_outcome_1 v0 v1 hx0 g1 ((t1 e rfl).trans te.2), g2, t2.1.trans c1, fun z => absurd z (by decide), hx1, hm1, b0, X1, B2⟩
  · obtain ⟨h2, g2, B2, t2⟩ := after_m B1 (M := 100227763) (by decide) (av := [vI v0, vI v1]) (fun R => (av_c trivial (av_c trivial av_n))) f2
    exact ⟨2, _, w, h2, w_outcome_2 v0 v1 hx0 g1 ((t1 e rfl).trans te), g2, t2.1.trans c1.1, fun z => absurd z (by decide), hx1, hm1, b0, X1, B2⟩
theorem s_outcomes {R : RL} {b L : Nat} {xs : Nat → Int} (v0 : Int) (v1 : Int) (hJ : JOp R vJ 11536403 100489907 [vI v0, vI v1] 47 0) : OpJ (Both R b L xs) 3932164 100489907 [vI v0, vI v1] := by
  rintro k h x m o hk0 ⟨hx, hm, b0, X, B⟩
  obtain ⟨o1, hx1, w, hm1, f1, f2, X1, q1⟩ := hJ 2038 k hx x hm m (by decide) hk0 X
  obtain ⟨h1, g1, B1, t1⟩ := after_x B (M := 11536403) (by decide) (av := [vI v0, vI v1]) (fun R => (av_c trivial (av_c trivial av_n))) f1
  have hx0 := bt_hx B
  rcases q1 with ⟨c0, rfl⟩ | ⟨c1, e, rfl, te⟩ | ⟨c1, e, rfl, te⟩
  · have B1o := after_o B1 (v := w)
    obtain ⟨h2, g2, B2, t2⟩ := after_m B1o (M := 100489907) (by decide) (av := [vI v0, vI v1]) (fun R => (av_c trivial (av_c trivial av_n))) f2
    exact ⟨0, _, w, h2, w_outcomes_0 v0 v1 hx0 g1 (bt_ho B1), g2, t2.1.trans c0, fun _ => t2.2.trans eJ_qJ, hx1, hm1, b0, X1, B2⟩
  · obtain ⟨h2, g2, B2, t2⟩ := after_m B1 (M := 100489907) (by decide) (av := [vI v0, vI v1]) (fun R => (av_c trivial (av_c trivial av_n))) f2
    exact ⟨1, _, w, h2, w_outcomes_1 v0 v1 hx0 g1 ((t1 e rfl).trans te.2), g2, t2.1.trans c1, fun z => absurd z (by decide), hx1, hm1, b0, X1, B2⟩
  · exact absurd rfl c1.2
theorem ops_of {R : RL} {b L : Nat} {xs : Nat → Int} (hJ : JAll R) : OpsOK (Both R b L xs) := by
  obtain ⟨x0, x1, x2, x3, x4, x5, x6, x7, x8, x9, x10, x11, x12, x13, x14, x15, x16, x17, x18, x19⟩ := hJ
  exact ⟨fun v0 z0 => s_type v0 (x0 v0 z0), s_read  (x1  ), fun v0 z0 => s_fault v0 (x2 v0 z0), s_programs  (x3  ), s_clear  (x4  ), fun v0 z0 => s_nodes v0 (x5 v0 z0), fun v0 v1 v2 z0 z1 z2 => s_node v0 v1 v2 (x6 v0 v1 v2 z0 z1 z2), fun v0 v1 v2 z0 z1 z2 => s_step v0 v1 v2 (x7 v0 v1 v2 z0 z1 z2), fun v0 v1 v2 z0 z1 z2 => s_mode v0 v1 v2 (x8 v0 v1 v2 z0 z1 z2), fun v0 v1 v2 z0 z1 z2 => s_parts v0 v1 v2 (x9 v0 v1 v2 z0 z1 z2), fun v0 v1 v2 v3 z0 z1 z2 z3 => s_one v0 v1 v2 v3 (x10 v0 v1 v2 v3 z0 z1 z2 z3), fun v0 v1 z0 z1 => s_meant v0 v1 (x11 v0 v1 z0 z1), fun v0 v1 v2 z0 z1 z2 => s_run v0 v1 v2 (x12 v0 v1 v2 z0 z1 z2), s_told  (x13  ), fun v0 z0 => s_number v0 (x14 v0 z0), fun v0 z0 => s_kind v0 (x15 v0 z0), fun v0 z0 => s_ran v0 (x16 v0 z0), fun v0 v1 v2 z0 z1 z2 => s_orders v0 v1 v2 (x17 v0 v1 v2 z0 z1 z2), fun v0 v1 z0 z1 => s_outcome v0 v1 (x18 v0 v1 z0 z1), fun v0 v1 z0 z1 => s_outcomes v0 v1 (x19 v0 v1 z0 z1)⟩
theorem inv_of {R : RL} {b L : Nat} {xs : Nat → Int} (hm : ∀ k hx x h m, R k hx x h m → R (k + 1) hx x h m) : InvOK (Both R b L xs) b L xs := by
  rintro k h x m o ⟨hx, hm0, b0, X, B⟩
  obtain ⟨z1, z2, z3, z4, z5, z6⟩ := B.2.2.1
  exact ⟨z1, z2, z3, z4, z5, z6, hx, hm0, b0, hm _ _ _ _ _ X, B⟩
/-- what else is known of the start -/
def StH (h : PH) : Prop := (∀ r, hc h r ≠ 0 → hc h r = 50 ∨ hc h r = 52 ∨ hc h r = 53 ∨ hc h r = 54 ∨ hc h r = 55) ∧ (∀ r, hc h r = 53 → ∃ z ∈ strT, r = gR h z.1 0) ∧ ∀ r, kc h r ≠ 0 → kc h r < 71 ∨ (kc h r = 72 ∧ hl h r = 0) ∨ (kc h r = 76 ∧ r = gR h 4068474882 0) ∨ (kc h r = 77 ∧ r = gR h 4076863490 0)
theorem stS {s : State} {b L : Nat} {xs : Nat → Int32} (G : Giv s b L xs) : StH (hS0 s b) := by
  have kO : ∀ r, hc (hS0 s b) r ≠ 0 → ∃ q ∈ oF0, ∃ x ∈ q.2, keyT s #[.ref b] x = r ∧ hc (hS0 s b) r = q.1 := fun r hr => ftag_s hr
  have kA : ∀ r, kc (hS0 s b) r ≠ 0 → ∃ q ∈ aF0, ∃ x ∈ q.2, keyT s #[.ref b] x = r ∧ kc (hS0 s b) r = q.1 := by
    intro r hr
    rw [kc_h0] at hr ⊢
    exact ftag_s hr
  have C := conS G
  refine ⟨fun r hr => ?_, fun r hr => ?_, fun r hr => ?_⟩
  · obtain ⟨q, hq, x, hx, -, e⟩ := kO r hr
    rw [e]
    unfold oF0 at hq
    simp only [List.mem_cons, List.not_mem_nil, or_false] at hq
    rcases hq with rfl | rfl | rfl | rfl | rfl <;> simp
  · obtain ⟨q, hq, x, hx, e1, e⟩ := kO r (by rw [hr]; decide)
    rw [hr] at e
    unfold oF0 at hq
    simp only [List.mem_cons, List.not_mem_nil, or_false] at hq
    rcases hq with rfl | rfl | rfl | rfl | rfl
    · obtain ⟨z, hz, rfl⟩ := List.mem_map.mp hx
      obtain ⟨a, t, h⟩ := str_at G.2.1 hz
      refine ⟨z, hz, ?_⟩
      rw [st_str G hz h.1, ← e1, keyT_ref h.1]
    all_goals exact absurd e (by decide)
  · obtain ⟨q, hq, x, hx, e1, e⟩ := kA r hr
    rw [e]
    unfold aF0 at hq
    simp only [List.mem_cons, List.not_mem_nil, or_false] at hq
    rcases hq with rfl | rfl | rfl | rfl | rfl | rfl
    · exact Or.inl (by decide)
    · exact Or.inl (by decide)
    · exact Or.inl (by decide)
    · refine Or.inr (Or.inl ⟨rfl, ?_⟩)
      rw [← e1]
      simp only [List.mem_cons, List.not_mem_nil, or_false] at hx
      rcases hx with rfl | rfl
      · obtain ⟨t, h, -⟩ := g_def G
        rw [keyT_ref h, ← st_key h (by decide) (by decide +kernel)]
        exact C.2.2.2.2.1.2.1
      · obtain ⟨t, h, -⟩ := g_emq G
        rw [keyT_ref h, ← st_key h (by decide) (by decide +kernel)]
        exact C.2.2.2.2.1.2.2.2.1
    · refine Or.inr (Or.inr (Or.inl ⟨rfl, ?_⟩))
      rw [← e1]
      simp only [List.mem_cons, List.not_mem_nil, or_false] at hx
      subst hx
      obtain ⟨ad, t, h, -⟩ := g_int G
      rw [keyT_ref h, st_key h (by decide) (by decide +kernel)]
    · refine Or.inr (Or.inr (Or.inr ⟨rfl, ?_⟩))
      rw [← e1]
      simp only [List.mem_cons, List.not_mem_nil, or_false] at hx
      subst hx
      obtain ⟨ad, t, h, -⟩ := g_lng G
      rw [keyT_ref h, st_key h (by decide) (by decide +kernel)]
def nrS : List Nat := [3665821698, 4034920450, 4043309058, 4068474882, 4076863490, 4085252098, 4093640706]
theorem rSt_in : (rSt.all fun f => tokF.elem f || ((strT.map fun z => z.1).elem f || nrS.elem f)) = true := by decide +kernel
theorem iF_st : (iFs.all fun f => !(Nat.beq (f % 4) 2) || ((!(decide (inT (f / 4 % 128) (f / 65536 % 128) 50) || decide (inT (f / 4 % 128) (f / 65536 % 128) 52) || decide (inT (f / 4 % 128) (f / 65536 % 128) 54) || decide (inT (f / 4 % 128) (f / 65536 % 128) 55))) && (!(decide (inT (f / 4 % 128) (f / 65536 % 128) 53)) || Nat.beq f 3568632022))) = true := by decide +kernel
theorem lt_hn {h : PH} (C : ConH h) {r : Nat} (e : hc h r ≠ 0 ∨ kc h r ≠ 0) : r < hn h := by
  rcases e with e | e
  · rcases Nat.lt_or_ge r (hn h) with z | z
    · exact z
    · exact absurd (C.1.2.2.1 r z) e
  · exact (C.1.2.2.2 r e).1
theorem cl0 {h : PH} (C : ConH h) (T : StH h) : Cl (fun r => r < hn h) h := by
  refine ⟨C.1.2.1, fun f hf => ?_, fun r f hr e1 e2 e3 e4 => ?_, fun r j hr e1 e2 => ?_, C.1.2.1, fun r hr => ⟨C.1.2.2.1 r hr, ?_⟩, fun r hr => (C.1.2.2.2 r hr).2⟩
  · have q := List.all_eq_true.mp rSt_in f (List.elem_iff.mp hf)
    simp only [Bool.or_eq_true] at q
    rcases q with q | q | q
    · exact lt_hn C (Or.inl (by rw [C.2.2.1.1 f (List.elem_iff.mp q)]; decide))
    · obtain ⟨z, hz, rfl⟩ := List.mem_map.mp (List.elem_iff.mp q)
      exact lt_hn C (Or.inl (by rw [(C.2.2.2.2.2.2.2.1 z hz).1]; decide))
    · have q := List.elem_iff.mp q
      unfold nrS at q
      simp only [List.mem_cons, List.not_mem_nil, or_false] at q
      rcases q with rfl | rfl | rfl | rfl | rfl | rfl | rfl
      · exact lt_hn C (Or.inr (by rw [C.2.2.2.2.2.2.2.2.1]; decide))
      · exact lt_hn C (Or.inr (by rw [C.2.2.2.2.1.1]; decide))
      · exact lt_hn C (Or.inr (by rw [C.2.2.2.2.1.2.2.1]; decide))
      · exact lt_hn C (Or.inr (by rw [C.2.2.2.2.2.1.1]; decide))
      · exact lt_hn C (Or.inr (by rw [C.2.2.2.2.2.2.1.1]; decide))
      · exact lt_hn C (Or.inl (by rw [C.2.2.2.1.1]; decide))
      · exact lt_hn C (Or.inl (by rw [C.2.2.2.1.2.2.1]; decide))
  · have hf := List.elem_iff.mp e3
    have q := List.all_eq_true.mp iF_st f hf
    have q1 := List.all_eq_true.mp iF_hi f hf
    simp only [Bool.and_eq_true, decide_eq_true_eq] at q1
    have hne : hc h r ≠ 0 := fun z => by rw [z] at e4; have := e4.1; omega
    rw [e1] at q
    simp only [show Nat.beq 2 2 = true from rfl, Bool.not_true, Bool.false_or, Bool.and_eq_true, Bool.not_eq_true', Bool.or_eq_false_iff, decide_eq_false_iff_not, Bool.or_eq_true] at q
    obtain ⟨⟨⟨⟨q2, q3⟩, q4⟩, q5⟩, q6⟩ := q
    rcases T.1 r hne with z | z | z | z | z
    · rw [z] at e4; exact absurd e4 q2
    · rw [z] at e4; exact absurd e4 q3
    · rcases q6 with q6 | q6
      · rw [z] at e4; exact absurd e4 q6
      · have q6 := Nat.eq_of_beq_eq_true q6
        obtain ⟨y, hy, rfl⟩ := T.2.1 r z
        rw [q6]
        exact lt_hn C (Or.inr (by rw [(C.2.2.2.2.2.2.2.1 y hy).2.2.1]; decide))
    · rw [z] at e4; exact absurd e4 q4
    · rw [z] at e4; exact absurd e4 q5
  · have hk1 : inT 71 77 (kc h r) := by
      rcases e1 with e1 | e1
      · rcases T.1 r (fun z => by rw [z] at e1; exact absurd e1.1 (by decide)) with z | z | z | z | z <;> rw [z] at e1 <;> exact absurd e1.1 (by decide)
      · exact e1
    rcases T.2.2 r (fun z => by rw [z] at hk1; exact absurd hk1.1 (by decide)) with z | ⟨z1, z2⟩ | ⟨z1, z2⟩ | ⟨z1, z2⟩
    · have := hk1.1; omega
    · rw [z2] at e2; have := e2.1; have := e2.2; omega
    · rw [z2, C.2.2.2.2.2.1.2.1] at e2
      have q := (C.2.2.2.2.2.1.2.2 j.toNat (by have := e2.2; omega)).1
      rw [show ((j.toNat : Nat) : Int) = j from by have := e2.1; omega] at q
      rw [z2]
      exact lt_hn C (Or.inl (by rw [q]; decide))
    · rw [z2, C.2.2.2.2.2.2.1.2.1] at e2
      have q := (C.2.2.2.2.2.2.1.2.2 j.toNat (by have := e2.2; omega)).1
      rw [show ((j.toNat : Nat) : Int) = j from by have := e2.1; omega] at q
      rw [z2]
      exact lt_hn C (Or.inl (by rw [q]; decide))
  · by_cases z : kc h r = 0
    · exact z
    · exact absurd (C.1.2.2.2 r z).1 (by omega)
/-- what the one's constructor must do -/
def XNew (XI : PH → Nat → Prop) : Prop := ∀ h, ConH h → StH h → hk h = 0 → hs h = 0 → ∃ h1, F 2039 4196369 [vR (hn h)] (nO h 1 11) = some (.inl none, h1) ∧ hk h1 ≤ 3000 ∧ hs h1 ≤ 200000 ∧ ∀ h3, (∀ r, r < hn h1 → SmR h1 h3 r) → hn h1 ≤ hn h3 → hk h3 ≤ 3400 → hs h3 ≤ 2600000 → Cl (PX (hn h1) (hn h1 + 147)) h3 → ConH h3 → XI h3 (hn h)
/-- the other's -/
def MNew (MI : PH → Nat → Prop) : Prop := ∀ h1, ConH h1 → hk h1 ≤ 3000 → hs h1 ≤ 200000 → ∃ h2, F 2039 36788913 [vR (hn h1)] (nO h1 43 213) = some (.inl none, h2) ∧ hn h2 = hn h1 + 147 ∧ hk h2 ≤ 3300 ∧ hs h2 ≤ 2590000 ∧ ∀ h3, (∀ r, r < hn h2 → SmR h2 h3 r) → ConH h3 → MI h3 (hn h1)
theorem nO_le {h : PH} {t n : Nat} : Kept h (nO h t n) := frm_nO
theorem new_of {R : RL} {XI MI : PH → Nat → Prop} (hX : XNew XI) (hM : MNew MI) (hR : ∀ h x m, XI h x → MI h m → R 0 h x h m) {b L : Nat} {xs : Nat → Int} {h : PH} (C : ConH h) (S : ScrH h b L xs) (T : StH h) (k0 : hk h = 0) (s0 : hs h = 0) : ∃ h1 h2, F 2039 4196369 [vR (hn h)] (nO h 1 11) = some (.inl none, h1) ∧ F 2039 36788913 [vR (hn h1)] (nO h1 43 213) = some (.inl none, h2) ∧ rmO h 11 ∧ rmO h1 213 ∧ rmA h2 1 ∧ Both R b L xs 0 (nA h2 66 1) (hn h) (hn h1) (hn h2) := by
  obtain ⟨h1, f1, k1, s1, hX1⟩ := hX h C T k0 s0
  have K1 : Kept h h1 := Frm.tr nO_le (F_con f1)
  have C1 := C.keep K1
  obtain ⟨h2, f2, n2, k2, s2, hM1⟩ := hM h1 C1 k1 s1
  have K2 : Kept h1 h2 := Frm.tr nO_le (F_con f2)
  have C2 := C1.keep K2
  have K3 : Kept h2 (nA h2 66 1) := frm_nA
  have C3 := C2.keep K3
  have S3 := (((S.keep C K1).keep C1 K2).keep C2 K3)
  have c0 := cl0 C T
  have lt1 : hn h < hn h1 := Nat.lt_of_lt_of_le (Nat.lt_succ_self _) (F_le f1).1
  -- refs are below the next key
  have G0 : WW true 0 (fun n r => r < n) (fun _ => True) h h h := ⟨c0, ⟨fun r _ => SmR.rf, fun _ => ⟨⟨rfl, rfl, rfl⟩, Nat.zero_le _⟩⟩, Ou.rf⟩
  have G1 := ww_nO (t := 1) (n := 11) G0 po_w (by decide)
  have lt : hn h < hn (nO h 1 11) := Nat.lt_succ_self _
  obtain ⟨g1, -, ⟨w1, -, -⟩, -, -⟩ := F_tr (N := 0) (P := fun n r => r < n) (Q := fun _ => True) tr_x po_w 2039 4196369 [vR (hn h)] (nO h 1 11) (nO h 1 11) _ h1 (by decide) (av_c lt av_n) ⟨G1.1, ⟨fun r _ => SmR.rf, fun _ => ⟨⟨rfl, rfl, rfl⟩, Nat.zero_le _⟩⟩, Ou.rf⟩ f1
  have H0 : WW true 0 (fun n r => r < n) (fun _ => True) h1 h1 h1 := ⟨w1, ⟨fun r _ => SmR.rf, fun _ => ⟨⟨rfl, rfl, rfl⟩, Nat.zero_le _⟩⟩, Ou.rf⟩
  have H1 := ww_nO (t := 43) (n := 213) H0 po_w (by decide)
  have ltm : hn h1 < hn (nO h1 43 213) := Nat.lt_succ_self _
  obtain ⟨g2, -, ⟨w2, -, -⟩, -, -⟩ := F_tr (N := 0) (P := fun n r => r < n) (Q := fun _ => True) tr_x po_w 2039 36788913 [vR (hn h1)] (nO h1 43 213) (nO h1 43 213) _ h2 (by decide) (av_c ltm av_n) ⟨H1.1, ⟨fun r _ => SmR.rf, fun _ => ⟨⟨rfl, rfl, rfl⟩, Nat.zero_le _⟩⟩, Ou.rf⟩ f2
  -- the second constructor: consts and its own
  have st0 : ∀ r, r < hn h → mdT (hc h r) = false ∧ mdA (hc h r) = false := by
    intro r hr
    by_cases z : hc h r = 0
    · rw [z]; exact ⟨rfl, rfl⟩
    · rcases T.1 r z with z | z | z | z | z <;> rw [z] <;> exact ⟨rfl, rfl⟩
  have st1 : ∀ r, r < hn h → SmR h h1 r := fun r hr => kept_sm K1 hr (st0 r hr).1 (st0 r hr).2
  have kc1 : ∀ r, kc h1 r = kc h r := fun r => K1.kc C.1.1 C.1.2.1 r
  have poP : PO true (fun _ r => r < hn h ∨ hn h1 ≤ r) (fun r => r < hn h ∨ hn h1 ≤ r) (hn h1) := ⟨fun _ _ _ _ a => a, fun _ _ a => a, fun _ n hn0 => Or.inr hn0, fun _ _ a => Or.inl a⟩
  have cP : Cl (fun r => r < hn h ∨ hn h1 ≤ r) h1 := by
    refine ⟨Or.inl C.1.2.1, fun f hf => Or.inl ?_, fun r f hr e1 e2 e3 e4 => ?_, fun r j hr e1 e2 => ?_, w1.2.2.2.2⟩
    · rw [(st1 0 C.1.2.1).2.2.2.2.1]; exact c0.2.1 f hf
    · rcases hr with hr | hr
      · rw [(st1 r hr).1] at e4
        rw [(st1 r hr).2.2.2.2.1]
        exact Or.inl (c0.2.2.1 r f hr e1 e2 e3 e4)
      · rw [(w1.2.2.2.2.2.1 r hr).1] at e4
        have q1 := List.all_eq_true.mp iF_hi f (List.elem_iff.mp e3)
        simp only [Bool.and_eq_true, decide_eq_true_eq] at q1
        have := e4.1
        omega
    · rcases hr with hr | hr
      · rw [(st1 r hr).1, kc1] at e1
        rw [(st1 r hr).2.1] at e2
        rw [(st1 r hr).2.2.2.2.2.2.2]
        exact Or.inl (c0.2.2.2.1 r j hr e1 e2)
      · rw [(w1.2.2.2.2.2.1 r hr).1, (w1.2.2.2.2.2.1 r hr).2] at e1
        omega
  have J0 : WW true (hn h1) (fun _ r => r < hn h ∨ hn h1 ≤ r) (fun r => r < hn h ∨ hn h1 ≤ r) h1 h1 h1 := ⟨cP, ⟨fun r _ => SmR.rf, fun _ => ⟨⟨rfl, rfl, rfl⟩, Nat.le_refl _⟩⟩, Ou.rf⟩
  have J1 := ww_nO (t := 43) (n := 213) J0 poP (by decide)
  obtain ⟨g3, f3, ⟨w3, sm3, ou3⟩, -, -⟩ := F_tr (N := hn h1) (P := fun _ r => r < hn h ∨ hn h1 ≤ r) (Q := fun r => r < hn h ∨ hn h1 ≤ r) tr_x poP 2039 36788913 [vR (hn h1)] (nO h1 43 213) (nO h1 43 213) _ h2 (by decide) (av_c (Or.inr (Nat.le_refl _)) av_n) ⟨J1.1, ⟨fun r _ => SmR.rf, fun _ => ⟨⟨rfl, rfl, rfl⟩, Nat.le_succ _⟩⟩, Ou.rf⟩ f2
  have e3 : g3 = h2 := by rw [f2] at f3; cases f3; rfl
  subst e3
  have kc2 : ∀ r, kc g3 r = kc h1 r := fun r => K2.kc C1.1.1 C1.1.2.1 r
  have low : ∀ r, r < hn h1 → SmR h1 g3 r := by
    intro r hr
    rcases Nat.lt_or_ge r (hn h) with z | z
    · exact kept_sm K2 hr (by rw [(st1 r z).1]; exact (st0 r z).1) (by rw [(st1 r z).1]; exact (st0 r z).2)
    · have q := J1.2.2.1 r (fun w => by omega)
      exact q.tr (ou3.1 r (fun w => by omega))
  have sA : ∀ r, r < hn g3 → SmR g3 (nA g3 66 1) r := by
    intro r hr
    have w : r ≠ hn g3 := by omega
    exact ⟨if_neg w, if_neg w, fun _ => rfl, fun _ => rfl, fun _ => rfl, fun _ => if_neg w, fun _ => if_neg w, fun _ => if_neg w⟩
  have kc3 : ∀ r, kc (nA g3 66 1) r = kc g3 r := fun _ => rfl
  have cX : Cl (PX (hn h1) (hn h1 + 147)) (nA g3 66 1) := by
    have key : ∀ r, PX (hn h1) (hn h1 + 147) r → r < hn h1 ∨ hn g3 + 1 ≤ r := by
      intro r hr
      have := hr.1; have := hr.2
      omega
    have up : ∀ {v}, v < hn h1 → PX (hn h1) (hn h1 + 147) v := fun hv => ⟨by omega, by omega⟩
    have big : ∀ r, hn g3 + 1 ≤ r → hc (nA g3 66 1) r = 0 ∧ kc (nA g3 66 1) r = 0 := by
      intro r hr
      have q := w2.2.2.2.2.2.1 r (by omega)
      exact ⟨(if_neg (by omega)).trans q.1, q.2⟩
    refine ⟨up (by omega), fun f hf => ?_, fun r f hr e1 e2 e3 e4 => ?_, fun r j hr e1 e2 => ?_, Nat.succ_pos _, fun r hr => big r hr, fun r hr => ?_⟩
    · have z0 : (0 : Nat) < hn h1 := by omega
      rw [(sA 0 (by omega)).2.2.2.2.1, (low 0 z0).2.2.2.2.1]
      exact up (w1.2.1 f hf)
    · rcases key r hr with z | z
      · rw [(sA r (by omega)).1, (low r z).1] at e4
        rw [(sA r (by omega)).2.2.2.2.1, (low r z).2.2.2.2.1]
        exact up (w1.2.2.1 r f z e1 e2 e3 e4)
      · rw [(big r z).1] at e4
        have q1 := List.all_eq_true.mp iF_hi f (List.elem_iff.mp e3)
        simp only [Bool.and_eq_true, decide_eq_true_eq] at q1
        have := e4.1
        omega
    · rcases key r hr with z | z
      · rw [(sA r (by omega)).1, (low r z).1, kc3, kc2] at e1
        rw [(sA r (by omega)).2.1, (low r z).2.1] at e2
        rw [(sA r (by omega)).2.2.2.2.2.2.2, (low r z).2.2.2.2.2.2.2]
        exact up (w1.2.2.2.1 r j z e1 e2)
      · rw [(big r z).1, (big r z).2] at e1
        omega
    · rw [kc3] at hr
      have q := w2.2.2.2.2.2.2 r hr
      have hlt := (C2.1.2.2.2 r hr).1
      rw [(sA r hlt).1]
      exact q
  have cM : Cl (PM (hn h) (hn h1)) (nA g3 66 1) := by
    have key : ∀ r, PM (hn h) (hn h1) r → (r < hn h ∨ hn h1 ≤ r) ∧ r < hn g3 := by
      intro r hr
      unfold PM at hr
      omega
    have up : ∀ {v}, (v < hn h ∨ hn h1 ≤ v) → v < hn g3 → PM (hn h) (hn h1) v := by
      intro v a1 a2
      unfold PM
      omega
    refine ⟨Or.inl C.1.2.1, fun f hf => ?_, fun r f hr e1 e2 e3 e4 => ?_, fun r j hr e1 e2 => ?_, cX.2.2.2.2⟩
    · rw [(sA 0 (by omega)).2.2.2.2.1]
      exact up (w3.2.1 f hf) (w2.2.1 f hf)
    · obtain ⟨z1, z2⟩ := key r hr
      rw [(sA r z2).1] at e4
      rw [(sA r z2).2.2.2.2.1]
      exact up (w3.2.2.1 r f z1 e1 e2 e3 e4) (w2.2.2.1 r f z2 e1 e2 e3 e4)
    · obtain ⟨z1, z2⟩ := key r hr
      rw [(sA r z2).1, kc3] at e1
      rw [(sA r z2).2.1] at e2
      rw [(sA r z2).2.2.2.2.2.2.2]
      exact up (w3.2.2.2.1 r j z1 e1 e2) (w2.2.2.2.1 r j z2 e1 e2)
  have hx0 : hc (nA g3 66 1) (hn h) = 1 := by
    rw [(sA _ (by omega)).1, (low _ lt1).1, (F_le f1).2.2.2.1 (hn h) (Nat.lt_succ_self _)]
    exact hc_nO
  have hm0 : hc (nA g3 66 1) (hn h1) = 43 := by
    rw [(sA _ (by omega)).1, (F_le f2).2.2.2.1 (hn h1) (Nat.lt_succ_self _)]
    exact hc_nO
  refine ⟨h1, g3, f1, f2, ⟨by rw [k0]; decide, by rw [s0]; decide⟩, ⟨by unfold cLim; omega, by unfold sLim; omega⟩, ⟨by decide, by unfold cLim; omega, by unfold sLim; show hs g3 + 1 ≤ _; omega⟩, nA g3 66 1, nA g3 66 1, hn h, hR _ _ _ ?_ ?_, ?_⟩
  · refine hX1 _ (fun r hr => (low r hr).tr (sA r (by omega))) (by show hn h1 ≤ hn g3 + 1; omega) (by show hk g3 + 1 ≤ 3400; omega) (by show hs g3 + 1 ≤ 2600000; omega) cX C3
  · exact hM1 _ sA C3
  · rw [n2]
    refine ⟨⟨cX, ⟨fun r _ => SmR.rf, fun _ => ⟨⟨rfl, rfl, rfl⟩, by show hn h1 + 147 + 1 ≤ hn g3 + 1; omega⟩⟩⟩, ⟨cM, ⟨fun r _ => SmR.rf, fun z => by cases z⟩⟩, ⟨hx0, hm0, by rw [← n2]; exact if_pos rfl, by rw [← n2]; exact if_pos rfl, C3, S3⟩, ⟨⟨by omega, by omega⟩, by omega, by omega, by show hn h1 + 147 < hn g3 + 1; omega, fun r hr => ?_⟩⟩
    rw [(sA r (by omega)).1, (low r (by omega)).1, (st1 r hr).1]
    exact st0 r hr
/-- THE CLAIM OUT OF THE SIDES -/
theorem claim_of4 {R : RL} {XI MI : PH → Nat → Prop} (hJ : JAll R) (hm : ∀ k hx x h m, R k hx x h m → R (k + 1) hx x h m) (hXN : XNew XI) (hMN : MNew MI) (hR : ∀ h x m, XI h x → MI h m → R 0 h x h m) : Claimed_1_1 ∧ Claimed_1_2 := by
  refine claim_of (fun s b L xs G => ?_)
  have C := conS G
  have S := scrS G
  obtain ⟨h1, h2, f1, f2, r1, r2, r3, I⟩ := new_of hXN hMN hR C S (stS G) rfl rfl
  have e0 : F 2040 LAWM [vR (b + 1)] (hS0 s b) = FA (F 2039) 176685057 0 [vR (b + 1), vX, vX, vX, vX, vX, vX, vX] [] (hS0 s b) := e_law 2039 (b + 1) (hS0 s b)
  rw [e0, c_law_0 (g0 := r1) (g1 := i11 hc_nO), f1]
  dsimp only [bnd, pu]
  rw [c_law_7 (g0 := r2) (g1 := i11 hc_nO), f2]
  dsimp only [bnd, pu]
  rw [c_law_15 (g0 := r3)]
  exact law_loop (inv_of hm) (ops_of hJ) 64 0 _ _ _ _ I (by omega) (by have := S.2.2.1; omega)
