/-! System.arraycopy -/
set_option maxRecDepth 100000
/-- an array's cell is replaced -/
theorem Rep.putA {s0 : State} {K : KX} {h h' : PH} {H H' : Heap} {r : Nat} {cell cell' : Cell} (R : Rep s0 K h H) (hmd : mdA (hc h r) = true) (S1 : hc h' = hc h) (S2 : hl h' = hl h) (S3 : hn h' = hn h) (S6 : hk h' = hk h) (S4 : ∀ f q, fv h' f q = fv h f q) (S5 : ∀ t q j, q ≠ r → ev h' t q j = ev h t q j) (S7 : ∀ g, gR h' g 0 = gR h g 0) (hw : WFH h')
    (hcell : H[r - 1]? = some cell) (d1 : cell'.cls = cell.cls) (d2 : cell'.vm = cell.vm) (d3 : cell'.slots.size = cell.slots.size) (d4 : ∀ j : Nat, j < cell.slots.size → cell'.slots[j]? = some (ev h' (hc h r) r j))
    (h1 : H'[r - 1]? = some cell') (h2 : H'.size = H.size) (h3 : ∀ q, q ≠ r - 1 → H'[q]? = H[q]?) : Rep s0 K h' H' := by
  have h64 := (mdA_ge hmd).1
  have hk0 : hc h r ≠ 0 := by omega
  have hr0 := R.pos hk0
  obtain ⟨R1, R2, R3, R4, R5, R6, R7⟩ := R
  refine ⟨by rw [S3, h2]; exact R1, by rw [S1]; exact R2, ?_, ?_, ?_, hw, by rw [S3, S6]; exact R7⟩
  · intro q hq
    rw [S1] at hq
    obtain ⟨q0, q1, cq, q2, q3, q4, q5, q6⟩ := R3 q hq
    refine ⟨by rw [S1]; exact q0, by rw [S3]; exact q1, ?_⟩
    have hq0 : 0 < q := by
      rcases Nat.eq_zero_or_pos q with e | e
      · subst e; exact absurd R2 hq
      · exact e
    by_cases e : q = r
    · subst e
      cases hcell.symm.trans q2
      obtain ⟨a1, a2, a3, a4⟩ := q6 h64
      refine ⟨_, h1, by rw [d2]; exact q3, by rw [d2]; exact q4, fun z => by rw [S1] at z; omega, ?_⟩
      intro _
      rw [S1, S2, d1, d2, d3]
      refine ⟨⟨by rw [d2]; exact a1.1, by rw [d1]; exact a1.2⟩, a2, a3, d4⟩
    · have hne : q - 1 ≠ r - 1 := by omega
      refine ⟨cq, by rw [h3 _ hne]; exact q2, q3, q4, ?_, ?_⟩
      · intro z
        rw [S1] at z ⊢
        obtain ⟨a1, a2, a3⟩ := q5 z
        exact ⟨a1, a2, fun g hg => by rw [S4]; exact a3 g hg⟩
      · intro z
        rw [S1] at z ⊢
        obtain ⟨a1, a2, a3, a4⟩ := q6 z
        rw [S2]
        exact ⟨a1, a2, a3, fun j hj => by rw [S5 _ q j e]; exact a4 j hj⟩
  · intro g hg
    obtain ⟨cf, kf, fi, fd, a, ca, z1, z2, z3, z4, z5, z6, z7, z8⟩ := R4 g hg
    have hne : a ≠ r - 1 := by
      intro e
      apply z8
      show hc h (a + 1) ≠ 0
      rw [e, Nat.sub_add_cancel hr0]
      exact hk0
    refine ⟨cf, kf, fi, fd, a, ca, z1, z2, z3, z4, by rw [h3 _ hne]; exact z5, z6, ?_, ?_⟩
    · rw [S4]; exact z7
    · show ¬ hc h' (a + 1) ≠ 0
      rw [S1]; exact z8
  · refine ⟨fun q hq => by rw [S7]; exact R5.1 q hq, fun q hq => ?_⟩
    have hq' : kc h q ≠ 0 := by rw [show kc h q = kc h' q from (S7 _).symm]; exact hq
    have c := R5.2 q hq'
    have hlt := (R3 r hk0).1.2.2 (Or.inr hmd)
    have hne : q - 1 ≠ r - 1 := by have := c.1; have := c.2.1; omega
    exact ConA.mv (S7 _) (by rw [S2]) (fun t j => S5 t q j (fun z => by have := c.1; omega)) (h3 _ hne) c
theorem ev_ak {h : PH} {t t' x : Nat} {y : Int} (e : ak t = ak t') : ev h t x y = ev h t' x y := by unfold ev; rw [e]
theorem ev_aC {h : PH} {a b t x : Nat} {i j n y : Int} : ev (aC h a i b j n) t x y = if x = b ∧ j ≤ y ∧ y < j + n then ev h t a (i + (y - j)) else ev h t x y := by
  have e1 : eI (aC h a i b j n) x y = if x = b ∧ j ≤ y ∧ y < j + n then eI h a (i + (y - j)) else eI h x y := rfl
  have e2 : eJ (aC h a i b j n) x y = if x = b ∧ j ≤ y ∧ y < j + n then eJ h a (i + (y - j)) else eJ h x y := rfl
  have e3 : eR (aC h a i b j n) x y = if x = b ∧ j ≤ y ∧ y < j + n then eR h a (i + (y - j)) else eR h x y := rfl
  by_cases hq : x = b ∧ j ≤ y ∧ y < j + n
  · rw [if_pos hq] at e1 e2 e3 ⊢
    unfold ev
    simp only [e1, e2, e3]
  · rw [if_neg hq] at e1 e2 e3 ⊢
    unfold ev
    simp only [e1, e2, e3]
theorem wf_aC {h : PH} {a b : Nat} {i j n : Int} (hw : WFH h) : WFH (aC h a i b j n) := by
  obtain ⟨w1, w2, w3, w4, w5⟩ := hw
  refine ⟨w1, w2, fun r x => ?_, fun r x => ?_, w5⟩
  · show in32 (cpE (eI h) a i b j n r x)
    unfold cpE
    split
    · exact w3 _ _
    · exact w3 _ _
  · show in64 (cpE (eJ h) a i b j n r x)
    unfold cpE
    split
    · exact w4 _ _
    · exact w4 _ _
theorem okE_cls {s0 s : State} {a0 : Array Value} {K : KX} {h : PH} {H : Heap} {z : Nat} (hC : CX s0 a0 K) (hGl : GlobOK) (hW : s0.WarmedH s.vm) (hR : Rep s0 K h H) (hz : okE h 71 z) : z = 0 ∨ ∃ (b : Nat) (cv : Cell) (ct : ClassId), z = b + 1 ∧ H[b]? = some cv ∧ cv.vm.isStatics = false ∧ s.vm.findClass "java/lang/Object" = some ct ∧ (∃ kv, s.vm.classes[cv.cls]? = some kv) ∧ s.vm.assignable cv.cls ct = true := by
  have hcls : ∀ (b : Nat) (cv : Cell) (nm : String), s.vm.findClass nm = some cv.cls → ∃ kv, s.vm.classes[cv.cls]? = some kv := fun b cv nm q => by obtain ⟨kv, hkv, -⟩ := Vm.findClass_spec q; exact ⟨kv, hkv⟩
  rcases hz with h0 | ⟨-, h1⟩ | ⟨h1, -⟩ | ⟨h1, -⟩ | ⟨h1, -⟩
  · exact Or.inl h0
  · rcases h1 with h1 | h1
    · obtain ⟨b, cv, rfl, v1, v2, v3⟩ := val_cls hC hW hR h1
      obtain ⟨c0, t0, f1, f2, f3⟩ := Cond.castable_spec (va_Nw.use (A := #[]) rfl (tca hC hW (hGl.2.1 _ h1.1 h1.2)))
      cases v3.symm.trans f1
      exact Or.inr ⟨b, cv, t0, rfl, v1, v2, f2, hcls b cv _ v3, f3⟩
    · obtain ⟨b, cv, rfl, v1, v2, v3, v4, v5, v6, v7⟩ := arr_cell hR (r := z) (by omega)
      have hra : s.vm.findClass "[I" = some cv.cls := by have h8 := va_RA.moved hW.alike (v5 (by rw [h1]; rfl)).2.1; rw [h1] at h8; exact h8
      obtain ⟨c0, t0, f1, f2, f3⟩ := Cond.castable_spec (va_Nw.use (A := #[]) rfl (tca hC hW hGl.2.2.1))
      cases hra.symm.trans f1
      exact Or.inr ⟨b, cv, t0, rfl, v1, v3, f2, hcls b cv _ hra, f3⟩
  · omega
  · omega
  · omega
abbrev cpG (h : PH) (a : Nat) (i : Int) (b : Nat) (j n : Int) : Prop := (hc h a = hc h b ∨ kc h a = 72 ∧ hc h b = 71) ∧ (hc h b = 65 ∨ hc h b = 66 ∨ hc h b = 67 ∨ hc h b = 71) ∧ 0 ≤ i ∧ 0 ≤ j ∧ 0 ≤ n ∧ i + n ≤ hl h a ∧ j + n ≤ hl h b ∧ (hc h b = 71 → okAll h a i n.toNat) ∧ (hc h b = 67 → okByt h a i n.toNat)
theorem cp_prim {d : Nat} {av : List PV} {h h1 : PH} {o1 : Ot} (hF : F d ACN av h = some (o1, h1)) : ∃ a i b j n, av = [vR a, vI i, vR b, vI j, vI n] ∧ cpG h a i b j n ∧ o1 = .inl none ∧ h1 = aC h a i b j n := by
  cases d with
  | zero => cases hF
  | succ d =>
    have hF : prim 900 av h = some (o1, h1) := hF
    unfold prim at hF
    split at hF
    · obtain ⟨hg, e⟩ := gd_some hF
      cases e
      exact ⟨_, _, _, _, _, rfl, hg, rfl, rfl⟩
    · exact absurd ‹900 - 900 = 1› (by decide)
    · cases hF
theorem fits_byte {x : Int} (h : -128 ≤ x) (k : x < 128) : fits .byte (.int (Int32.ofInt x)) = true := by
  have hx : in32 x := ⟨by omega, by omega⟩
  show (decide (-128 ≤ Int32.ofInt x) && decide (Int32.ofInt x ≤ 127)) = true
  have e1 : (-128 : Int32) = Int32.ofInt (-128) := by decide
  have e2 : (127 : Int32) = Int32.ofInt 127 := by decide
  rw [e1, e2, Bool.and_eq_true, decide_eq_true_eq, decide_eq_true_eq, c_le ⟨by omega, by omega⟩ hx, c_le hx ⟨by omega, by omega⟩]
  omega
section COPY
variable {p : Program} {l : Launch} {e : Env} {R : Room} {s : State} {m : MethodId} {args : Array Value} {below : List Frame} {meth : Method} {c : Code} {T : State} {locs : List Loc} {cells slots : Nat}
/-- a copy at the stand -/
theorem copy_stand (X : Stand p l e R s m args below meth c T locs cells slots) (hexec : p.tables.exec = Jvm.exec) {s0 : State} {a0 : Array Value} {K : KX} (hC : CX s0 a0 K) (hGl : GlobOK) (hW : s0.WarmedH s.vm)
    {own : String} {idx : Nat} (hown : s.vm.findClass own = some m.cls) (hac : ACk own idx) {h : PH} {H : Heap} (hR : Rep s0 K h H) (hT : T.heap = H) {a b : Nat} {i j n : Int} (hi : in32 i) (hj : in32 j) (hn0 : in32 n) (hg : cpG h (a + 1) i (b + 1) j n)
    {g : JFrame} (hgm : g.method = m) (hsize : g.locals.size = c.maxLocals) {rest : List Value} (hstack : g.stack = .int (Int32.ofInt n) :: .int (Int32.ofInt j) :: .ref b :: .int (Int32.ofInt i) :: .ref a :: rest)
    (hdg : decode c.code g.pc = .ok (.invokestatic idx, 3)) (hRf : 1 ≤ R.frames) (hRl : 2 * g.monitorRoom + (rest.map fun v => v.category).sum + 18 ≤ R.locals) :
    ∃ (vm : Vm) (U : State) (L : List Loc), (∀ q ∈ L, s0.heap.size ≤ q.base) ∧ Stand p l e R s m args below meth c U (locs ++ L) cells slots ∧ U.vm = vm ∧ Rep s0 K (aC h (a + 1) i (b + 1) j n) U.heap ∧
      ∀ target, Steps p.tables e below (U.setTop { g with pc := g.pc + 3, stack := rest }) target → Steps p.tables e below (T.setTop g) target := by
  obtain ⟨k1, k2, k3, k4⟩ := hac
  obtain ⟨g1, g2, g3, g4, g5, g6, g7, g8, g9⟩ := hg
  have hb64 : 64 ≤ hc h (b + 1) := by omega
  obtain ⟨ta, hta, ca, a1, a2, a3, a4, a6, a7⟩ : ∃ (ta : Nat) (_ : ta = hc h (b + 1) ∨ ta = 72 ∧ hc h (b + 1) = 71) (ca : Cell), H[a]? = some ca ∧ ca.vm ≠ .unknown ∧ ca.vm.isStatics = false ∧ s0.isArrayOf ca (aT ta) ∧ (hl h (a + 1)).toNat ≤ ca.slots.size ∧ ∀ j : Nat, (j : Int) < hl h (a + 1) → ca.slots[j]? = some (ev h ta (a + 1) j) := by
    rcases g1 with q | ⟨q, q'⟩
    · obtain ⟨a', ca, ea, a1, a2, a3, a4, a5, a6, a7⟩ := arr_cell hR (r := a + 1) (by omega)
      cases ea
      exact ⟨_, Or.inl q, ca, a1, a2, a3, a4, by omega, fun j hj => a7 j (by omega)⟩
    · obtain ⟨-, a', ca, ea, a1, a2, a3, a4, a5, a6, -, a7⟩ := con_cell hR (r := a + 1) (by omega)
      cases ea
      exact ⟨_, Or.inr ⟨q, q'⟩, ca, a1, a2, a3, a4, a6, a7⟩
  obtain ⟨b', cb, eb, b1, b2, b3, b4, b5, b6, b7⟩ := arr_cell hR hb64
  cases eb
  have hm : mdA (hc h (b + 1)) = true := by rcases g2 with q | q | q | q <;> rw [q] <;> rfl
  have hak : ak ta = ak (hc h (b + 1)) := by
    rcases hta with q | ⟨q, q'⟩
    · rw [q]
    · rw [q, q']; rfl
  obtain ⟨-, ks, hks, sComp, hsk⟩ := arr_mv hW a4
  obtain ⟨-, kd, hkd, dComp, hdk⟩ := arr_mv hW b4
  have ti : (Int32.ofInt i).toInt = i := of32 hi
  have tj : (Int32.ofInt j).toInt = j := of32 hj
  have tn : (Int32.ofInt n).toInt = n := of32 hn0
  have ni : (Int32.ofInt i).toNatClampNeg = i.toNat := tcn g3 hi.2
  have nj : (Int32.ofInt j).toNatClampNeg = j.toNat := tcn g4 hj.2
  have nn : (Int32.ofInt n).toNatClampNeg = n.toNat := tcn g5 hn0.2
  have hval : ∀ q : Nat, q < n.toNat → ca.slots.getD (i.toNat + q) .null = ev h (hc h (b + 1)) (a + 1) (i + q) := by
    intro q hq
    have h7 := a7 (i.toNat + q) (by omega)
    have hz : ((i.toNat + q : Nat) : Int) = i + q := by omega
    rw [hz, ev_ak hak] at h7
    rw [Array.getD_eq_getD_getElem?, h7]
    rfl
  have hty : ((refKind (aT ta) != refKind (aT (hc h (b + 1)))) || (!refKind (aT ta) && aT ta != aT (hc h (b + 1)))) = false := by
    rcases hta with q | ⟨q, q'⟩
    · rw [q]; rcases g2 with q | q | q | q <;> rw [q] <;> rfl
    · rw [q, q']; rfl
  have hvals : ∀ vm', s.vm.Alike vm' → ∀ q, q < (Int32.ofInt n).toNatClampNeg → fits (aT (hc h (b + 1))) (ca.slots.getD ((Int32.ofInt i).toNatClampNeg + q) .null) = true ∧ (T.setVm vm').takes dComp (ca.slots.getD ((Int32.ofInt i).toNatClampNeg + q) .null) := by
    intro vm' hA q hq
    rw [nn] at hq
    rw [ni, hval q hq]
    rcases g2 with e1 | e1 | e1 | e1
    · rw [e1]; exact ⟨rfl, trivial⟩
    · rw [e1]; exact ⟨rfl, trivial⟩
    · rw [e1]
      exact ⟨fits_byte (okByt_iff.mp (g9 e1) q hq).1 (okByt_iff.mp (g9 e1) q hq).2, trivial⟩
    · have hok := okAll_iff.mp (g8 e1) q hq
      obtain ⟨kA, comp, r1, r2, r3, r4⟩ := (by have h8 := va_RA.moved hW.alike (b5 hm).2.1; rw [e1] at h8; exact h8 : ∃ (kA : Class) (comp : ClassId), s.vm.classes[cb.cls]? = some kA ∧ kA.kind = .array comp (.object "java/lang/Object") ∧ s.vm.findClass "java/lang/Object" = some comp ∧ s.vm.findClass ("[" ++ (FieldType.object "java/lang/Object").toString) = some cb.cls)
      cases Option.some.inj (r1.symm.trans hkd)
      have hcomp : comp = dComp := by
        have z := r2.symm.trans hdk
        injection z
      rw [e1]
      have hev : ev h 71 (a + 1) (i + q) = rv (eR h (a + 1) (i + q)) := rfl
      rw [hev]
      have fr : ∀ r : Nat, fits (aT 71) (rv r) = true := fun r => by cases r <;> rfl
      refine ⟨fr _, ?_⟩
      rcases okE_cls hC hGl hW hR hok with e2 | ⟨b2, cv2, ct, e2, v1, v2, v3, ⟨kv, v4⟩, v5⟩
      · rw [e2]; trivial
      · rw [e2]
        have ect : ct = dComp := by rw [← hcomp]; exact Option.some.inj (v3.symm.trans r3)
        obtain ⟨kv', hkv', -⟩ := hA.2.2 _ _ v4
        obtain ⟨kE, hkE, -⟩ := Vm.findClass_spec v3
        obtain ⟨kE', hkE', -⟩ := hA.2.2 _ _ hkE
        exact ⟨cv2, by show T.heap[b2]? = _; rw [hT]; exact v1, stat_no v2, ⟨kv', hkv'⟩, ⟨kE', by rw [← ect]; exact hkE'⟩, by show vm'.assignable cv2.cls dComp = true; rw [hA.assignable, ← ect]; exact v5⟩
  obtain ⟨vm', X', st⟩ := X.arraycopy hexec hown (tg hC hW args k1) (tg hC hW args k2) (tg hC hW args k3) (tg hC hW args k4) (src := a) (dst := b) (srcPos := Int32.ofInt i) (destPos := Int32.ofInt j) (n := Int32.ofInt n)
    (by rw [hT]; exact a1) (by rw [hT]; exact b1) (stat_no a3) (stat_no b3) a2 b2 hks hkd hsk hdk hty
    (fun q => by have := (c_lt0 hi).mp q; omega) (fun q => by have := (c_lt0 hj).mp q; omega) (fun q => by have := (c_lt0 hn0).mp q; omega) (by rw [ti, tn]; omega) (by rw [tj, tn]; omega) hvals hgm hsize hstack hdg hRf (by show 2 * g.monitorRoom + (rest.map fun v => v.category).sum + (7 + 11) ≤ R.locals; exact hRl)
  refine ⟨vm', _, _, ?_, X', rfl, ?_, st⟩
  · intro q hq
    obtain ⟨q', -, rfl⟩ := List.mem_map.mp hq
    exact (b5 hm).2.2
  · have hlt : b < H.size := (Array.getElem?_eq_some_iff.mp b1).1
    obtain ⟨u1, u2, u3⟩ := setH (x := copied ca cb (Int32.ofInt i) (Int32.ofInt j) (Int32.ofInt n)) hlt
    have ho : (((T.setVm vm').setCell b (copied ca cb (Int32.ofInt i) (Int32.ofInt j) (Int32.ofInt n))).heap) = H.setIfInBounds b (copied ca cb (Int32.ofInt i) (Int32.ofInt j) (Int32.ofInt n)) := by
      show T.heap.setIfInBounds b _ = _
      rw [hT]
    rw [ho]
    obtain ⟨f1, f2, f3, -, -⟩ := Cell.storeRun_facts cb (Int32.ofInt j).toNatClampNeg (ca.stretch (Int32.ofInt i).toNatClampNeg (Int32.ofInt n).toNatClampNeg)
    refine Rep.putA (r := b + 1) hR hm rfl rfl rfl rfl (fun f q => rfl) (fun t q y hq => ?_) (fun g => rfl) (wf_aC hR.wf) b1 f1 f2 f3 (fun y hy => ?_) u1 u2 u3
    · rw [ev_aC, if_neg (fun z => hq z.1)]
    · have hsl : (ca.stretch (Int32.ofInt i).toNatClampNeg (Int32.ofInt n).toNatClampNeg).length = n.toNat := by rw [Cell.stretch_length, nn]
      have hin : (Int32.ofInt j).toNatClampNeg + (ca.stretch (Int32.ofInt i).toNatClampNeg (Int32.ofInt n).toNatClampNeg).length ≤ cb.slots.size := by rw [hsl, nj]; omega
      show (cb.storeRun (Int32.ofInt j).toNatClampNeg (ca.stretch (Int32.ofInt i).toNatClampNeg (Int32.ofInt n).toNatClampNeg)).slots[y]? = _
      rw [Cell.storeRun_get _ _ _ _ hin, hsl, nj, ev_aC]
      by_cases hq : j.toNat ≤ y ∧ y < j.toNat + n.toNat
      · rw [if_pos hq, if_pos ⟨rfl, by omega, by omega⟩, nn, ni]
        have hq2 : y - j.toNat < n.toNat := by omega
        have e3 : (ca.stretch i.toNat n.toNat)[y - j.toNat]? = some (ca.slots.getD (i.toNat + (y - j.toNat)) .null) := by
          unfold Cell.stretch
          rw [List.getElem?_map, List.getElem?_range hq2]
          rfl
        rw [e3, hval _ hq2]
        have e4 : i + ((y - j.toNat : Nat) : Int) = i + ((y : Int) - j) := by omega
        rw [e4]
      · rw [if_neg hq, if_neg (fun z => hq (by omega))]
        exact b7 y hy
end COPY
theorem copyOK {s0 : State} {a0 : Array Value} {K : KX} (hC : CX s0 a0 K) (hGl : GlobOK) : CopyOK s0 a0 K := by
  intro own p l e d s m args below meth c M hS hE o Ω κ μ ini k hx hW hown hml hO hkk b len pc lp st h H ls locs hck hln hB he hlen hL hwl hws hR hG hfr
  obtain ⟨y, z, l', rfl, hin, rfl⟩ := l3_s (show l3 184 Ω 9 ACN b = len from hck) hln
  obtain ⟨O1, O2, O3, O4, O5, O6, O7, O8, O9, O10, O11, O12, -⟩ := hO
  have hac : ACk own (y * 256 + z) := by
    rcases O12 _ hin with q | q
    · exact q.2
    · exact absurd rfl q.1
  have he : (match popN 5 [] st with
    | some (args, st) => callK (F d) k M pc (pc + 3) ACN args lp st h
    | none => none) = some (o, hE) := he
  rcases hp : popN 5 [] st with _ | ⟨av, st'⟩
  · rw [hp] at he; exact no_e he
  rw [hp] at he
  have he : callK (F d) k M pc (pc + 3) ACN av lp st' h = some (o, hE) := he
  obtain ⟨hst, -, hwa, hws'⟩ := pop_args hp hws
  unfold callK at he
  cases hq : Nat.ble (stw st') 8 with
  | false => rw [hq] at he; exact no_e he
  | true =>
  rw [hq] at he
  have hq := Nat.ble_eq.mp hq
  rcases hcf : F d ACN av h with _ | ⟨o1, h1⟩
  · rw [hcf] at he
    cases hh : hndL M <;> rw [hh] at he <;> exact no_e he
  obtain ⟨a, i, b, j, n, rfl, hg, rfl, rfl⟩ := cp_prim hcf
  have he : k (pc + 3) lp st' (aC h a i b j n) = some (o, hE) := by
    rw [hcf] at he
    cases hh : hndL M <;> rw [hh] at he <;> exact he
  have hi : in32 i := hwa _ (List.mem_cons_of_mem _ List.mem_cons_self)
  have hj : in32 j := hwa (vI j) (by simp)
  have hn0 : in32 n := hwa (vI n) (by simp)
  have hb0 : hc h b ≠ 0 := by have := hg.2.1; omega
  have pa : 0 < a := by
    rcases hg.1 with q | ⟨q, -⟩
    · exact hR.pos (by have := hg.2.1; omega)
    · exact (hR.2.2.2.2.1.2 a (by omega)).2.1
  have pb := hR.pos hb0
  obtain ⟨a, rfl⟩ : ∃ q, a = q + 1 := ⟨a - 1, by omega⟩
  obtain ⟨b, rfl⟩ : ∃ q, b = q + 1 := ⟨b - 1, by omega⟩
  intro T hT X
  have hsize : ls.size = c.maxLocals := by rw [hml, ← hlen]; exact hL.1
  obtain ⟨vm, U, L, hLf, X2, -, hR2, hst2⟩ := copy_stand X hx hC hGl hW hown hac hR hT hi hj hn0 hg (g := F0 m pc ls (st.map cv)) rfl hsize (rest := st'.map cv) (by show st.map cv = _; rw [hst]; rfl) (dk_184 hB) (by show 1 ≤ d + 1 + 8; omega) (by show 2 * 0 + ((st'.map cv).map fun v => v.category).sum + 18 ≤ 46 * (d + 1) + 400; rw [stw_sum]; omega)
  have hfr2 : ∀ q ∈ locs ++ L, fr0 s0 q.base := by
    intro q hq
    rcases List.mem_append.mp hq with z | z
    · exact hfr q z
    · exact hLf q z
  obtain ⟨tf, a1, b1⟩ := hkk (pc + 3) lp st' (aC h (a + 1) i (b + 1) j n) U.heap ls (locs ++ L) he hlen hL hwl hws' hR2 (ge_same rfl rfl hG) hfr2 U rfl X2
  exact ⟨tf, hst2 tf a1, b1⟩
