/-! SIMULATION: putfield, new cells, aastore, casts (printed by gen/sim19.py) -/
set_option maxRecDepth 100000
theorem same_pI {h : PH} {f r : Nat} {v : Int} (hr : r ≠ 0) : SameF h (pI h f r v) f r := by
  refine ⟨rfl, rfl, rfl, rfl, fun _ _ _ => rfl, fun g q hne => ?_, fun _ => rfl⟩
  have e : gI (pI h f r v) g q = gI h g q := by
    show up2 (gI h) f r v g q = _
    unfold up2
    rw [if_neg hne]
  unfold fv rdF
  rw [e]
  rfl
theorem same_pJ {h : PH} {f r : Nat} {v : Int} (hr : r ≠ 0) : SameF h (pJ h f r v) f r := by
  refine ⟨rfl, rfl, rfl, rfl, fun _ _ _ => rfl, fun g q hne => ?_, fun _ => rfl⟩
  have e : gJ (pJ h f r v) g q = gJ h g q := by
    show up2 (gJ h) f r v g q = _
    unfold up2
    rw [if_neg hne]
  unfold fv rdF
  rw [e]
  rfl
theorem same_pR {h : PH} {f r v : Nat} (hr : r ≠ 0) : SameF h (pR h f r v) f r := by
  have e0 : ∀ g q, ¬ (g = f ∧ q = r) → gR (pR h f r v) g q = gR h g q := by
    intro g q hne
    show up2 (gR h) f r v g q = _
    unfold up2
    rw [if_neg hne]
  refine ⟨rfl, rfl, rfl, rfl, fun _ _ _ => rfl, fun g q hne => ?_, fun g => e0 g 0 (fun c => hr c.2.symm)⟩
  unfold fv rdF
  rw [e0 g q hne]
  rfl
theorem gI_pI {h : PH} {f r : Nat} {v : Int} : gI (pI h f r v) f r = v := by show up2 (gI h) f r v f r = v; unfold up2; rw [if_pos ⟨rfl, rfl⟩]
theorem gJ_pJ {h : PH} {f r : Nat} {v : Int} : gJ (pJ h f r v) f r = v := by show up2 (gJ h) f r v f r = v; unfold up2; rw [if_pos ⟨rfl, rfl⟩]
theorem gR_pR {h : PH} {f r v : Nat} : gR (pR h f r v) f r = v := by show up2 (gR h) f r v f r = v; unfold up2; rw [if_pos ⟨rfl, rfl⟩]
theorem wf_pI {h : PH} {f r : Nat} {v : Int} (hw : WFH h) (hv : in32 v) : WFH (pI h f r v) := by
  refine ⟨fun x y => ?_, hw.2.1, hw.2.2.1, hw.2.2.2.1, hw.2.2.2.2⟩
  show in32 (up2 (gI h) f r v x y)
  unfold up2
  split
  · exact hv
  · exact hw.1 x y
theorem wf_pJ {h : PH} {f r : Nat} {v : Int} (hw : WFH h) (hv : in64 v) : WFH (pJ h f r v) := by
  refine ⟨hw.1, fun x y => ?_, hw.2.2.1, hw.2.2.2.1, hw.2.2.2.2⟩
  show in64 (up2 (gJ h) f r v x y)
  unfold up2
  split
  · exact hv
  · exact hw.2.1 x y
theorem wf_pR {h : PH} {f r v : Nat} (hw : WFH h) : WFH (pR h f r v) := ⟨hw.1, hw.2.1, hw.2.2.1, hw.2.2.2.1, hw.2.2.2.2⟩
/-- what a field of a kind takes -/
def okV (f : Nat) (v : PV) : Prop := match f % 4, v with
  | 0, .inl x => in32 x
  | 1, .inr (.inl x) => in64 x
  | 2, .inr (.inr (.inl _)) => True
  | 3, .inl x => x = 0 ∨ x = 1
  | _, _ => False
theorem okV_fits {f : Nat} {v : PV} (hf : f ∈ iFs) (hw : f / 512 % 128 ≠ 0) (h : okV f v) : narrow (fTy f) (cv v) = cv v ∧ fits (fTy f) (cv v) = true := by
  rcases kOK_s hf with ⟨e, ht⟩ | ⟨e, ht⟩ | ⟨e, ht⟩ | ⟨e, ht⟩ <;> unfold okV at h <;> rw [e] at h
  · rcases ht with ht | ⟨-, h0⟩
    · rcases v with x | ⟨x | ⟨x | x⟩⟩ <;> first | exact h.elim | (rw [ht]; exact ⟨rfl, rfl⟩)
    · exact absurd h0 hw
  · rcases v with x | ⟨x | ⟨x | x⟩⟩ <;> first | exact h.elim | (rw [ht]; exact ⟨rfl, rfl⟩)
  · rcases v with x | ⟨x | ⟨x | x⟩⟩ <;> first | exact h.elim | skip
    rcases ht with ⟨n, ht⟩ | ⟨n, ht⟩ <;> rw [ht] <;> cases x <;> exact ⟨rfl, rfl⟩
  · rcases v with x | ⟨x | ⟨x | x⟩⟩ <;> first | exact h.elim | skip
    rw [ht]
    rcases h with rfl | rfl <;> exact ⟨rfl, rfl⟩
/-- one store into a field, whatever its kind -/
theorem put_go {s0 : State} {a0 : Array Value} {K : KX} {own : String} {p : Program} {l : Launch} {e : Env} {R : Room} {s : State} {m : MethodId} {args : Array Value} {below : List Frame} {meth : Method} {c : Code} {locs : List Loc} {cells slots : Nat} {Q : State → Prop} {h h' : PH} {H : Heap} {ls : Array Slot} {pc f x y y2 : Nat} {l' : List Nat} {v : PV} {rest : List Value} (hx : p.tables.exec = Jvm.exec) (hC : CX s0 a0 K) (hW : s0.WarmedH s.vm) (hown : s.vm.findClass own = some m.cls)
    (hB : BytesAt c.code pc (181 :: y :: y2 :: l')) (hR : Rep s0 K h H) (hfi : f ∈ iFs) (hg : inT (f / 4 % 128) (f / 512 % 128) (hc h x)) (hok : okV f v) (hlk : PLk own (y * 256 + y2) f ∨ PFk own (y * 256 + y2) f ∧ meth.name = "<init>")
    (hS2 : x ≠ 0 → SameF h h' f x) (hev : fv h' f x = cv v) (hwf : WFH h')
    (kk : ∀ (H' : Heap) (locs' : List Loc), Rep s0 K h' H' → (∀ q ∈ locs', q ∈ locs ∨ s0.heap.size ≤ q.base) → W p l e R s m args below meth c H' locs' cells slots Q (F0 m (pc + 3) ls rest)) :
    W p l e R s m args below meth c H locs cells slots Q (F0 m pc ls (cv v :: rv x :: rest)) := by
  obtain ⟨hf, hm⟩ := iF_put hfi hg
  have hml := md_lt hm
  obtain ⟨a, cell, rfl, c1, c2, c3, c4, c5, c6⟩ := obj_cell hR hml.2.1 hml.2.2
  obtain ⟨cf1, kf, fi, fd, g1, g2, g3⟩ := SlotI.moved hW.alike (hC.2.2.2.1 _ f hml.2.2 hf)
  obtain ⟨hfc, kC, hkC, hkind⟩ := classAt_moved hW.alike (hC.2.2.1 _ hm)
  have hfi2 : f / 512 % 128 ≠ 0 := by
    intro q
    have := hg.1
    have := hg.2
    have h1 := List.all_eq_true.mp iF_hi f hfi
    simp only [Bool.and_eq_true, decide_eq_true_eq] at h1
    omega
  obtain ⟨hn, hfit⟩ := okV_fits hfi hfi2 hok
  have hlayw : layW (hc h (a + 1)) f ∈ lw_tbl := hC.2.2.2.2.1 _ f hm hf
  have hslot : fd.slot < cell.slots.size := by rw [g3]; exact k2_hasslot (c6 f hf)
  have fin : ∀ H' : Heap, H'[a]? = some (cell.setSlot fd.slot (cv v)) → H'.size = H.size → (∀ q, q ≠ a → H'[q]? = H[q]?) → W p l e R s m args below meth c H' (locs ++ [⟨a, fd.slot⟩]) cells slots Q (F0 m (pc + 3) ls rest) := by
    intro H' e1 e2 e3
    refine kk H' _ (Rep.putF (r := a + 1) hC hR hm hf (hS2 (by omega)) hwf c1 (by rw [hev, ← g3]; exact e1) e2 e3) ?_
    intro q hq
    rcases List.mem_append.mp hq with z | z
    · exact Or.inl z
    · rw [List.mem_singleton.mp z]; exact Or.inr (c5 hm).2
  rcases hlk with ⟨⟨ref, hlk, hrf⟩, hnf⟩ | ⟨⟨hfn, hfo, ref, hlk, hrf⟩, hini⟩
  · have g4 := rfO.at hC hW hrf _ g1
    have hlay : (Cond.lays (cN (hc h (a + 1))) (fO f) (fN f) (fD f)).before args s = true := by
      unfold layW at hlayw
      rw [if_neg (by rw [hnf]; decide)] at hlayw
      exact word_at hW (by left; rfl) (hC.1 _ hlayw)
    have h6 := u_store hfc hkC hkind hlay g1 (fTy_s hfi) hn hfit
    rw [← c4] at h6
    rcases hlk with hlk | ⟨host, hlk⟩
    · exact W.putK hx rfl ⟨hown, tg hC hW args hlk, ⟨_, _, _, g4⟩, g2⟩ h6 c1 (c5 hm).1 hslot rfl rfl (dk_181 hB) fin
    · exact va_WputK hx rfl hown (tfn hC hW args hlk) g4 g2 h6 c1 (c5 hm).1 hslot rfl rfl (dk_181 hB) fin
  · have g4 := rfO.at hC hW hrf _ g1
    have hlay : (Cond.laysFinal (cN (hc h (a + 1))) (fO f) (fN f) (fD f)).before args s = true := by
      unfold layW at hlayw
      rw [if_pos hfn] at hlayw
      exact word_at hW (by left; rfl) (hC.1 _ hlayw)
    have hcf : m.cls = cf1 := by
      obtain ⟨_, _, c', _, _, _, -, -, hf', -, -, -, hown2, -⟩ := Cond.laysFinal_spec hlay
      have e1 : c' = cf1 := by have := g1.symm.trans hf'; simp at this; exact this.1.symm
      rw [hfo] at hown2
      rw [← e1]; exact Option.some.inj (hown.symm.trans hown2)
    have h6 := u_fits hfc hkC hkind (Or.inr hlay) g1 (fTy_s hfi) hn hfit
    rw [← c4] at h6
    exact W.putFinK hx rfl hown (tg hC hW args hlk) g4 g2 hcf hini h6 c1 (c5 hm).1 hslot rfl rfl (dk_181 hB) fin
theorem sim_putfield {s0 : State} {a0 : Array Value} {K : KX} {own : String} {p : Program} {l : Launch} {e : Env} {d : Nat} {s : State} {m : MethodId} {args : Array Value} {below : List Frame} {meth : Method} {c : Code} {M : Nat} {hS hE : PH} {o : Ot} {Ω : Om} {κ μ : List (Nat × Int)} {ini : Bool} {cf : Nat → List PV → PH → Rs} {k : Kt} (hx : p.tables.exec = Jvm.exec) (hC : CX s0 a0 K) (hW : s0.WarmedH s.vm) (hown : s.vm.findClass own = some m.cls) (hP : ∀ q ∈ (nth Ω 1).getD [], q.2 ∈ iFs ∧ PLk own q.1 q.2) (hF : ∀ q ∈ (nth Ω 2).getD [], q.2 ∈ iFs ∧ PFk own q.1 q.2) (hini : ini = true → meth.name = "<init>") (hkk : SimK s0 K p l e d s m args below meth c hS hE o M k) (f : Nat) : StepOK s0 K p l e d s m args below meth c hS hE o M Ω κ μ ini cf k (.putfield f) := by
  intro b len pc lp st h H ls locs hck hln hB he hlen hL hwl hws hR hG hfr
  have hm := f0_s hck hln
  simp only [List.mem_cons, List.not_mem_nil, or_false] at hm
  have hlk : ∃ y y2 l', b = 181 :: y :: y2 :: l' ∧ len = 3 ∧ f ∈ iFs ∧ (PLk own (y * 256 + y2) f ∨ PFk own (y * 256 + y2) f ∧ meth.name = "<init>") := by
    rcases hm with hm | hm
    · obtain ⟨y, y2, l', rfl, hin, rfl⟩ := l3_s hm.symm hln
      exact ⟨y, y2, l', rfl, rfl, (hP _ hin).1, Or.inl (hP _ hin).2⟩
    · obtain ⟨hi, hm⟩ := cond_s hm.symm hln
      obtain ⟨y, y2, l', rfl, hin, rfl⟩ := l3_s hm hln
      exact ⟨y, y2, l', rfl, rfl, (hF _ hin).1, Or.inr ⟨(hF _ hin).2, hini hi⟩⟩
  obtain ⟨y0, y2, l', rfl, rfl, hfi, hlk⟩ := hlk
  rcases st with _ | ⟨y | ⟨y | ⟨y | y⟩⟩, _ | ⟨x | ⟨x | ⟨x | x⟩⟩, st⟩⟩ <;> first | exact no_e (show (none : Rs) = some (o, hE) from he) | skip
  · have he : gd (inT (f / 4 % 128) (f / 512 % 128) (hc h x)) (match f % 4 with
      | 0 => k (pc + 3) lp st (pI h f x y)
      | 3 => gd (y = 0 ∨ y = 1) (k (pc + 3) lp st (pI h f x y))
      | _ => none) = some (o, hE) := he
    obtain ⟨hg, he⟩ := gd_some he
    rcases fk_lt f with e4 | e4 | e4 | e4 <;> rw [e4] at he <;> first | exact no_e (show (none : Rs) = some (o, hE) from he) | skip
    · have he : k (pc + 3) lp st (pI h f x y) = some (o, hE) := he
      refine put_go (v := vI y) (h' := pI h f x y) hx hC hW hown hB hR hfi hg (by unfold okV; rw [e4]; exact hws.hd) hlk (fun hz => same_pI hz) (by unfold fv rdF; rw [e4, gI_pI]; rfl) (wf_pI hR.wf hws.hd) (fun H' locs' hR' hloc => ?_)
      have hw := hkk _ _ _ _ _ ls _ he hlen hL hwl hws.tl.tl hR' (ge_same rfl rfl hG) (fun q hq => (hloc q hq).elim (hfr q) id)
      exact hw
    · have he : gd (y = 0 ∨ y = 1) (k (pc + 3) lp st (pI h f x y)) = some (o, hE) := he
      obtain ⟨h01, he⟩ := gd_some he
      refine put_go (v := vI y) (h' := pI h f x y) hx hC hW hown hB hR hfi hg (by unfold okV; rw [e4]; exact h01) hlk (fun hz => same_pI hz) (by unfold fv rdF; rw [e4, gI_pI]; rcases h01 with rfl | rfl <;> rfl) (wf_pI hR.wf hws.hd) (fun H' locs' hR' hloc => ?_)
      have hw := hkk _ _ _ _ _ ls _ he hlen hL hwl hws.tl.tl hR' (ge_same rfl rfl hG) (fun q hq => (hloc q hq).elim (hfr q) id)
      exact hw
  · have he : gd (inT (f / 4 % 128) (f / 512 % 128) (hc h x)) (match f % 4 with
      | 1 => k (pc + 3) lp st (pJ h f x y)
      | _ => none) = some (o, hE) := he
    obtain ⟨hg, he⟩ := gd_some he
    rcases fk_lt f with e4 | e4 | e4 | e4 <;> rw [e4] at he <;> first | exact no_e (show (none : Rs) = some (o, hE) from he) | skip
    have he : k (pc + 3) lp st (pJ h f x y) = some (o, hE) := he
    refine put_go (v := vJ y) (h' := pJ h f x y) hx hC hW hown hB hR hfi hg (by unfold okV; rw [e4]; exact hws.hd) hlk (fun hz => same_pJ hz) (by unfold fv rdF; rw [e4, gJ_pJ]; rfl) (wf_pJ hR.wf hws.hd) (fun H' locs' hR' hloc => ?_)
    have hw := hkk _ _ _ _ _ ls _ he hlen hL hwl hws.tl.tl hR' (ge_same rfl rfl hG) (fun q hq => (hloc q hq).elim (hfr q) id)
    exact hw
  · have he : gd (inT (f / 4 % 128) (f / 512 % 128) (hc h x)) (match f % 4 with
      | 2 => k (pc + 3) lp st (pR h f x y)
      | _ => none) = some (o, hE) := he
    obtain ⟨hg, he⟩ := gd_some he
    rcases fk_lt f with e4 | e4 | e4 | e4 <;> rw [e4] at he <;> first | exact no_e (show (none : Rs) = some (o, hE) from he) | skip
    have he : k (pc + 3) lp st (pR h f x y) = some (o, hE) := he
    refine put_go (v := vR y) (h' := pR h f x y) hx hC hW hown hB hR hfi hg (by unfold okV; rw [e4]; trivial) hlk (fun hz => same_pR hz) (by unfold fv rdF; rw [e4, gR_pR]; rfl) (wf_pR hR.wf) (fun H' locs' hR' hloc => ?_)
    have hw := hkk _ _ _ _ _ ls _ he hlen hL hwl hws.tl.tl hR' (ge_same rfl rfl hG) (fun q hq => (hloc q hq).elim (hfr q) id)
    exact hw
