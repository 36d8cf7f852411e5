/-! THE CLAIM OUT OF A RUN OF THE PURE MACHINE -/
set_option maxRecDepth 100000
def LAWM : Nat := 176685057
theorem F_law {l : Launch} {s0 : State} {a0 : Array Value} {K : KX} (hC : CX s0 a0 K) (hl0 : l.stackTraces = false) (hN : NCs s0) (hX : NXs s0) {mi : Nat} (hMi : va_Mi "[Ljava/lang/Object;" mi s0) {d : Nat} {av : List PV} {h h' : PH} {o : Ot} (hF : F (d + 1) LAWM av h = some (o, h')) (hav : WFv av) (hc1 : hk h ≤ cLim) (hs1 : hs h ≤ sLim) :
    MetG l (mNm LAWM) [wM LAWM] (RM (d + 1) h) (PE s0 K av h) (QE s0 K h o h') (hk h' - hk h) (hs h' - hs h) (fr0 s0) := by
  have ih := F_ok (l := l) hC globOK (hMeth hN) (catchOK hC hX) (copyOK hC globOK) (excOK hl0 hC) (primOK hC globOK hMi) d
  have hF1 : cond (Nat.ble (entL av).length (mxM LAWM)) (FA (F d) LAWM 0 (padL (mxM LAWM) (entL av)) [] h) none = some (o, h') := hF
  cases hq : Nat.ble (entL av).length (mxM LAWM) with
  | false => rw [hq] at hF1; exact no_e hF1
  | true =>
  rw [hq] at hF1
  have hle := Nat.ble_eq.mp hq
  have hF2 : FA (F d) LAWM 0 (padL (mxM LAWM) (entL av)) [] h = some (o, h') := hF1
  obtain ⟨n, hn⟩ := FA_iff.mp hF2
  obtain ⟨Ω, κ, μ, ini, rc, cc, ret, hh, hO, hini, hrt, hrows, hpl, hwm⟩ := mt_law hN
  refine MetG.ofW (cc := cc) (maxL := mxM LAWM) (ret := ret) hpl ?_ ?_
  · intro args s m hws hnm
    have hw := hws _ List.mem_cons_self
    rcases hwm with ⟨e1, -, -⟩ | e1
    · have hw : (Cond.code (mNm LAWM) cc (mxM LAWM) ret).before args s = true := e1 ▸ hw
      obtain ⟨meth, c, g1, g2, g3, g4, g5, g6, -, -⟩ := Cond.code_spec hnm hw
      exact ⟨meth, c, g1, g2, g3, g4, g5, g6⟩
    · have hw : (Cond.codeWith (mNm LAWM) cc (mxM LAWM) ret hh).before args s = true := e1 ▸ hw
      obtain ⟨m', meth, c, g0, g1, g2, g3, g4, -, g5, g6, -⟩ := Cond.codeWith_spec hw
      cases hnm.symm.trans g0
      exact ⟨meth, c, g1, g2, g3, g4, g5, g6⟩
  · intro p e s m args below meth c s₁ B hml hP
    obtain ⟨rfl, hR, hW⟩ := hP
    have hx := B.exec
    have hown : s.vm.findClass (mNm LAWM).cls = some m.cls := findClass_of_methodNamed B.named
    have hlocks := B.notSynchronized
    have hw := atoms_spec (ws := [wM LAWM]) B.pre _ List.mem_cons_self
    have hcode : meth.code = some c := by
      have h1 := B.here.code
      have h2 : s₁.vm.method? m = some meth := by rw [B.state]; exact B.method
      rw [State.code?_eq, h2] at h1
      exact h1
    have hmn : meth.name = (mNm LAWM).name := (name_of_methodNamed B.named B.method).1
    have hbc : c.code = cc := B.bytes
    have hthr : ∀ k, SimK s0 K p l e (d + 1) s m ((av.map cv).toArray) below meth c h h' o LAWM k → ThrOK s0 K p l e (d + 1) s m ((av.map cv).toArray) below meth c h h' o LAWM k := by
      intro k hk
      rcases hwm with ⟨e1, e2, -⟩ | e1
      · have hnt : c.exceptionTable.toList = [] := by
          have hw : (Cond.code (mNm LAWM) cc (mxM LAWM) ret).before ((av.map cv).toArray) s = true := e1 ▸ hw
          obtain ⟨meth', c', g1, g2, -, -, -, -, g7, -⟩ := Cond.code_spec B.named hw
          cases B.method.symm.trans g1
          cases hcode.symm.trans g2
          simpa using g7
        exact ThrOK.plain hW hlocks e2 hnt
      · have hnt : c.exceptionTable.toList.map (fun h => (h.startPc, h.endPc, h.handlerPc, h.catchType)) = hh := by
          have hw : (Cond.codeWith (mNm LAWM) cc (mxM LAWM) ret hh).before ((av.map cv).toArray) s = true := e1 ▸ hw
          obtain ⟨m', meth', c', g0, g1, g2, -, -, g5, -⟩ := Cond.codeWith_spec hw
          cases B.named.symm.trans g0
          cases B.method.symm.trans g1
          cases hcode.symm.trans g2
          exact g5
        exact catchOK hC hX LAWM hh p l e (d + 1) s m _ below meth c h h' o k ⟨_, _, _, e1⟩ hx hW hown hlocks hnt hk
    have hsim : ∀ n, SimK s0 K p l e (d + 1) s m ((av.map cv).toArray) below meth c h h' o LAWM (exN (F d) LAWM n) := by
      intro n
      induction n with
      | zero => intro pc lp st h1 H ls locs he; cases he
      | succ n ihn =>
        exact sim_step hx hC hW hown hlocks hml globOK hO (fun q => hmn.trans (hini q)) (by rw [B.returns]; exact hrt) (hbc ▸ hrows) ih ihn (hthr _ ihn) (copyOK hC globOK _ p l e d s m _ below meth c LAWM h h' o Ω κ μ ini _ hx hW hown hml hO ihn) (excOK hl0 hC _ p e d s m _ below meth c LAWM h h' o Ω κ μ ini _ hx hW hown hml hO hR ihn)
    rw [lg_entry_eq]
    have h9 := hsim n 0 (padL (mxM LAWM) (entL av)) [] h s.heap _ [] hn (pad_len hle) (ent_LV hle) (pad_wf hle hav) (fun v hv => by cases hv) hR ⟨Nat.le_refl _, Nat.le_refl _, hc1, hs1⟩ (fun q hq => by cases hq)
    refine W.cs ?_ ?_ h9
    · rw [Nat.sub_self]
    · rw [Nat.sub_self]
/-- what is left: from every start the pure machine answers 1 -/
def PureLaw : Prop := ∀ (s : State) (b L : Nat) (xs : Nat → Int32), Giv s b L xs → ∃ h', F 2040 LAWM [vR (b + 1)] (hS0 s b) = some (.inl (some (vI 1)), h')
theorem room_mono {s : State} {pl : Platform} {r r' : Room} (h1 : r.frames ≤ r'.frames) (h2 : r.locals ≤ r'.locals) (h3 : r.cells ≤ r'.cells) (h4 : r.slots ≤ r'.slots) (h : s.hasRoom pl r' = true) : s.hasRoom pl r = true := by
  simp only [State.hasRoom, Bool.and_eq_true, decide_eq_true_eq] at h ⊢
  obtain ⟨⟨⟨⟨y, a, b, c, d, e⟩, f⟩, g⟩, i⟩ := h
  exact ⟨⟨⟨⟨by omega, by omega, by omega, by omega, by omega, e⟩, by omega⟩, by omega⟩, i⟩
def lw_P (b : Addr) (xs : List Int32) (args : Array Value) (s : State) : Prop := args = #[.ref b] ∧ s.IntsAt b xs ∧ xs.length ≤ 320 ∧ (Jvm.Cond.and given_1 narrow_1).before args s = true
def lw_Q (_ : Array Value) (s : State) (o : Outcome) (t : State) : Prop := o = .returned (some (.int 1)) ∧ Framed s o t [] 600384 7289322
theorem lw_walk (HP : PureLaw) (l : Launch) (hl0 : l.stackTraces = false) (b : Addr) (xs : List Int32) : MetFree l x (headSpec (Jvm.Cond.code x code maxLocals ret :: tables_1) room_1) (lw_P b xs) (fun _ _ _ _ _ => True) lw_Q := by
  intro p e ha hcs hck s m args below hfr happ hP hK
  obtain ⟨rfl, hx, hbd, hgv⟩ := hP
  obtain ⟨scr, harrAt, hlist, hof, hsmall⟩ := hx
  obtain ⟨hcb, hkn, -, -⟩ := State.arrayAt?_spec harrAt
  obtain ⟨a1, a2, a3, a4, a5, a6, a7, a8⟩ := (Spec.appliesLoose_iff hfr).mp happ
  have hts0 : ∀ c ∈ (Jvm.Cond.code x code maxLocals ret :: tables_1), c.before #[Value.ref b] s = true := atoms_spec (ws := Jvm.Cond.code x code maxLocals ret :: tables_1) a8
  have hts : ∀ w ∈ lw_tbl, w.before #[Value.ref b] s = true := k2_hts_sels lw_privs (fun w hw => hts0 w (List.mem_cons_of_mem _ hw)) lw_privs_ok
  have hsz : scr.slots.size = xs.length := by rw [← Array.length_toList, hlist, List.length_map]
  have hval : ∀ j : Nat, j < xs.length → scr.slots[j]? = some (.int (xs.getD j 0)) := fun j hj => by
    rw [← Array.getElem?_toList, hlist]
    simp [hj]
  have G : Giv s b xs.length (fun j => xs.getD j 0) := ⟨hts, nrw_s hgv, ⟨scr, hcb, hof, hkn, hsz, hval⟩, hbd⟩
  obtain ⟨h', hF⟩ := HP s b _ _ G
  obtain ⟨mi, hMi⟩ := miS G
  have hM := F_law (l := l) (cxS G) hl0 (ncs_of G.2.1) (nxs_of G.2.1) hMi (d := 2039) hF (fun v hv => by rw [List.mem_singleton.mp hv]; trivial) (Nat.zero_le _) (Nat.zero_le _)
  obtain ⟨n, o, w1, w2, w3, ⟨⟨q1, q2, q3, q4, q5⟩, L, ⟨e1, e2⟩, hL⟩⟩ := hM p e ha hcs hck s m #[Value.ref b] below hfr
    ((Spec.appliesLoose_iff hfr).mpr ⟨a1, a2, a3, a4, a5, a6, room_mono (r' := room_1) (r := RM (2039 + 1) (hS0 s b)) (show 2039 + 1 + 8 ≤ 2048 by decide) (show 46 * (2039 + 1) + 400 ≤ 94400 by decide) (show cLim - 0 ≤ 600384 by decide) (show sLim - 0 ≤ 7289322 by decide) a7, atoms_intro fun w hw => by rw [List.mem_singleton.mp hw]; exact hts0 _ List.mem_cons_self⟩) ⟨rfl, repS G, State.WarmedH.refl s⟩ trivial
  have hk0 : hk (hS0 s b) = 0 := rfl
  have hs0 : hs (hS0 s b) = 0 := rfl
  have g3 : hk h' ≤ 600384 := q4.2.2.1
  have g4 : hs h' ≤ 7289322 := q4.2.2.2
  refine ⟨n, o, w1, w2, w3, q1, ⟨_, q1⟩, e1, ?_⟩
  obtain ⟨z1, z2, z3, z4, z5, z6⟩ := e2
  refine ⟨z1, z2, by omega, z4, by omega, fun a c hac => ?_⟩
  obtain ⟨c', y1, y2, y3, y4⟩ := z6 a c hac
  refine ⟨c', y1, y2, y3, fun i _ => y4 i fun hin => ?_⟩
  have h1 : s.heap.size ≤ a := hL _ hin
  have h2 := (Array.getElem?_eq_some_iff.mp hac).1
  omega
theorem lw_pre_spec {args : Array Value} {s : State} (h : (Jvm.Cond.and given_1 narrow_1).before args s = true) (hr : rest_1_c.before args s = true) : ∃ (b : Addr) (xs : List Int32), lw_P b xs args s := by
  have hs := flat_of_before _ h
  have hq := flat_of_before _ hr
  have hc : (Cond.count 1).before args s = true := hs _ (by decide +kernel)
  have harr : (Cond.arrayOf (.arg 0) .int).before args s = true := hs _ (by decide +kernel)
  have hle : (Cond.le (.length (.arg 0)) (.int 320)).before args s = true := hs _ (by decide +kernel)
  have hlen : (Cond.isInt (.length (.arg 0))).before args s = true := hq _ (by decide +kernel)
  have hall : (Cond.all (.arg 0) (.isInt (.elem (.arg 0) (.index 0)))).before args s = true := hq _ (by decide +kernel)
  obtain ⟨b, xs, hb, hx⟩ := State.ints_of_pre rfl harr hlen hall
  have hsm : xs.length < 2 ^ 31 := hx.choose_spec.2.2.2
  have hev : (Term.length (.arg 0)).eval args s none [] s = some (.int xs.length.toInt32) := hx.length_eval hb
  have hv := Cond.le_ints hev (show (Term.int 320).eval args s none [] s = some (.int 320) from rfl)
  have hd : xs.length.toInt32 ≤ 320 := by
    simpa [Cond.before, Cond.holds, hv] using hle
  have hN : xs.length ≤ 320 := (Int32.ofNat_le_ofNat hsm (by decide)).mp (show Int32.ofNat xs.length ≤ Int32.ofNat 320 from hd)
  exact ⟨b, xs, Cond.one_arg hc (show args[0]? = some (.ref b) from hb), hx, hN, h⟩
theorem lw_comes (HP : PureLaw) (l : Launch) (hl0 : l.stackTraces = false) : Comes l x (Jvm.Cond.code x code maxLocals ret :: tables_1) room_1 (fun tb e args s => Calls_1 tb e args s ∧ rest_1 tb e args s ∧ Pre_1 tb e args s)
    (fun _ _ args s o t => lw_Q args s o t) := by
  intro p e ha hc hk s m args below hf hfit hheap happ hpre
  obtain ⟨b, xs, hP⟩ := lw_pre_spec hpre.2.2 hpre.2.1
  obtain ⟨k, o, h1, h2, h3, hQ⟩ := lw_walk HP l hl0 b xs p e ha hc hk s m args below hf ((Spec.applies_iff_loose hf).mp happ).1 hP trivial
  exact ⟨k, o, h1, h2, h3, hQ⟩
theorem lw_limb (HP : PureLaw) (L : Cond) (hL : ∀ (args : Array Value) (s t : State), L.after args s (.returned (some (.int 1))) t = true) :
    ArmFor flags0 classFile x code maxLocals ret World_1 tables_1 room_1 Calls_1 rest_1 Pre_1
      (fun tb e a s o t => postC L tb e a s o t ∧ Framed s o t (fieldLocs frame_1_writes a s ++ arrayLocs frame_1_arrays a s ++ staticLocs frame_1_statics s) 600384 7289322) := by
  intro l hfl _ _ p e ha hc hk s m args below hf hfit hheap happ hpre
  have hl0 : l.stackTraces = false := by
    unfold Launch.stackTraces
    rw [hfl]
    decide +kernel
  obtain ⟨k, o, h1, h2, h3, rfl, hF⟩ := lw_comes HP l hl0 p e ha hc hk s m args below hf hfit hheap happ hpre
  exact ⟨k, _, h1, h2, h3, hL args s _, hF⟩
/-- THE CLAIM, OUT OF PureLaw -/
theorem claim_of (HP : PureLaw) : Claimed_1_1 ∧ Claimed_1_2 := ⟨lw_limb HP limb_1_1 (fun args s t => by simp [limb_1_1, Cond.after, Cond.holds, Cond.value]), lw_limb HP limb_1_2 (fun args s t => Cond.after_iff.mpr (by
  first | (rw [show limb_1_2 = Cond.eq .result (.int 1) from rfl, Cond.eq_ints (x := 1) (y := 1) rfl rfl]; simp; done) | (simp [limb_1_2, Cond.value, Term.eval]; done)))⟩
