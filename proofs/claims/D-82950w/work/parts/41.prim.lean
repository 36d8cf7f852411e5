/-! Arrays.copyOf(Object[], int) (printed by gen/prim.py) -/
set_option maxRecDepth 100000
abbrev gcN : MethodName := ⟨"java/lang/Object", "getClass", "()Ljava/lang/Class;"⟩
abbrev c2N : MethodName := ⟨"java/util/Arrays", "copyOf", "([Ljava/lang/Object;I)[Ljava/lang/Object;"⟩
abbrev c3N : MethodName := ⟨"java/util/Arrays", "copyOf", "([Ljava/lang/Object;ILjava/lang/Class;)[Ljava/lang/Object;"⟩
abbrev c2W : Cond := .code c2N prog_82_method_119_code 2 (some (.array (.object "java/lang/Object")))
abbrev c3W : Cond := .code c3N prog_82_method_120_code 4 (some (.array (.object "java/lang/Object")))
theorem cw86 {s0 s : State} {a0 : Array Value} {K : KX} (hC : CX s0 a0 K) (hW : s0.WarmedH s.vm) (A : Array Value) : (Cond.methodLink "java/util/Arrays" 86 gcN).before A s = true := tg hC hW A (lw_g (lw_at lw_m6 62 rfl) rfl)
theorem cwdc {s0 s : State} {a0 : Array Value} {K : KX} (hC : CX s0 a0 K) (hW : s0.WarmedH s.vm) (A : Array Value) : (Cond.declares gcN).before A s = true := va_Nw.use rfl (tde hC hW (lw_at lw_m25 230 rfl))
theorem cwsel {s0 s : State} {a0 : Array Value} {K : KX} (hC : CX s0 a0 K) (hW : s0.WarmedH s.vm) (A : Array Value) : (Cond.selects "[Ljava/lang/Object;" gcN gcN).before A s = true := tg hC hW A (lw_g (lw_at lw_m25 229 rfl) rfl)
theorem cwins {s0 s : State} {a0 : Array Value} {K : KX} (hC : CX s0 a0 K) (hW : s0.WarmedH s.vm) (A : Array Value) : (Cond.instanceMethod gcN).before A s = true := tg hC hW A (lw_g (lw_at lw_m6 63 rfl) rfl)
theorem cwnat {s0 s : State} {a0 : Array Value} {K : KX} (hC : CX s0 a0 K) (hW : s0.WarmedH s.vm) (A : Array Value) : (Cond.native gcN).before A s = true := tg hC hW A (lw_g (lw_at lw_m6 120 rfl) rfl)
theorem cw300 {s0 s : State} {a0 : Array Value} {K : KX} (hC : CX s0 a0 K) (hW : s0.WarmedH s.vm) (A : Array Value) : (Cond.methodLink "java/util/Arrays" 300 c3N).before A s = true := tg hC hW A (lw_g (lw_at lw_m6 121 rfl) rfl)
theorem cwst3 {s0 s : State} {a0 : Array Value} {K : KX} (hC : CX s0 a0 K) (hW : s0.WarmedH s.vm) (A : Array Value) : (Cond.static c3N).before A s = true := tg hC hW A (lw_g (lw_at lw_m6 122 rfl) rfl)
theorem cwini {s0 s : State} {a0 : Array Value} {K : KX} (hC : CX s0 a0 K) (hW : s0.WarmedH s.vm) (A : Array Value) : (Cond.initialized "java/util/Arrays").before A s = true := tg hC hW A (lw_g (lw_at lw_m1 22 rfl) rfl)
theorem cwc3 {s0 s : State} {a0 : Array Value} {K : KX} (hC : CX s0 a0 K) (hW : s0.WarmedH s.vm) (A : Array Value) : (c3W).before A s = true := tg hC hW A (lw_g (lw_at lw_m6 123 rfl) rfl)
theorem cw2 {s0 s : State} {a0 : Array Value} {K : KX} (hC : CX s0 a0 K) (hW : s0.WarmedH s.vm) (A : Array Value) : (Cond.classLink "java/util/Arrays" 2 "java/lang/Object").before A s = true := tg hC hW A (lw_g (lw_at lw_m6 125 rfl) rfl)
theorem cw110 {s0 s : State} {a0 : Array Value} {K : KX} (hC : CX s0 a0 K) (hW : s0.WarmedH s.vm) (A : Array Value) : (Cond.classLink "java/util/Arrays" 110 "[Ljava/lang/Object;").before A s = true := tg hC hW A (lw_g (lw_at lw_m6 124 rfl) rfl)
theorem cwov {s0 s : State} {a0 : Array Value} {K : KX} (hC : CX s0 a0 K) (hW : s0.WarmedH s.vm) (A : Array Value) : (Cond.arrayOver (.object "java/lang/Object")).before A s = true := tao hC hW A (lw_at lw_m2 16 rfl)
theorem cw304 {s0 s : State} {a0 : Array Value} {K : KX} (hC : CX s0 a0 K) (hW : s0.WarmedH s.vm) (A : Array Value) : (Cond.methodLink "java/util/Arrays" 304 Lib.Math.min.name).before A s = true := tg hC hW A (lw_g (lw_at lw_m2 133 rfl) rfl)
theorem cwmst {s0 s : State} {a0 : Array Value} {K : KX} (hC : CX s0 a0 K) (hW : s0.WarmedH s.vm) (A : Array Value) : (Cond.static Lib.Math.min.name).before A s = true := tg hC hW A (lw_g (lw_at lw_m2 134 rfl) rfl)
theorem cwmin {s0 s : State} {a0 : Array Value} {K : KX} (hC : CX s0 a0 K) (hW : s0.WarmedH s.vm) (A : Array Value) : (Cond.initialized "java/lang/Math").before A s = true := tg hC hW A (lw_g (lw_at lw_m1 21 rfl) rfl)
theorem cwmcd {s0 s : State} {a0 : Array Value} {K : KX} (hC : CX s0 a0 K) (hW : s0.WarmedH s.vm) (A : Array Value) : (Cond.code Lib.Math.min.name Lib.Math.min.code 2 (some .int)).before A s = true := tg hC hW A (lw_g (lw_at lw_m2 135 rfl) rfl)
theorem cwac : ACk "java/util/Arrays" 150 := ⟨lw_g (lw_at lw_m2 136 rfl) rfl, lw_g (lw_at lw_m2 138 rfl) rfl, lw_g (lw_at lw_m2 137 rfl) rfl, lw_g (lw_at lw_m1 23 rfl) rfl⟩
theorem c3d0 : decode prog_82_method_120_code 0 = .ok (.aload_n 2, 1) := by decide +kernel
theorem c3d1 : decode prog_82_method_120_code 1 = .ok (.ldc 110, 2) := by decide +kernel
theorem c3d3 : decode prog_82_method_120_code 3 = .ok (.if_acmp .ne 10, 3) := by decide +kernel
theorem c3d6 : decode prog_82_method_120_code 6 = .ok (.iload_n 1, 1) := by decide +kernel
theorem c3d7 : decode prog_82_method_120_code 7 = .ok (.anewarray 2, 3) := by decide +kernel
theorem c3d10 : decode prog_82_method_120_code 10 = .ok (.goto 14, 3) := by decide +kernel
theorem c3d24 : decode prog_82_method_120_code 24 = .ok (.astore_n 3, 1) := by decide +kernel
theorem c3d25 : decode prog_82_method_120_code 25 = .ok (.aload_n 0, 1) := by decide +kernel
theorem c3d26 : decode prog_82_method_120_code 26 = .ok (.iconst 0, 1) := by decide +kernel
theorem c3d27 : decode prog_82_method_120_code 27 = .ok (.aload_n 3, 1) := by decide +kernel
theorem c3d28 : decode prog_82_method_120_code 28 = .ok (.iconst 0, 1) := by decide +kernel
theorem c3d29 : decode prog_82_method_120_code 29 = .ok (.aload_n 0, 1) := by decide +kernel
theorem c3d30 : decode prog_82_method_120_code 30 = .ok (.arraylength, 1) := by decide +kernel
theorem c3d31 : decode prog_82_method_120_code 31 = .ok (.iload_n 1, 1) := by decide +kernel
theorem c3d32 : decode prog_82_method_120_code 32 = .ok (.invokestatic 304, 3) := by decide +kernel
theorem c3d35 : decode prog_82_method_120_code 35 = .ok (.invokestatic 150, 3) := by decide +kernel
theorem c3d38 : decode prog_82_method_120_code 38 = .ok (.aload_n 3, 1) := by decide +kernel
theorem c3d39 : decode prog_82_method_120_code 39 = .ok (.areturn, 1) := by decide +kernel
theorem c2d0 : decode prog_82_method_119_code 0 = .ok (.aload_n 0, 1) := by decide +kernel
theorem c2d1 : decode prog_82_method_119_code 1 = .ok (.iload_n 1, 1) := by decide +kernel
theorem c2d2 : decode prog_82_method_119_code 2 = .ok (.aload_n 0, 1) := by decide +kernel
theorem c2d3 : decode prog_82_method_119_code 3 = .ok (.invokevirtual 86, 3) := by decide +kernel
theorem c2d6 : decode prog_82_method_119_code 6 = .ok (.invokestatic 300, 3) := by decide +kernel
theorem c2d9 : decode prog_82_method_119_code 9 = .ok (.areturn, 1) := by decide +kernel
abbrev cpN (h : PH) (a : Nat) (n : Int) : Int := if n < hl h (a + 1) then n else hl h (a + 1)
abbrev cpH (h : PH) (a : Nat) (n : Int) : PH := aC (nA h 71 n) (a + 1) 0 (hn h) 0 (cpN h a n)
abbrev R3 (h : PH) : Room := { frames := 5, cells := cLim - hk h, slots := sLim - hs h, locals := 200 }
theorem hc_nAo {h : PH} {t r : Nat} {n : Int} (hr : r ≠ hn h) : hc (nA h t n) r = hc h r := by
  show up1 (hc h) (hn h) t r = _
  unfold up1; rw [if_neg hr]
theorem hl_nAo {h : PH} {t r : Nat} {n : Int} (hr : r ≠ hn h) : hl (nA h t n) r = hl h r := by
  show up1 (hl h) (hn h) n r = _
  unfold up1; rw [if_neg hr]
theorem okE_nA {s0 : State} {K : KX} {h : PH} {H : Heap} (hR : Rep s0 K h H) {t v : Nat} {n : Int} (hv : okE h 71 v) : okE (nA h t n) 71 v := by
  by_cases e : v = hn h
  · have h0 : hc h v = 0 := by rw [e]; exact hR.fresh _ (Nat.le_refl _)
    rcases hv with h1 | ⟨-, h1⟩ | ⟨h1, -⟩ | ⟨h1, -⟩ | ⟨h1, -⟩
    · exact Or.inl h1
    · rcases h1 with ⟨h1, -⟩ | h1 <;> omega
    · omega
    · omega
    · omega
  · unfold okE at hv ⊢
    rw [hc_nAo e]
    exact hv
theorem cp_len {h : PH} {a : Nat} {n : Int} (h0 : 0 ≤ n) (h1 : 0 ≤ hl h (a + 1)) : 0 ≤ cpN h a n ∧ cpN h a n ≤ n ∧ cpN h a n ≤ hl h (a + 1) := by
  unfold cpN
  split <;> omega
set_option maxHeartbeats 2000000 in
theorem c3_met {l : Launch} {s0 : State} {a0 : Array Value} {K : KX} (hC : CX s0 a0 K) (hGl : GlobOK) {mi : Nat} (hMi : va_Mi "[Ljava/lang/Object;" mi s0) {a : Nat} {n : Int} {h : PH} (hn32 : in32 n) (hg : (hc h (a + 1) = 71 ∨ kc h (a + 1) = 72) ∧ rmA h n ∧ okAll h (a + 1) 0 (cpN h a n).toNat) :
    MetG l c3N [c3W] (R3 h) (fun A U => A = #[.ref a, .int (Int32.ofInt n), .ref mi] ∧ Rep s0 K h U.heap ∧ s0.WarmedH U.vm) (QE s0 K h (.inl (some (vR (hn h)))) (cpH h a n)) 1 n.toNat (fr0 s0) := by
  obtain ⟨hg1, hg2, hg3⟩ := hg
  refine MetG.ofW (cc := prog_82_method_120_code) (maxL := 4) (ret := some (.array (.object "java/lang/Object"))) (by decide +kernel) ?_ ?_
  · intro args s m hws hnm
    obtain ⟨meth, c, g1, g2, g3, g4, g5, g6, -, -⟩ := Cond.code_spec hnm (hws _ List.mem_cons_self)
    exact ⟨meth, c, g1, g2, g3, g4, g5, g6⟩
  · intro p e s m args below meth c s₁ B hml hP
    obtain ⟨rfl, hR, hW⟩ := hP
    have hx := B.exec
    have hown : s.vm.findClass "java/util/Arrays" = some m.cls := findClass_of_methodNamed B.named
    have hlocks := B.notSynchronized
    have hb : c.code = prog_82_method_120_code := B.bytes
    have hM : va_Mi "[Ljava/lang/Object;" mi s := va_Mi.moved hW.alike hMi
    have hHn : s.heap.size + 1 = hn h := hR.1
    have hsl : sLim = 7289322 := rfl
    have hcl : cLim = 600384 := rfl
    have e9 := tcn hg2.1 hn32.2
    have hane : a + 1 ≠ hn h := by
      intro q
      rcases hg1 with z | z
      · have := hR.fresh (a + 1) (by omega); omega
      · have := (hR.2.2.2.2.1.2 (a + 1) (by omega)).1; have := hR.2.2.2.2.2.2; omega
    have hka : kc (nA h 71 n) (a + 1) = kc h (a + 1) := rfl
    have hca : hc (nA h 71 n) (a + 1) = hc h (a + 1) := hc_nAo hane
    have hla : hl (nA h 71 n) (a + 1) = hl h (a + 1) := hl_nAo hane
    have hwl := (hR.wf).2.2.2.2 (a + 1)
    have hcp := cp_len (h := h) (a := a) hg2.1 hwl.1
    have e0 : entryFrame m #[Value.ref a, .int (Int32.ofInt n), .ref mi] 4 = F0 m 0 #[.val (.ref a), .val (.int (Int32.ofInt n)), .val (.ref mi), .unset] [] := rfl
    rw [e0]
    have hL0 : lv_has #[.val (.ref a), .val (.int (Int32.ofInt n)), .val (.ref mi), .unset] 4 [(0, .ref a), (1, .int (Int32.ofInt n)), (2, .ref mi)] := lv_entry [.ref a, .int (Int32.ofInt n), .ref mi] (n := 4) (show 3 ≤ 4 by decide)
    refine lv_aload_n (i := 2) (x := mi) hx hb c3d0 rfl rfl ?_
    refine va_ldcM hx hb hown (cw110 hC hW _) hM c3d1 ?_
    refine lv_acmp_ne (rx := some mi) (ry := some mi) (rest := []) hx hb c3d3 (tgt := 13) rfl (fun q => absurd rfl q) (fun _ => ?_)
    refine lv_iload_n (i := 1) (x := Int32.ofInt n) hx hb c3d6 rfl rfl ?_
    refine W.anew hx hb hown (cw2 hC hW _) (cwov hC hW _) rfl c3d7 rfl (fun q => by have := (c_lt0 hn32).mp q; have := hg2.1; omega) (by rw [e9]; have := hg2.2.2; omega) (by show 0 + 1 ≤ cLim - hk h; have := hg2.2.1; omega) (by rw [e9]; show 0 + n.toNat ≤ sLim - hs h; have := hg2.2.2; omega) (fun cA kA comp h1 h2 h3 h4 => ?_)
    have hR2 : Rep s0 K (nA h 71 n) (s.heap.push _) := rep_nA (cell := { cls := cA, slots := Array.replicate (Int32.ofInt n).toNatClampNeg .null, vm := .none }) hR hg2.1 hn32.2 rfl (State.isArrayOf_alike hW.alike.symm ⟨fun k h => (by cases h), kA, h2, comp, h3⟩) rfl (va_RA.moved hW.alike.symm ⟨kA, comp, h2, h3, h4, h1⟩) (by rw [e9]; rfl)
    have hcn : hc (nA h 71 n) (s.heap.size + 1) = 71 := by rw [hHn]; exact hc_nA
    have hln : hl (nA h 71 n) (s.heap.size + 1) = n := by rw [hHn]; exact hl_nA
    refine lv_goto hx hb c3d10 (tgt := 24) rfl ?_
    refine lv_astore_n hx hb c3d24 rfl hL0 (by decide) (lv' := [(3, .ref s.heap.size), (0, .ref a), (1, .int (Int32.ofInt n)), (2, .ref mi)]) rfl (fun ls hL => ?_)
    have l3 : ls[3]? = some (.val (.ref s.heap.size)) := hL.2.2 (3, .ref s.heap.size) List.mem_cons_self
    have l0 : ls[0]? = some (.val (.ref a)) := hL.2.2 (0, .ref a) (List.mem_cons_of_mem _ List.mem_cons_self)
    have l1 : ls[1]? = some (.val (.int (Int32.ofInt n))) := hL.2.2 (1, .int (Int32.ofInt n)) (List.mem_cons_of_mem _ (List.mem_cons_of_mem _ List.mem_cons_self))
    have hsize : ls.size = c.maxLocals := by rw [hml]; exact hL.1
    refine lv_aload_n hx hb c3d25 rfl l0 ?_
    refine lv_iconst hx hb c3d26 (v := Int32.ofInt 0) rfl ?_
    refine lv_aload_n hx hb c3d27 rfl l3 ?_
    refine lv_iconst hx hb c3d28 (v := Int32.ofInt 0) rfl ?_
    refine lv_aload_n hx hb c3d29 rfl l0 ?_
    obtain ⟨tt, a', ca, -, ea, c1, c2, c3, c4, c6, c5, c7⟩ := arr_any (lo := 71) (hi := 72) hR2 (by decide) (r := a + 1) (by rw [hca, hka]; omega)
    cases ea
    refine W.alen (n := Int32.ofInt (hl h (a + 1))) hx hb c1 (arr_mv hW c4) (by rw [← hla]; exact c5) rfl rfl c3d30 ?_
    refine lv_iload_n hx hb c3d31 rfl l1 ?_
    intro T hT X
    obtain ⟨vm1, X1, st1⟩ := X.mathMinV hx hown (cw304 hC hW _) (cwmst hC hW _) (cwmin hC hW _) (cwmcd hC hW _) (g := F0 m 32 ls [.int (Int32.ofInt n), .int (Int32.ofInt (hl h (a + 1))), .int (Int32.ofInt 0), .ref s.heap.size, .int (Int32.ofInt 0), .ref a]) rfl hsize (rest := [.int (Int32.ofInt 0), .ref s.heap.size, .int (Int32.ofInt 0), .ref a]) rfl (by rw [hb]; exact c3d32) (show 1 ≤ 5 by decide) (show 2 * 0 + 4 + 13 ≤ 200 by decide) (by show 0 + 1 ≤ cLim - hk h; have := hg2.2.1; omega) (by rw [e9]; show 0 + n.toNat ≤ sLim - hs h; have := hg2.2.2; omega)
    have hmin : (if Int32.ofInt n < Int32.ofInt (hl h (a + 1)) then Int32.ofInt n else Int32.ofInt (hl h (a + 1))) = Int32.ofInt (cpN h a n) := by
      unfold cpN
      by_cases q : n < hl h (a + 1)
      · rw [if_pos ((c_lt hn32 ⟨by omega, by omega⟩).mpr q), if_pos q]
      · rw [if_neg (fun z => q ((c_lt hn32 ⟨by omega, by omega⟩).mp z)), if_neg q]
    rw [hmin] at st1
    have hcg : cpG (nA h 71 n) (a + 1) 0 (s.heap.size + 1) 0 (cpN h a n) := by
      unfold cpG
      rw [hca, hcn, hla, hln]
      refine ⟨by rw [hka]; omega, by omega, by omega, by omega, hcp.1, by omega, by omega, fun _ => ?_, fun q => by omega⟩
      refine okAll_iff.mpr fun k hk2 => ?_
      have h9 := okAll_iff.mp hg3 k hk2
      have e5 : eR (nA h 71 n) (a + 1) (0 + (k : Int)) = eR h (a + 1) (0 + (k : Int)) := by
        show (if a + 1 = hn h then 0 else eR h (a + 1) (0 + (k : Int))) = _
        rw [if_neg hane]
      rw [e5]
      exact okE_nA hR h9
    obtain ⟨vm2, U, L, hLf, X2, -, hR3, st2⟩ := copy_stand X1 hx hC hGl hW hown cwac hR2 hT (a := a) (b := s.heap.size) (i := 0) (j := 0) (n := cpN h a n) ⟨by decide, by decide⟩ ⟨by decide, by decide⟩ ⟨by omega, by omega⟩ hcg (g := F0 m 35 ls [.int (Int32.ofInt (cpN h a n)), .int (Int32.ofInt 0), .ref s.heap.size, .int (Int32.ofInt 0), .ref a]) rfl hsize (rest := []) rfl (by rw [hb]; exact c3d35) (show 1 ≤ 5 by decide) (show 2 * 0 + 0 + 18 ≤ 200 by decide)
    rw [hHn] at hR3
    rw [e9] at X2
    have hGe : Ge h (cpH h a n) := by
      refine ⟨?_, ?_, ?_, ?_⟩
      · show hk h ≤ hk h + 1; omega
      · show hs h ≤ hs h + n.toNat; omega
      · show hk h + 1 ≤ cLim; have := hg2.2.1; omega
      · show hs h + n.toNat ≤ sLim; exact hg2.2.2
    have hfin : W p l e (R3 h) s m #[Value.ref a, .int (Int32.ofInt n), .ref mi] below meth c U.heap ([] ++ L) (0 + 1) (0 + n.toNat) (MQG below (QE s0 K h (.inl (some (vR (hn h)))) (cpH h a n)) #[Value.ref a, .int (Int32.ofInt n), .ref mi] s (0 + 1) (0 + n.toNat) (fr0 s0)) (F0 m 38 ls []) := by
      refine lv_aload_n hx hb c3d38 rfl l3 ?_
      exact (W.aret hx hb B.returns (Or.inr ⟨_, rfl⟩) (Or.inr ⟨_, rfl⟩) (fun t ht hW2 => ⟨by rw [← hHn]; rfl, ht ▸ hR3, State.WarmedH.trans hW hW2, hGe, trivial⟩) (fun q hq => hLf q (by simpa using hq)) c3d39 hlocks).post (fun t h => MQG.of h)
    obtain ⟨tf, q1, q2⟩ := hfin U rfl X2
    rw [Nat.zero_add, Nat.zero_add] at q2
    exact ⟨tf, st1 tf (st2 tf q1), q2⟩
set_option maxHeartbeats 2000000 in
theorem c2_met {l : Launch} {s0 : State} {a0 : Array Value} {K : KX} (hC : CX s0 a0 K) (hGl : GlobOK) {mi : Nat} (hMi : va_Mi "[Ljava/lang/Object;" mi s0) {d a : Nat} {n : Int} {h : PH} (hn32 : in32 n) (hg : (hc h (a + 1) = 71 ∨ kc h (a + 1) = 72) ∧ rmA h n ∧ okAll h (a + 1) 0 (cpN h a n).toNat) :
    MetG l c2N [c2W] (RM (d + 1) h) (PE s0 K [vR (a + 1), vI n] h) (QE s0 K h (.inl (some (vR (hn h)))) (cpH h a n)) 1 n.toNat (fr0 s0) := by
  refine MetG.ofW (cc := prog_82_method_119_code) (maxL := 2) (ret := some (.array (.object "java/lang/Object"))) (by decide +kernel) ?_ ?_
  · intro args s m hws hnm
    obtain ⟨meth, c, g1, g2, g3, g4, g5, g6, -, -⟩ := Cond.code_spec hnm (hws _ List.mem_cons_self)
    exact ⟨meth, c, g1, g2, g3, g4, g5, g6⟩
  · intro p e s m args below meth c s₁ B hml hP
    obtain ⟨rfl, hR, hW⟩ := hP
    have hx := B.exec
    have hown : s.vm.findClass "java/util/Arrays" = some m.cls := findClass_of_methodNamed B.named
    have hlocks := B.notSynchronized
    have hb : c.code = prog_82_method_119_code := B.bytes
    have hM : va_Mi "[Ljava/lang/Object;" mi s := va_Mi.moved hW.alike hMi
    have hHn : s.heap.size + 1 = hn h := hR.1
    have hA : (List.map cv [vR (a + 1), vI n]).toArray = #[Value.ref a, .int (Int32.ofInt n)] := rfl
    rw [hA]
    have e0 : entryFrame m #[Value.ref a, .int (Int32.ofInt n)] 2 = F0 m 0 #[.val (.ref a), .val (.int (Int32.ofInt n))] [] := rfl
    rw [e0]
    have hsize : (#[.val (.ref a), .val (.int (Int32.ofInt n))] : Array Slot).size = c.maxLocals := by rw [hml]; rfl
    obtain ⟨cell, c1, c3, hcl⟩ : ∃ cell : Cell, s.heap[a]? = some cell ∧ cell.vm.isStatics = false ∧ s.vm.findClass "[Ljava/lang/Object;" = some cell.cls := by
      rcases hg.1 with e | e
      · obtain ⟨-, -, cell, q1, q2, q3, q4, q5⟩ := hR.2.2.1 (a + 1) (by omega)
        obtain ⟨a1, a2, a3, a4⟩ := q5 (by omega)
        refine ⟨cell, q1, q3, ?_⟩
        have hra := (a2.1 (by rw [e]; rfl)).2
        rw [e] at hra
        exact va_nmO (va_RA.moved hW.alike hra) rfl
      · obtain ⟨-, a', cell, ea, q1, q2, q3, q4, q5, -⟩ := con_cell hR (r := a + 1) (by omega)
        cases ea
        exact ⟨cell, q1, q3, va_nmO (va_RA.moved hW.alike (q5 e)) rfl⟩
    refine lv_aload_n (i := 0) (x := a) hx hb c2d0 rfl rfl ?_
    refine lv_iload_n (i := 1) (x := Int32.ofInt n) hx hb c2d1 rfl rfl ?_
    refine lv_aload_n (i := 0) (x := a) hx hb c2d2 rfl rfl ?_
    refine va_getC hx hb hsize.symm hown (cw86 hC hW _) (cwdc hC hW _) (cwsel hC hW _) (cwins hC hW _) (cwnat hC hW _) hM ⟨cell, c1, c3, hcl⟩ (by show 1 ≤ d + 1 + 8; omega) (by show 2 + 14 ≤ 46 * (d + 1) + 400; omega) c2d3 ?_
    intro T hT X
    have hcode3 := cwc3 hC hW #[]
    obtain ⟨mk0, hnm0⟩ := Cond.code_named hcode3
    obtain ⟨meth0, cd0, m1, m2, m3, m4, m5, m6, -, m8⟩ := Cond.code_spec hnm0 hcode3
    have hlen3 : ∀ sig, parseMethodDescriptor c3N.desc = some sig → ([.ref a, .int (Int32.ofInt n), .ref mi] : List Value).length = sig.parameters.length := by
      intro sig hs
      have e7 : parseMethodDescriptor c3N.desc = some { parameters := [.array (.object "java/lang/Object"), .int, .object "java/lang/Class"], returnType := some (.array (.object "java/lang/Object")) } := by decide +kernel
      rw [e7] at hs
      cases hs
      rfl
    obtain ⟨vm₁, mk, X1, hn1, hsteps⟩ := intoS X hx hown (cw300 hC hW _) (cwst3 hC hW _) (cwini hC hW _) (y := c3N) ⟨mk0, meth0, hnm0, m1, m8⟩ (by decide) (g := F0 m 6 #[.val (.ref a), .val (.int (Int32.ofInt n))] [.ref mi, .int (Int32.ofInt n), .ref a]) rfl (argsL := [.ref a, .int (Int32.ofInt n), .ref mi]) (rest := []) hlen3 rfl (by rw [hb]; exact c2d6)
    have hW1 : s0.WarmedH (T.setVm vm₁).vm := st_warm X1 hW
    have hcode1 := cwc3 hC hW1 #[.ref a, .int (Int32.ofInt n), .ref mi]
    obtain ⟨meth1, cd1, w1, w2, w3, w4, w5, w6, -, -⟩ := Cond.code_spec hn1 hcode1
    obtain ⟨ox, t, T', L, hq, hLf, X2, e1, e2, hret, hthr⟩ := goG (g := { F0 m 6 #[.val (.ref a), .val (.int (Int32.ofInt n))] [.ref mi, .int (Int32.ofInt n), .ref a] with stack := [] }) (mc := 1) (ms := n.toNat) (free := fr0 s0) (S := headSpec [c3W] (R3 h)) (c3_met (l := l) hC hGl hMi hn32 hg) X1 rfl hsize (by rw [hb]; exact c2d6)
      (show 2 * 0 + 0 ≤ 8 by decide) hn1 ⟨meth1, cd1, w1, w2, w4⟩ (fun kY hkY => Cond.initialized_spec (findClass_of_methodNamed hn1) hkY (cwini hC hW1 #[])) (atoms_intro fun w hw => by rw [List.mem_singleton.mp hw]; exact hcode1) (by show 5 + 1 ≤ d + 1 + 8; omega) (by show 8 + (4 + 11) + 200 ≤ 46 * (d + 1) + 400; omega)
      (by show 0 + (cLim - hk h) ≤ cLim - hk h; omega) (by show 0 + (sLim - hs h) ≤ sLim - hs h; omega) ⟨rfl, by show Rep s0 K h T.heap; rw [hT]; exact hR, hW1⟩
    obtain ⟨q1, q2, q3, q4, q5⟩ := hq
    have h9 := hret (some (rv (hn h))) q1
    have hfin : W p l e (RM (d + 1) h) s m #[Value.ref a, .int (Int32.ofInt n)] below meth c T'.heap ([] ++ L) (0 + 1) (0 + n.toNat) (MQG below (QE s0 K h (.inl (some (vR (hn h)))) (cpH h a n)) #[Value.ref a, .int (Int32.ofInt n)] s (0 + 1) (0 + n.toNat) (fr0 s0)) (F0 m 9 #[.val (.ref a), .val (.int (Int32.ofInt n))] [rv (hn h)]) :=
      (W.aret hx hb B.returns (Or.inr ⟨_, rfl⟩) (by rw [← hHn]; exact Or.inr ⟨_, rfl⟩) (fun t ht hW2 => ⟨rfl, by rw [ht, e1]; exact q2, State.WarmedH.trans hW hW2, q4, trivial⟩) (fun q hq => hLf q (by simpa using hq)) c2d9 hlocks).post (fun t h => MQG.of h)
    obtain ⟨tf, z1, z2⟩ := hfin T' rfl X2
    rw [Nat.zero_add, Nat.zero_add] at z2
    exact ⟨tf, hsteps tf (h9.trans z1), z2⟩
theorem primOK {l : Launch} {s0 : State} {a0 : Array Value} {K : KX} (hC : CX s0 a0 K) (hGl : GlobOK) {mi : Nat} (hMi : va_Mi "[Ljava/lang/Object;" mi s0) : PrimOK l s0 K := by
  intro d M av h o h' h900 hF hav hc1 hs1 hM
  have hbl : Nat.ble 900 (M / 262144) = true := Nat.ble_eq.mpr h900
  have hF : cond (Nat.ble 900 (M / 262144)) (prim (M / 262144) av h) (cond (Nat.ble (entL av).length (mxM M)) (FA (F d) M 0 (padL (mxM M) (entL av)) [] h) none) = some (o, h') := hF
  rw [hbl] at hF
  have hp : prim (M / 262144) av h = some (o, h') := hF
  clear hF
  unfold prim at hp
  split at hp
  · have e : M / 262144 - 900 = 0 := by assumption
    exfalso
    have hw : wM M = Cond.tt := by
      unfold wM
      rw [if_pos h900, e]
      rfl
    rcases hM.2.2.2.1 with ⟨b, n, r, q⟩ | ⟨b, n, r, hh, q⟩ <;> rw [hw] at q <;> cases q
  · rename_i a n e
    obtain ⟨hg, eo⟩ := gd_some hp
    cases eo
    have hn0 : mNm M = c2N := by
      unfold mNm
      rw [if_pos h900, e]
      rfl
    have hw : wM M = c2W := by
      unfold wM
      rw [if_pos h900, e]
      rfl
    have hR0 : a ≠ 0 ∨ a = 0 := by omega
    refine ⟨fun _ => ?_, fun q => ?_⟩
    · rw [hn0, hw]
      have hn32 : in32 n := hav (vI n) (by simp)
      rcases a with _ | a
      · intro p e ha hcs hk2 s m args below hfr happ hP
        exfalso
        have h0 := hP.2.1.2.1
        rcases hg.1 with z | z
        · omega
        · have := (hP.2.1.2.2.2.2.1.2 0 (by omega)).2.1; omega
      · have ek : hk (cpH h a n) - hk h = 1 := by show hk h + 1 - hk h = 1; omega
        have es : hs (cpH h a n) - hs h = n.toNat := by show hs h + n.toNat - hs h = n.toNat; omega
        show MetG l c2N [c2W] (RM (d + 1) h) (PE s0 K [vR (a + 1), vI n] h) (QE s0 K h (.inl (some (vR (hn h)))) (cpH h a n)) (hk (cpH h a n) - hk h) (hs (cpH h a n) - hs h) (fr0 s0)
        rw [ek, es]
        exact c2_met hC hGl hMi hn32 hg
    · exfalso
      rw [q] at h900
      exact absurd h900 (by decide)
  · cases hp
