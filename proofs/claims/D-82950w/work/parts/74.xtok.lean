/-! x's PARSER: steps over tokens -/
set_option maxRecDepth 100000
theorem e_X11_equalsOpens (d : Nat) (a0 : Nat) (h : PH) : F (d + 1) 103621185 [vR a0] h = FA (F d) 103621185 0 [vR a0] [] h := rfl
theorem c_X11_equalsOpens_0 (cf : Nat → List PV → PH → Rs) (a0 : Nat) (h : PH) (g0 : inT 36 36 (hc h a0)) : FA cf 103621185 0 [vR a0] [] h = bnd (cf 103096898 [vR a0, vI (gI h 1285834896 a0)] h) (fun v h' => FA cf 103621185 8 [vR a0] (pu v []) h') := ((FA_ex cf 103621185 4 _ _ _ _).trans rfl : FA cf 103621185 0 [vR a0] [] h = gd (inT 36 36 (hc h a0)) (gd (inT 36 36 (hc h a0)) (bnd (cf 103096898 [vR a0, vI (gI h 1285834896 a0)] h) (fun v h' => FA cf 103621185 8 [vR a0] (pu v []) h')))).trans ((gd_t g0).trans ((gd_t g0)))
theorem c_X11_equalsOpens_8 (cf : Nat → List PV → PH → Rs) (a0 : Nat) (s0 : Nat) (h : PH) : FA cf 103621185 8 [vR a0] [vR s0] h = if s0 = (gR h 3657433090 0) then FA cf 103621185 14 [vR a0] [] h else FA cf 103621185 33 [vR a0] [] h := (FA_ex cf 103621185 2 _ _ _ _).trans rfl
theorem c_X11_equalsOpens_14 (cf : Nat → List PV → PH → Rs) (a0 : Nat) (h : PH) (g0 : inT 36 36 (hc h a0)) (g1 : inT 5 5 (hc h (gR h 1277446290 a0))) (g2 : (hc h (gR h 335874582 (gR h 1277446290 a0))) = 66 ∧ inA (gI h 1285834896 a0) (hl h (gR h 335874582 (gR h 1277446290 a0)))) : FA cf 103621185 14 [vR a0] [] h = if (lcm (eJ h (gR h 335874582 (gR h 1277446290 a0)) (gI h 1285834896 a0)) (61)) = 0 then FA cf 103621185 38 [vR a0] [] h else FA cf 103621185 33 [vR a0] [] h := ((FA_ex cf 103621185 9 _ _ _ _).trans rfl : FA cf 103621185 14 [vR a0] [] h = gd (inT 36 36 (hc h a0)) (gd (inT 5 5 (hc h (gR h 1277446290 a0))) (gd (inT 36 36 (hc h a0)) (gd ((hc h (gR h 335874582 (gR h 1277446290 a0))) = 66 ∧ inA (gI h 1285834896 a0) (hl h (gR h 335874582 (gR h 1277446290 a0)))) (if (lcm (eJ h (gR h 335874582 (gR h 1277446290 a0)) (gI h 1285834896 a0)) (61)) = 0 then FA cf 103621185 38 [vR a0] [] h else FA cf 103621185 33 [vR a0] [] h))))).trans ((gd_t g0).trans ((gd_t g1).trans ((gd_t g0).trans ((gd_t g2)))))
theorem c_X11_equalsOpens_33 (cf : Nat → List PV → PH → Rs) (a0 : Nat) (h : PH) (g0 : inT 36 36 (hc h a0)) : FA cf 103621185 33 [vR a0] [] h = bnd (cf 102048321 [vR a0] h) (fun v h' => FA cf 103621185 37 [vR a0] (pu v []) h') := ((FA_ex cf 103621185 2 _ _ _ _).trans rfl : FA cf 103621185 33 [vR a0] [] h = gd (inT 36 36 (hc h a0)) (bnd (cf 102048321 [vR a0] h) (fun v h' => FA cf 103621185 37 [vR a0] (pu v []) h'))).trans ((gd_t g0))
theorem c_X11_equalsOpens_37 (cf : Nat → List PV → PH → Rs) (a0 : Nat) (s0 : Nat) (h : PH) (g0 : inT 44 47 (hc h s0)) : FA cf 103621185 37 [vR a0] [vR s0] h = some (.inr s0, h) := ((FA_ex cf 103621185 1 _ _ _ _).trans rfl : FA cf 103621185 37 [vR a0] [vR s0] h = gd (inT 44 47 (hc h s0)) (some (.inr s0, h))).trans ((gd_t g0))
theorem c_X11_equalsOpens_38 (cf : Nat → List PV → PH → Rs) (a0 : Nat) (h : PH) (g0 : inT 36 36 (hc h a0)) : FA cf 103621185 38 [vR a0] [] h = bnd (cf 103883329 [vR a0] h) (fun v h' => FA cf 103621185 42 [vR a0] (pu v []) h') := ((FA_ex cf 103621185 2 _ _ _ _).trans rfl : FA cf 103621185 38 [vR a0] [] h = gd (inT 36 36 (hc h a0)) (bnd (cf 103883329 [vR a0] h) (fun v h' => FA cf 103621185 42 [vR a0] (pu v []) h'))).trans ((gd_t g0))
theorem c_X11_equalsOpens_42 (cf : Nat → List PV → PH → Rs) (a0 : Nat) (h : PH) (g0 : inT 36 36 (hc h a0)) : FA cf 103621185 42 [vR a0] [] h = some (.inl none, (pI h 1285834896 a0 (w32 ((gI h 1285834896 a0) + 1)))) := ((FA_ex cf 103621185 7 _ _ _ _).trans rfl : FA cf 103621185 42 [vR a0] [] h = gd (inT 36 36 (hc h a0)) (gd (inT 36 36 (hc h a0)) (some (.inl none, (pI h 1285834896 a0 (w32 ((gI h 1285834896 a0) + 1))))))).trans ((gd_t g0).trans ((gd_t g0)))
section XS
variable {h : PH} {p lx : Nat} {l : List TokE} {t o : Nat}
theorem f_isDeclarer (d : Nat) (X : PXs h p lx l t o) {k : Nat} (hk : k < xc l) : F (d + 8) 106766914 [vR p, vI k] h = some (.inl (some (vI (b01 (isDec l k)))), h) := by
  have C := X.c
  have hn := X.x.n
  have yes : isDec l k → FA (F (d + 7)) 106766914 19 [vR p, vI k] [] h = some (.inl (some (vI (b01 (isDec l k)))), h) := fun z => by rw [c_X11_isDeclarer_19, b01_p z]
  have yes2 : isDec l k → FA (F (d + 7)) 106766914 120 [vR p, vI k] [] h = some (.inl (some (vI (b01 (isDec l k)))), h) := fun z => by rw [c_X11_isDeclarer_120, c_X11_isDeclarer_125 _ _ _ _ _ (Or.inr rfl), b01_p z]
  rw [e_X11_isDeclarer, c_X11_isDeclarer_0 _ _ _ _ X.g, f_isMark2 (d + 4) X hk (c := 91) (w := 91) (by decide), bnd_v, pu_s, c_X11_isDeclarer_8]
  by_cases q1 : kd l k = 5 ∧ sI l k = 91
  · rw [if_neg (fun z => b01_0.mp z q1), yes (Or.inl q1)]
  rw [if_pos (b01_0.mpr q1), c_X11_isDeclarer_11 _ _ _ _ X.g, f_isModeTag d X hk, bnd_v, pu_s, c_X11_isDeclarer_16]
  by_cases q2 : isMI l k
  · rw [if_neg (fun z => b01_0.mp z q2), yes (Or.inr (Or.inl q2))]
  rw [if_pos (b01_0.mpr q2), c_X11_isDeclarer_21 _ _ _ _ X.g, f_isWord2 (d + 1) X hk (sf := 3724541954) (w := 12) (by decide), bnd_v, pu_s, c_X11_isDeclarer_28]
  by_cases q3 : kd l k = 1 ∧ sI l k = 12
  · have hk1 := X.next hk (by rw [q3.1]; decide) (by rw [q3.1]; decide)
    have e1 : w32 ((k : Int) + 1) = ((k + 1 : Nat) : Int) := w32_1 (by omega)
    rw [if_neg (fun z => b01_0.mp z q3), c_X11_isDeclarer_31 _ _ _ _ X.g, e1, f_kind (d + 5) X hk1, bnd_v, pu_s, c_X11_isDeclarer_38]
    by_cases q4 : kd l (k + 1) = 4
    · rw [if_pos ((xk_is C (by decide)).mpr (xkF_4.mpr q4)), c_X11_isDeclarer_48, c_X11_isDeclarer_49 _ _ _ _ _ (Or.inl rfl), b01_n]
      intro z
      rcases z with z | z | ⟨z1, z⟩
      · exact q1 z
      · exact q2 z
      · rcases z with z | z
        · exact z.2 q4
        · omega
    · rw [if_neg (fun z => q4 (xkF_4.mp ((xk_is C (by decide)).mp z))), c_X11_isDeclarer_44, c_X11_isDeclarer_49 _ _ _ _ _ (Or.inr rfl), b01_p (Or.inr (Or.inr ⟨q3.1, Or.inl ⟨q3.2, q4⟩⟩))]
  rw [if_pos (b01_0.mpr q3)]
  rw [c_X11_isDeclarer_50 _ _ _ _ X.g, f_isWord2 (d + 1) X hk (sf := 3716153346) (w := 34) (by decide), bnd_v, pu_s, c_X11_isDeclarer_57]
  by_cases r34 : kd l k = 1 ∧ sI l k = 34
  · rw [if_neg (fun z => b01_0.mp z r34), yes2 (Or.inr (Or.inr ⟨r34.1, by omega⟩))]
  rw [if_pos (b01_0.mpr r34)]
  rw [c_X11_isDeclarer_60 _ _ _ _ X.g, f_isWord2 (d + 1) X hk (sf := 3732930562) (w := 35) (by decide), bnd_v, pu_s, c_X11_isDeclarer_67]
  by_cases r35 : kd l k = 1 ∧ sI l k = 35
  · rw [if_neg (fun z => b01_0.mp z r35), yes2 (Or.inr (Or.inr ⟨r35.1, by omega⟩))]
  rw [if_pos (b01_0.mpr r35)]
  rw [c_X11_isDeclarer_70 _ _ _ _ X.g, f_isWord2 (d + 1) X hk (sf := 3741319170) (w := 36) (by decide), bnd_v, pu_s, c_X11_isDeclarer_77]
  by_cases r36 : kd l k = 1 ∧ sI l k = 36
  · rw [if_neg (fun z => b01_0.mp z r36), yes2 (Or.inr (Or.inr ⟨r36.1, by omega⟩))]
  rw [if_pos (b01_0.mpr r36)]
  rw [c_X11_isDeclarer_80 _ _ _ _ X.g, f_isWord2 (d + 1) X hk (sf := 3749707778) (w := 37) (by decide), bnd_v, pu_s, c_X11_isDeclarer_87]
  by_cases r37 : kd l k = 1 ∧ sI l k = 37
  · rw [if_neg (fun z => b01_0.mp z r37), yes2 (Or.inr (Or.inr ⟨r37.1, by omega⟩))]
  rw [if_pos (b01_0.mpr r37)]
  rw [c_X11_isDeclarer_90 _ _ _ _ X.g, f_isWord2 (d + 1) X hk (sf := 3758096386) (w := 38) (by decide), bnd_v, pu_s, c_X11_isDeclarer_97]
  by_cases r38 : kd l k = 1 ∧ sI l k = 38
  · rw [if_neg (fun z => b01_0.mp z r38), yes2 (Or.inr (Or.inr ⟨r38.1, by omega⟩))]
  rw [if_pos (b01_0.mpr r38)]
  rw [c_X11_isDeclarer_100 _ _ _ _ X.g, f_isWord2 (d + 1) X hk (sf := 3766484994) (w := 39) (by decide), bnd_v, pu_s, c_X11_isDeclarer_107]
  by_cases r39 : kd l k = 1 ∧ sI l k = 39
  · rw [if_neg (fun z => b01_0.mp z r39), yes2 (Or.inr (Or.inr ⟨r39.1, by omega⟩))]
  rw [if_pos (b01_0.mpr r39)]
  rw [c_X11_isDeclarer_110 _ _ _ _ X.g, f_isWord2 (d + 1) X hk (sf := 3774873602) (w := 40) (by decide), bnd_v, pu_s, c_X11_isDeclarer_117]
  by_cases r40 : kd l k = 1 ∧ sI l k = 40
  · rw [if_neg (fun z => b01_0.mp z r40), yes2 (Or.inr (Or.inr ⟨r40.1, by omega⟩))]
  rw [if_pos (b01_0.mpr r40)]
  rw [c_X11_isDeclarer_124, c_X11_isDeclarer_125 _ _ _ _ _ (Or.inl rfl), b01_n]
  intro z
  rcases z with z | z | ⟨z1, z⟩
  · exact q1 z
  · exact q2 z
  · omega
/-- an operation's sign: x's and the model's -/
def xop (l : List TokE) (k : Nat) : Int := if kd l k = 5 then xw (sI l k) else lor (wd l k) 4611686018427387904
theorem f_xsignk (d : Nat) (X : PXs h p lx l t o) {k : Nat} (hk : k < xc l) (hq : isOp l k) : F (d + 3) 111485506 [vR p, vI k] h = some (.inl (some (vJ (xop l k))), h) := by
  have C := X.c
  have ok := X.tok hk
  obtain ⟨g1, w1⟩ := X.wt (k := k) hk
  rw [e_X11_sign, c_X11_sign_0 _ _ _ _ X.g, f_kind d X hk, bnd_v, pu_s, c_X11_sign_5]
  unfold xop
  by_cases q : kd l k = 5 ∧ sI l k ∈ snL
  · rw [if_pos ((xk_is C (by decide)).mpr ((xkF_s ok).mpr q)), c_X11_sign_11 _ _ _ _ X.g X.gl g1, w1, xwo_op q.1, c_X11_sign_35, if_pos q.1]
  · have r : kd l k = 2 := (hq.resolve_left q).1
    have e5 : xwo (kd l k) (sI l k) (wd l k) = wd l k := if_pos (Or.inr (Or.inl r))
    rw [if_neg (fun z => q ((xkF_s ok).mp ((xk_is C (by decide)).mp z))), c_X11_sign_23 _ _ _ _ X.g X.gl g1, w1, e5, e_X1_indicant, c_X1_indicant_0, bnd_v, pu_s, c_X11_sign_35, if_neg (by rw [r]; decide)]
theorem PXs.pt (X : PXs h p lx l t o) : pI h 1285834896 p t = h := by
  have := X.2.2.1
  rw [← this]
  exact pI_id
theorem f_takesY (d : Nat) (X : PXs h p lx l t o) {c w : Int} (hs : (c, w) ∈ mkT) (q : kd l t = 5 ∧ sI l t = w) : F (d + 5) 106242626 [vR p, vJ c] h = some (.inl (some (vI 1)), pI h 1285834896 p ((t + 1 : Nat) : Int)) := by
  have ht := X.2.2.2.2.1
  have hn := X.x.n
  rw [e_X11_takes, c_X11_takes_0 _ _ _ _ _ X.g, f_isMark d X hs, bnd_v, pu_s, b01_p q, c_X11_takes_5 _ _ _ _ _ _ X.g, if_neg (by decide), X.2.2.1, c_X11_takes_15, c_X11_takes_20 _ _ _ _ _ _ _ _ X.g (Or.inr rfl), w32_1 (by omega)]
theorem f_takesN (d : Nat) (X : PXs h p lx l t o) {c w : Int} (hs : (c, w) ∈ mkT) (q : ¬ (kd l t = 5 ∧ sI l t = w)) : F (d + 5) 106242626 [vR p, vJ c] h = some (.inl (some (vI 0)), h) := by
  have ht := X.2.2.2.2.1
  have hn := X.x.n
  rw [e_X11_takes, c_X11_takes_0 _ _ _ _ _ X.g, f_isMark d X hs, bnd_v, pu_s, b01_n q, c_X11_takes_5 _ _ _ _ _ _ X.g, if_pos rfl, X.2.2.1, c_X11_takes_19, c_X11_takes_20 _ _ _ _ _ _ _ _ X.g (Or.inl rfl), w32_id (by omega) (by omega), show (t : Int) + 0 = t by omega, X.pt]
theorem f_takesWY (d : Nat) (X : PXs h p lx l t o) {sf : Nat} {w : Int} (hs : (sf, w) ∈ swT) (q : kd l t = 1 ∧ sI l t = w) : F (d + 8) 113058370 [vR p, vR (gR h sf 0)] h = some (.inl (some (vI 1)), pI h 1285834896 p ((t + 1 : Nat) : Int)) := by
  have ht := X.2.2.2.2.1
  have hn := X.x.n
  rw [e_X11_takesWord, c_X11_takesWord_0 _ _ _ _ _ X.g, f_isWord d X hs, bnd_v, pu_s, b01_p q, c_X11_takesWord_5 _ _ _ _ _ _ X.g, if_neg (by decide), X.2.2.1, c_X11_takesWord_15, c_X11_takesWord_20 _ _ _ _ _ _ _ _ X.g (Or.inr rfl), w32_1 (by omega)]
theorem f_takesWN (d : Nat) (X : PXs h p lx l t o) {sf : Nat} {w : Int} (hs : (sf, w) ∈ swT) (q : ¬ (kd l t = 1 ∧ sI l t = w)) : F (d + 8) 113058370 [vR p, vR (gR h sf 0)] h = some (.inl (some (vI 0)), h) := by
  have ht := X.2.2.2.2.1
  have hn := X.x.n
  rw [e_X11_takesWord, c_X11_takesWord_0 _ _ _ _ _ X.g, f_isWord d X hs, bnd_v, pu_s, b01_n q, c_X11_takesWord_5 _ _ _ _ _ _ X.g, if_pos rfl, X.2.2.1, c_X11_takesWord_19, c_X11_takesWord_20 _ _ _ _ _ _ _ _ X.g (Or.inl rfl), w32_id (by omega) (by omega), show (t : Int) + 0 = t by omega, X.pt]
/-- x fails at its token -/
def XFail (h : PH) (l : List TokE) (t : Nat) (r : Rs) : Prop := ∃ e h1, r = some (.inr e, h1) ∧ FaultAt h1 e 1 (pl l t) ∧ Ev W0 1 h h1
theorem e47 {h1 : PH} {e : Nat} {a b : Int} (f : FaultAt h1 e a b) : inT 44 47 (hc h1 e) := by rw [f.1]; decide
theorem f_markY (d : Nat) (X : PXs h p lx l t o) {c w : Int} (hs : (c, w) ∈ mkT) (q : kd l t = 5 ∧ sI l t = w) : F (d + 6) 108077634 [vR p, vJ c] h = some (.inl none, pI h 1285834896 p ((t + 1 : Nat) : Int)) := by
  rw [e_X11_mark, c_X11_mark_0 _ _ _ _ X.g, f_takesY d X hs q, bnd_v, pu_s, c_X11_mark_5, if_neg (by decide), c_X11_mark_13]
theorem f_markN (d : Nat) (X : PXs h p lx l t o) (rm : Room 1 h) {c w : Int} (hs : (c, w) ∈ mkT) (q : ¬ (kd l t = 5 ∧ sI l t = w)) : XFail h l t (F (d + 6) 108077634 [vR p, vJ c] h) := by
  obtain ⟨e, h1, a1, a2, a3⟩ := f_wrong d X rm
  exact ⟨e, h1, by rw [e_X11_mark, c_X11_mark_0 _ _ _ _ X.g, f_takesN d X hs q, bnd_v, pu_s, c_X11_mark_5, if_pos rfl, c_X11_mark_8 _ _ _ _ X.g, a1, bnd_v, pu_s, c_X11_mark_12 _ _ _ _ _ (e47 a2)], a2, a3⟩
theorem f_wordY (d : Nat) (X : PXs h p lx l t o) {sf : Nat} {w : Int} (hs : (sf, w) ∈ swT) (q : kd l t = 1 ∧ sI l t = w) : F (d + 9) 113320514 [vR p, vR (gR h sf 0)] h = some (.inl none, pI h 1285834896 p ((t + 1 : Nat) : Int)) := by
  rw [e_X11_word, c_X11_word_0 _ _ _ _ X.g, f_takesWY d X hs q, bnd_v, pu_s, c_X11_word_5, if_neg (by decide), c_X11_word_13]
theorem f_wordN (d : Nat) (X : PXs h p lx l t o) (rm : Room 1 h) {sf : Nat} {w : Int} (hs : (sf, w) ∈ swT) (q : ¬ (kd l t = 1 ∧ sI l t = w)) : XFail h l t (F (d + 9) 113320514 [vR p, vR (gR h sf 0)] h) := by
  obtain ⟨e, h1, a1, a2, a3⟩ := f_wrong (d + 3) X rm
  exact ⟨e, h1, by rw [e_X11_word, c_X11_word_0 _ _ _ _ X.g, f_takesWN d X hs q, bnd_v, pu_s, c_X11_word_5, if_pos rfl, c_X11_word_8 _ _ _ _ X.g, a1, bnd_v, pu_s, c_X11_word_12 _ _ _ _ _ (e47 a2)], a2, a3⟩
theorem f_tagY (d : Nat) (X : PXs h p lx l t o) (q : kd l t = 3) : F (d + 6) 107815489 [vR p] h = some (.inl (some (vJ (wd l t))), pI h 1285834896 p ((t + 1 : Nat) : Int)) := by
  have ht := X.2.2.2.2.1
  have hn := X.x.n
  obtain ⟨g1, w1⟩ := X.wt (k := t) ht
  have e5 : xwo (kd l t) (sI l t) (wd l t) = wd l t := if_pos (Or.inr (Or.inr q))
  rw [e_X11_tag, c_X11_tag_0 _ _ _ X.g, X.2.2.1, f_kind (d + 3) X ht, bnd_v, pu_s, c_X11_tag_8, if_pos ((xk_is X.c (by decide)).mpr (xkF_3.mpr q)), c_X11_tag_19 _ _ _ X.g X.gl (by rw [X.2.2.1]; exact g1), X.2.2.1, w1, e5, w32_1 (by omega)]
theorem f_tagN (d : Nat) (X : PXs h p lx l t o) (rm : Room 1 h) (q : kd l t ≠ 3) : XFail h l t (F (d + 6) 107815489 [vR p] h) := by
  have ht := X.2.2.2.2.1
  obtain ⟨e, h1, a1, a2, a3⟩ := f_wrong d X rm
  exact ⟨e, h1, by rw [e_X11_tag, c_X11_tag_0 _ _ _ X.g, X.2.2.1, f_kind (d + 3) X ht, bnd_v, pu_s, c_X11_tag_8, if_neg (fun z => q (xkF_3.mp ((xk_is X.c (by decide)).mp z))), c_X11_tag_14 _ _ _ X.g, a1, bnd_v, pu_s, c_X11_tag_18 _ _ _ _ (e47 a2)], a2, a3⟩
theorem f_openY (d : Nat) (X : PXs h p lx l t o) (q : o < 24) : F (d + 1) 103883329 [vR p] h = some (.inl none, pI h 1294223504 p ((o + 1 : Nat) : Int)) := by
  rw [e_X11_open, c_X11_open_0 _ _ _ X.g, X.2.2.2.1, if_neg (by omega), c_X11_open_14 _ _ _ X.g, X.2.2.2.1, w32_1 (by omega)]
theorem f_openN (d : Nat) (X : PXs h p lx l t o) (rm : Room 1 h) (q : o = 24) : XFail h l t (F (d + 6) 103883329 [vR p] h) := by
  obtain ⟨e, h1, a1, a2, a3⟩ := f_wrong d X rm
  exact ⟨e, h1, by rw [e_X11_open, c_X11_open_0 _ _ _ X.g, X.2.2.2.1, if_pos (by omega), c_X11_open_9 _ _ _ X.g, a1, bnd_v, pu_s, c_X11_open_13 _ _ _ _ (e47 a2)], a2, a3⟩
theorem f_close (d : Nat) (X : PXs h p lx l t o) {o' : Nat} (q : o = o' + 1) : F (d + 1) 106504769 [vR p] h = some (.inl none, pI h 1294223504 p (o' : Int)) := by
  have := X.2.2.2.2.2.1
  rw [e_X11_close, c_X11_close_0 _ _ _ X.g, X.2.2.2.1, q, w32_id (by omega) (by omega), show ((o' + 1 : Nat) : Int) - 1 = o' by omega]
/-- '=' that opens -/
theorem f_eqOpensY (d : Nat) (X : PXs h p lx l t o) (q : kd l t = 5 ∧ sI l t = 61) (qo : o < 24) : F (d + 7) 103621185 [vR p] h = some (.inl none, pI (pI h 1294223504 p ((o + 1 : Nat) : Int)) 1285834896 p ((t + 1 : Nat) : Int)) := by
  have ht := X.2.2.2.2.1
  have hn := X.x.n
  obtain ⟨g1, w1⟩ := X.wt (k := t) ht
  have X1 := X.setO (o' := o + 1) (by omega)
  have hm : sI l t ∈ mkL ++ snL := by rw [q.2]; decide
  rw [e_X11_equalsOpens, c_X11_equalsOpens_0 _ _ _ X.g, X.2.2.1, f_kind (d + 4) X ht, bnd_v, pu_s, c_X11_equalsOpens_8, if_pos ((xk_is X.c (by decide)).mpr ((xkF_s (X.tok ht)).mpr ⟨q.1, by show sI l t ∈ snL; rw [q.2]; decide⟩)), c_X11_equalsOpens_14 _ _ _ X.g X.gl (by rw [X.2.2.1]; exact g1), X.2.2.1, w1, xwo_op q.1, if_pos ((lcm_eq _ _).mpr ((xw_sm _ hm 61 (by decide)).mpr q.2)), c_X11_equalsOpens_38 _ _ _ X.g, f_openY (d + 5) X qo, bnd_v, pu_n, c_X11_equalsOpens_42 _ _ _ X1.g, X1.2.2.1, w32_1 (by omega)]
theorem f_eqOpensN (d : Nat) (X : PXs h p lx l t o) (rm : Room 1 h) (q : ¬ ((kd l t = 5 ∧ sI l t = 61) ∧ o < 24)) : XFail h l t (F (d + 7) 103621185 [vR p] h) := by
  have ht := X.2.2.2.2.1
  have hn := X.x.n
  have ho := X.2.2.2.2.2.1
  obtain ⟨g1, w1⟩ := X.wt (k := t) ht
  have fin : XFail h l t (FA (F (d + 6)) 103621185 33 [vR p] [] h) := by
    obtain ⟨e, h1, a1, a2, a3⟩ := f_wrong (d + 1) X rm
    exact ⟨e, h1, by rw [c_X11_equalsOpens_33 _ _ _ X.g, a1, bnd_v, pu_s, c_X11_equalsOpens_37 _ _ _ _ (e47 a2)], a2, a3⟩
  rw [e_X11_equalsOpens, c_X11_equalsOpens_0 _ _ _ X.g, X.2.2.1, f_kind (d + 4) X ht, bnd_v, pu_s, c_X11_equalsOpens_8]
  by_cases r : kd l t = 5 ∧ sI l t ∈ snL
  · have hm : sI l t ∈ mkL ++ snL := List.mem_append.mpr (Or.inr r.2)
    rw [if_pos ((xk_is X.c (by decide)).mpr ((xkF_s (X.tok ht)).mpr r)), c_X11_equalsOpens_14 _ _ _ X.g X.gl (by rw [X.2.2.1]; exact g1), X.2.2.1, w1, xwo_op r.1]
    by_cases s : sI l t = 61
    · rw [if_pos ((lcm_eq _ _).mpr ((xw_sm _ hm 61 (by decide)).mpr s)), c_X11_equalsOpens_38 _ _ _ X.g]
      obtain ⟨e, h1, a1, a2, a3⟩ := f_openN (d + 0) X rm (by
        rcases Nat.lt_or_ge o 24 with z | z
        · exact absurd ⟨⟨r.1, s⟩, z⟩ q
        · omega)
      have a1 : F (d + 6) 103883329 [vR p] h = some (.inr e, h1) := a1
      exact ⟨e, h1, by rw [a1, bnd_x], a2, a3⟩
    · rw [if_neg (fun z => s ((xw_sm _ hm 61 (by decide)).mp ((lcm_eq _ _).mp z)))]
      exact fin
  · rw [if_neg (fun z => r ((xkF_s (X.tok ht)).mp ((xk_is X.c (by decide)).mp z)))]
    exact fin
end XS
