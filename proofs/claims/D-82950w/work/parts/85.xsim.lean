/-! x's PARSER: its questions, in one form for simp -/
set_option maxRecDepth 100000
section XQ
variable {h : PH} {p lx : Nat} {l : List TokE} {t o k : Nat}
theorem tw_of (d : Nat) (X : PXs h p lx l t o) {sf : Nat} {w : Int} (hs : (sf, w) ∈ swT) : F (d + 8) 113058370 [vR p, vR (gR h sf 0)] h = if kd l t = 1 ∧ sI l t = w then some (.inl (some (vI 1)), pI h 1285834896 p ((t + 1 : Nat) : Int)) else some (.inl (some (vI 0)), h) := by
  by_cases q : kd l t = 1 ∧ sI l t = w
  · rw [if_pos q, f_takesWY d X hs q]
  · rw [if_neg q, f_takesWN d X hs q]
theorem tm_of (d : Nat) (X : PXs h p lx l t o) {c w : Int} (hs : (c, w) ∈ mkT) : F (d + 5) 106242626 [vR p, vJ c] h = if kd l t = 5 ∧ sI l t = w then some (.inl (some (vI 1)), pI h 1285834896 p ((t + 1 : Nat) : Int)) else some (.inl (some (vI 0)), h) := by
  by_cases q : kd l t = 5 ∧ sI l t = w
  · rw [if_pos q, f_takesY d X hs q]
  · rw [if_neg q, f_takesN d X hs q]
theorem hk_pI {f r : Nat} {v : Int} : hk (pI h f r v) = hk h := rfl
theorem hk_pJ {f r : Nat} {v : Int} : hk (pJ h f r v) = hk h := rfl
theorem hk_pR {f r w : Nat} : hk (pR h f r w) = hk h := rfl
theorem hk_qI {r : Nat} {i v : Int} : hk (qI h r i v) = hk h := rfl
theorem hk_qJ {r : Nat} {i v : Int} : hk (qJ h r i v) = hk h := rfl
theorem hk_qR {r w : Nat} {i : Int} : hk (qR h r i w) = hk h := rfl
theorem hs_pI {f r : Nat} {v : Int} : hs (pI h f r v) = hs h := rfl
theorem hs_pJ {f r : Nat} {v : Int} : hs (pJ h f r v) = hs h := rfl
theorem hs_pR {f r w : Nat} : hs (pR h f r w) = hs h := rfl
theorem hs_qI {r : Nat} {i v : Int} : hs (qI h r i v) = hs h := rfl
theorem hs_qJ {r : Nat} {i v : Int} : hs (qJ h r i v) = hs h := rfl
theorem hs_qR {r w : Nat} {i : Int} : hs (qR h r i w) = hs h := rfl
theorem hk_nO {c n : Nat} : hk (nO h c n) = hk h + 1 := rfl
theorem hs_nO {c n : Nat} : hs (nO h c n) = hs h + n := rfl
theorem hk_nA {c : Nat} {n : Int} : hk (nA h c n) = hk h + 1 := rfl
theorem hs_nA {c : Nat} {n : Int} : hs (nA h c n) = hs h + n.toNat := rfl
def kk (h : PH) (l : List TokE) (k : Nat) : Nat := gR h (xkF (kd l k) (sI l k)) 0
theorem fk (d : Nat) (X : PXs h p lx l t o) (hk : k < xc l) : F (d + 2) 103096898 [vR p, vI k] h = some (.inl (some (vR (kk h l k))), h) := f_kind d X hk
theorem fk0 (d : Nat) (X : PXs h p lx l t o) : F (d + 2) 103096898 [vR p, vI t] h = some (.inl (some (vR (kk h l t))), h) := f_kind d X X.2.2.2.2.1
theorem fpl (d : Nat) (X : PXs h p lx l t o) : F (d + 1) 101524033 [vR p] h = some (.inl (some (vI (pl l t))), h) := f_place d X
theorem fgt (X : PXs h p lx l t o) : gI h 1285834896 p = t := X.2.2.1
theorem xk2 (X : PXs h p lx l t o) : (kk h l k = gR h 3623878658 0) = (kd l k = 2) := propext ((xk_is X.c (by decide)).trans xkF_2)
theorem xk3 (X : PXs h p lx l t o) : (kk h l k = gR h 3632267266 0) = (kd l k = 3) := propext ((xk_is X.c (by decide)).trans xkF_3)
theorem xk4 (X : PXs h p lx l t o) : (kk h l k = gR h 3640655874 0) = (kd l k = 4) := propext ((xk_is X.c (by decide)).trans xkF_4)
theorem xk5 (X : PXs h p lx l t o) (hk : k < xc l) : (kk h l k = gR h 3657433090 0) = (kd l k = 5 ∧ sI l k ∈ snL) := propext ((xk_is X.c (by decide)).trans (xkF_s (X.tok hk)))
theorem iw_MODE (d : Nat) (X : PXs h p lx l t o) : F (d + 7) 102572610 [vR p, vR (gR h 3674210306 0)] h = some (.inl (some (vI (b01 (kd l t = 1 ∧ sI l t = 0)))), h) := f_isWord d X (by decide)
theorem tw_MODE (d : Nat) (X : PXs h p lx l t o) : F (d + 8) 113058370 [vR p, vR (gR h 3674210306 0)] h = if kd l t = 1 ∧ sI l t = 0 then some (.inl (some (vI 1)), pI h 1285834896 p ((t + 1 : Nat) : Int)) else some (.inl (some (vI 0)), h) := tw_of d X (by decide)
theorem iw_PRIO (d : Nat) (X : PXs h p lx l t o) : F (d + 7) 102572610 [vR p, vR (gR h 3682598914 0)] h = some (.inl (some (vI (b01 (kd l t = 1 ∧ sI l t = 1)))), h) := f_isWord d X (by decide)
theorem tw_PRIO (d : Nat) (X : PXs h p lx l t o) : F (d + 8) 113058370 [vR p, vR (gR h 3682598914 0)] h = if kd l t = 1 ∧ sI l t = 1 then some (.inl (some (vI 1)), pI h 1285834896 p ((t + 1 : Nat) : Int)) else some (.inl (some (vI 0)), h) := tw_of d X (by decide)
theorem iw_OP (d : Nat) (X : PXs h p lx l t o) : F (d + 7) 102572610 [vR p, vR (gR h 3690987522 0)] h = some (.inl (some (vI (b01 (kd l t = 1 ∧ sI l t = 2)))), h) := f_isWord d X (by decide)
theorem tw_OP (d : Nat) (X : PXs h p lx l t o) : F (d + 8) 113058370 [vR p, vR (gR h 3690987522 0)] h = if kd l t = 1 ∧ sI l t = 2 then some (.inl (some (vI 1)), pI h 1285834896 p ((t + 1 : Nat) : Int)) else some (.inl (some (vI 0)), h) := tw_of d X (by decide)
theorem iw_LOC (d : Nat) (X : PXs h p lx l t o) : F (d + 7) 102572610 [vR p, vR (gR h 3699376130 0)] h = some (.inl (some (vI (b01 (kd l t = 1 ∧ sI l t = 3)))), h) := f_isWord d X (by decide)
theorem tw_LOC (d : Nat) (X : PXs h p lx l t o) : F (d + 8) 113058370 [vR p, vR (gR h 3699376130 0)] h = if kd l t = 1 ∧ sI l t = 3 then some (.inl (some (vI 1)), pI h 1285834896 p ((t + 1 : Nat) : Int)) else some (.inl (some (vI 0)), h) := tw_of d X (by decide)
theorem iw_HEAP (d : Nat) (X : PXs h p lx l t o) : F (d + 7) 102572610 [vR p, vR (gR h 3707764738 0)] h = some (.inl (some (vI (b01 (kd l t = 1 ∧ sI l t = 4)))), h) := f_isWord d X (by decide)
theorem tw_HEAP (d : Nat) (X : PXs h p lx l t o) : F (d + 8) 113058370 [vR p, vR (gR h 3707764738 0)] h = if kd l t = 1 ∧ sI l t = 4 then some (.inl (some (vI 1)), pI h 1285834896 p ((t + 1 : Nat) : Int)) else some (.inl (some (vI 0)), h) := tw_of d X (by decide)
theorem iw_SKIP (d : Nat) (X : PXs h p lx l t o) : F (d + 7) 102572610 [vR p, vR (gR h 3783262210 0)] h = some (.inl (some (vI (b01 (kd l t = 1 ∧ sI l t = 5)))), h) := f_isWord d X (by decide)
theorem tw_SKIP (d : Nat) (X : PXs h p lx l t o) : F (d + 8) 113058370 [vR p, vR (gR h 3783262210 0)] h = if kd l t = 1 ∧ sI l t = 5 then some (.inl (some (vI 1)), pI h 1285834896 p ((t + 1 : Nat) : Int)) else some (.inl (some (vI 0)), h) := tw_of d X (by decide)
theorem iw_NIL (d : Nat) (X : PXs h p lx l t o) : F (d + 7) 102572610 [vR p, vR (gR h 4009754626 0)] h = some (.inl (some (vI (b01 (kd l t = 1 ∧ sI l t = 6)))), h) := f_isWord d X (by decide)
theorem tw_NIL (d : Nat) (X : PXs h p lx l t o) : F (d + 8) 113058370 [vR p, vR (gR h 4009754626 0)] h = if kd l t = 1 ∧ sI l t = 6 then some (.inl (some (vI 1)), pI h 1285834896 p ((t + 1 : Nat) : Int)) else some (.inl (some (vI 0)), h) := tw_of d X (by decide)
theorem iw_IS (d : Nat) (X : PXs h p lx l t o) : F (d + 7) 102572610 [vR p, vR (gR h 4001366018 0)] h = some (.inl (some (vI (b01 (kd l t = 1 ∧ sI l t = 7)))), h) := f_isWord d X (by decide)
theorem tw_IS (d : Nat) (X : PXs h p lx l t o) : F (d + 8) 113058370 [vR p, vR (gR h 4001366018 0)] h = if kd l t = 1 ∧ sI l t = 7 then some (.inl (some (vI 1)), pI h 1285834896 p ((t + 1 : Nat) : Int)) else some (.inl (some (vI 0)), h) := tw_of d X (by decide)
theorem iw_ISNT (d : Nat) (X : PXs h p lx l t o) : F (d + 7) 102572610 [vR p, vR (gR h 3992977410 0)] h = some (.inl (some (vI (b01 (kd l t = 1 ∧ sI l t = 8)))), h) := f_isWord d X (by decide)
theorem tw_ISNT (d : Nat) (X : PXs h p lx l t o) : F (d + 8) 113058370 [vR p, vR (gR h 3992977410 0)] h = if kd l t = 1 ∧ sI l t = 8 then some (.inl (some (vI 1)), pI h 1285834896 p ((t + 1 : Nat) : Int)) else some (.inl (some (vI 0)), h) := tw_of d X (by decide)
theorem iw_LWB (d : Nat) (X : PXs h p lx l t o) : F (d + 7) 102572610 [vR p, vR (gR h 3800039426 0)] h = some (.inl (some (vI (b01 (kd l t = 1 ∧ sI l t = 9)))), h) := f_isWord d X (by decide)
theorem tw_LWB (d : Nat) (X : PXs h p lx l t o) : F (d + 8) 113058370 [vR p, vR (gR h 3800039426 0)] h = if kd l t = 1 ∧ sI l t = 9 then some (.inl (some (vI 1)), pI h 1285834896 p ((t + 1 : Nat) : Int)) else some (.inl (some (vI 0)), h) := tw_of d X (by decide)
theorem iw_UPB (d : Nat) (X : PXs h p lx l t o) : F (d + 7) 102572610 [vR p, vR (gR h 3791650818 0)] h = some (.inl (some (vI (b01 (kd l t = 1 ∧ sI l t = 10)))), h) := f_isWord d X (by decide)
theorem tw_UPB (d : Nat) (X : PXs h p lx l t o) : F (d + 8) 113058370 [vR p, vR (gR h 3791650818 0)] h = if kd l t = 1 ∧ sI l t = 10 then some (.inl (some (vI 1)), pI h 1285834896 p ((t + 1 : Nat) : Int)) else some (.inl (some (vI 0)), h) := tw_of d X (by decide)
theorem iw_OF (d : Nat) (X : PXs h p lx l t o) : F (d + 7) 102572610 [vR p, vR (gR h 3808428034 0)] h = some (.inl (some (vI (b01 (kd l t = 1 ∧ sI l t = 11)))), h) := f_isWord d X (by decide)
theorem tw_OF (d : Nat) (X : PXs h p lx l t o) : F (d + 8) 113058370 [vR p, vR (gR h 3808428034 0)] h = if kd l t = 1 ∧ sI l t = 11 then some (.inl (some (vI 1)), pI h 1285834896 p ((t + 1 : Nat) : Int)) else some (.inl (some (vI 0)), h) := tw_of d X (by decide)
theorem iw_LONG (d : Nat) (X : PXs h p lx l t o) : F (d + 7) 102572610 [vR p, vR (gR h 3724541954 0)] h = some (.inl (some (vI (b01 (kd l t = 1 ∧ sI l t = 12)))), h) := f_isWord d X (by decide)
theorem tw_LONG (d : Nat) (X : PXs h p lx l t o) : F (d + 8) 113058370 [vR p, vR (gR h 3724541954 0)] h = if kd l t = 1 ∧ sI l t = 12 then some (.inl (some (vI 1)), pI h 1285834896 p ((t + 1 : Nat) : Int)) else some (.inl (some (vI 0)), h) := tw_of d X (by decide)
theorem iw_TRUE (d : Nat) (X : PXs h p lx l t o) : F (d + 7) 102572610 [vR p, vR (gR h 3816816642 0)] h = some (.inl (some (vI (b01 (kd l t = 1 ∧ sI l t = 13)))), h) := f_isWord d X (by decide)
theorem tw_TRUE (d : Nat) (X : PXs h p lx l t o) : F (d + 8) 113058370 [vR p, vR (gR h 3816816642 0)] h = if kd l t = 1 ∧ sI l t = 13 then some (.inl (some (vI 1)), pI h 1285834896 p ((t + 1 : Nat) : Int)) else some (.inl (some (vI 0)), h) := tw_of d X (by decide)
theorem iw_FALSE (d : Nat) (X : PXs h p lx l t o) : F (d + 7) 102572610 [vR p, vR (gR h 3825205250 0)] h = some (.inl (some (vI (b01 (kd l t = 1 ∧ sI l t = 14)))), h) := f_isWord d X (by decide)
theorem tw_FALSE (d : Nat) (X : PXs h p lx l t o) : F (d + 8) 113058370 [vR p, vR (gR h 3825205250 0)] h = if kd l t = 1 ∧ sI l t = 14 then some (.inl (some (vI 1)), pI h 1285834896 p ((t + 1 : Nat) : Int)) else some (.inl (some (vI 0)), h) := tw_of d X (by decide)
theorem iw_BEGIN (d : Nat) (X : PXs h p lx l t o) : F (d + 7) 102572610 [vR p, vR (gR h 3833593858 0)] h = some (.inl (some (vI (b01 (kd l t = 1 ∧ sI l t = 15)))), h) := f_isWord d X (by decide)
theorem tw_BEGIN (d : Nat) (X : PXs h p lx l t o) : F (d + 8) 113058370 [vR p, vR (gR h 3833593858 0)] h = if kd l t = 1 ∧ sI l t = 15 then some (.inl (some (vI 1)), pI h 1285834896 p ((t + 1 : Nat) : Int)) else some (.inl (some (vI 0)), h) := tw_of d X (by decide)
theorem iw_END (d : Nat) (X : PXs h p lx l t o) : F (d + 7) 102572610 [vR p, vR (gR h 3841982466 0)] h = some (.inl (some (vI (b01 (kd l t = 1 ∧ sI l t = 16)))), h) := f_isWord d X (by decide)
theorem tw_END (d : Nat) (X : PXs h p lx l t o) : F (d + 8) 113058370 [vR p, vR (gR h 3841982466 0)] h = if kd l t = 1 ∧ sI l t = 16 then some (.inl (some (vI 1)), pI h 1285834896 p ((t + 1 : Nat) : Int)) else some (.inl (some (vI 0)), h) := tw_of d X (by decide)
theorem iw_IF (d : Nat) (X : PXs h p lx l t o) : F (d + 7) 102572610 [vR p, vR (gR h 3850371074 0)] h = some (.inl (some (vI (b01 (kd l t = 1 ∧ sI l t = 17)))), h) := f_isWord d X (by decide)
theorem tw_IF (d : Nat) (X : PXs h p lx l t o) : F (d + 8) 113058370 [vR p, vR (gR h 3850371074 0)] h = if kd l t = 1 ∧ sI l t = 17 then some (.inl (some (vI 1)), pI h 1285834896 p ((t + 1 : Nat) : Int)) else some (.inl (some (vI 0)), h) := tw_of d X (by decide)
theorem iw_THEN (d : Nat) (X : PXs h p lx l t o) : F (d + 7) 102572610 [vR p, vR (gR h 3875536898 0)] h = some (.inl (some (vI (b01 (kd l t = 1 ∧ sI l t = 18)))), h) := f_isWord d X (by decide)
theorem tw_THEN (d : Nat) (X : PXs h p lx l t o) : F (d + 8) 113058370 [vR p, vR (gR h 3875536898 0)] h = if kd l t = 1 ∧ sI l t = 18 then some (.inl (some (vI 1)), pI h 1285834896 p ((t + 1 : Nat) : Int)) else some (.inl (some (vI 0)), h) := tw_of d X (by decide)
theorem iw_ELSE (d : Nat) (X : PXs h p lx l t o) : F (d + 7) 102572610 [vR p, vR (gR h 3883925506 0)] h = some (.inl (some (vI (b01 (kd l t = 1 ∧ sI l t = 19)))), h) := f_isWord d X (by decide)
theorem tw_ELSE (d : Nat) (X : PXs h p lx l t o) : F (d + 8) 113058370 [vR p, vR (gR h 3883925506 0)] h = if kd l t = 1 ∧ sI l t = 19 then some (.inl (some (vI 1)), pI h 1285834896 p ((t + 1 : Nat) : Int)) else some (.inl (some (vI 0)), h) := tw_of d X (by decide)
theorem iw_FI (d : Nat) (X : PXs h p lx l t o) : F (d + 7) 102572610 [vR p, vR (gR h 3892314114 0)] h = some (.inl (some (vI (b01 (kd l t = 1 ∧ sI l t = 20)))), h) := f_isWord d X (by decide)
theorem tw_FI (d : Nat) (X : PXs h p lx l t o) : F (d + 8) 113058370 [vR p, vR (gR h 3892314114 0)] h = if kd l t = 1 ∧ sI l t = 20 then some (.inl (some (vI 1)), pI h 1285834896 p ((t + 1 : Nat) : Int)) else some (.inl (some (vI 0)), h) := tw_of d X (by decide)
theorem iw_CASE (d : Nat) (X : PXs h p lx l t o) : F (d + 7) 102572610 [vR p, vR (gR h 3858759682 0)] h = some (.inl (some (vI (b01 (kd l t = 1 ∧ sI l t = 21)))), h) := f_isWord d X (by decide)
theorem tw_CASE (d : Nat) (X : PXs h p lx l t o) : F (d + 8) 113058370 [vR p, vR (gR h 3858759682 0)] h = if kd l t = 1 ∧ sI l t = 21 then some (.inl (some (vI 1)), pI h 1285834896 p ((t + 1 : Nat) : Int)) else some (.inl (some (vI 0)), h) := tw_of d X (by decide)
theorem iw_IN (d : Nat) (X : PXs h p lx l t o) : F (d + 7) 102572610 [vR p, vR (gR h 3909091330 0)] h = some (.inl (some (vI (b01 (kd l t = 1 ∧ sI l t = 22)))), h) := f_isWord d X (by decide)
theorem tw_IN (d : Nat) (X : PXs h p lx l t o) : F (d + 8) 113058370 [vR p, vR (gR h 3909091330 0)] h = if kd l t = 1 ∧ sI l t = 22 then some (.inl (some (vI 1)), pI h 1285834896 p ((t + 1 : Nat) : Int)) else some (.inl (some (vI 0)), h) := tw_of d X (by decide)
theorem iw_OUT (d : Nat) (X : PXs h p lx l t o) : F (d + 7) 102572610 [vR p, vR (gR h 3917479938 0)] h = some (.inl (some (vI (b01 (kd l t = 1 ∧ sI l t = 23)))), h) := f_isWord d X (by decide)
theorem tw_OUT (d : Nat) (X : PXs h p lx l t o) : F (d + 8) 113058370 [vR p, vR (gR h 3917479938 0)] h = if kd l t = 1 ∧ sI l t = 23 then some (.inl (some (vI 1)), pI h 1285834896 p ((t + 1 : Nat) : Int)) else some (.inl (some (vI 0)), h) := tw_of d X (by decide)
theorem iw_ESAC (d : Nat) (X : PXs h p lx l t o) : F (d + 7) 102572610 [vR p, vR (gR h 3925868546 0)] h = some (.inl (some (vI (b01 (kd l t = 1 ∧ sI l t = 24)))), h) := f_isWord d X (by decide)
theorem tw_ESAC (d : Nat) (X : PXs h p lx l t o) : F (d + 8) 113058370 [vR p, vR (gR h 3925868546 0)] h = if kd l t = 1 ∧ sI l t = 24 then some (.inl (some (vI 1)), pI h 1285834896 p ((t + 1 : Nat) : Int)) else some (.inl (some (vI 0)), h) := tw_of d X (by decide)
theorem iw_WHEN (d : Nat) (X : PXs h p lx l t o) : F (d + 7) 102572610 [vR p, vR (gR h 3900702722 0)] h = some (.inl (some (vI (b01 (kd l t = 1 ∧ sI l t = 25)))), h) := f_isWord d X (by decide)
theorem tw_WHEN (d : Nat) (X : PXs h p lx l t o) : F (d + 8) 113058370 [vR p, vR (gR h 3900702722 0)] h = if kd l t = 1 ∧ sI l t = 25 then some (.inl (some (vI 1)), pI h 1285834896 p ((t + 1 : Nat) : Int)) else some (.inl (some (vI 0)), h) := tw_of d X (by decide)
theorem iw_FOR (d : Nat) (X : PXs h p lx l t o) : F (d + 7) 102572610 [vR p, vR (gR h 3934257154 0)] h = some (.inl (some (vI (b01 (kd l t = 1 ∧ sI l t = 26)))), h) := f_isWord d X (by decide)
theorem tw_FOR (d : Nat) (X : PXs h p lx l t o) : F (d + 8) 113058370 [vR p, vR (gR h 3934257154 0)] h = if kd l t = 1 ∧ sI l t = 26 then some (.inl (some (vI 1)), pI h 1285834896 p ((t + 1 : Nat) : Int)) else some (.inl (some (vI 0)), h) := tw_of d X (by decide)
theorem iw_FROM (d : Nat) (X : PXs h p lx l t o) : F (d + 7) 102572610 [vR p, vR (gR h 3942645762 0)] h = some (.inl (some (vI (b01 (kd l t = 1 ∧ sI l t = 27)))), h) := f_isWord d X (by decide)
theorem tw_FROM (d : Nat) (X : PXs h p lx l t o) : F (d + 8) 113058370 [vR p, vR (gR h 3942645762 0)] h = if kd l t = 1 ∧ sI l t = 27 then some (.inl (some (vI 1)), pI h 1285834896 p ((t + 1 : Nat) : Int)) else some (.inl (some (vI 0)), h) := tw_of d X (by decide)
theorem iw_BY (d : Nat) (X : PXs h p lx l t o) : F (d + 7) 102572610 [vR p, vR (gR h 3951034370 0)] h = some (.inl (some (vI (b01 (kd l t = 1 ∧ sI l t = 28)))), h) := f_isWord d X (by decide)
theorem tw_BY (d : Nat) (X : PXs h p lx l t o) : F (d + 8) 113058370 [vR p, vR (gR h 3951034370 0)] h = if kd l t = 1 ∧ sI l t = 28 then some (.inl (some (vI 1)), pI h 1285834896 p ((t + 1 : Nat) : Int)) else some (.inl (some (vI 0)), h) := tw_of d X (by decide)
theorem iw_TO (d : Nat) (X : PXs h p lx l t o) : F (d + 7) 102572610 [vR p, vR (gR h 3959422978 0)] h = some (.inl (some (vI (b01 (kd l t = 1 ∧ sI l t = 29)))), h) := f_isWord d X (by decide)
theorem tw_TO (d : Nat) (X : PXs h p lx l t o) : F (d + 8) 113058370 [vR p, vR (gR h 3959422978 0)] h = if kd l t = 1 ∧ sI l t = 29 then some (.inl (some (vI 1)), pI h 1285834896 p ((t + 1 : Nat) : Int)) else some (.inl (some (vI 0)), h) := tw_of d X (by decide)
theorem iw_WHILE (d : Nat) (X : PXs h p lx l t o) : F (d + 7) 102572610 [vR p, vR (gR h 3967811586 0)] h = some (.inl (some (vI (b01 (kd l t = 1 ∧ sI l t = 30)))), h) := f_isWord d X (by decide)
theorem tw_WHILE (d : Nat) (X : PXs h p lx l t o) : F (d + 8) 113058370 [vR p, vR (gR h 3967811586 0)] h = if kd l t = 1 ∧ sI l t = 30 then some (.inl (some (vI 1)), pI h 1285834896 p ((t + 1 : Nat) : Int)) else some (.inl (some (vI 0)), h) := tw_of d X (by decide)
theorem iw_DO (d : Nat) (X : PXs h p lx l t o) : F (d + 7) 102572610 [vR p, vR (gR h 3976200194 0)] h = some (.inl (some (vI (b01 (kd l t = 1 ∧ sI l t = 31)))), h) := f_isWord d X (by decide)
theorem tw_DO (d : Nat) (X : PXs h p lx l t o) : F (d + 8) 113058370 [vR p, vR (gR h 3976200194 0)] h = if kd l t = 1 ∧ sI l t = 31 then some (.inl (some (vI 1)), pI h 1285834896 p ((t + 1 : Nat) : Int)) else some (.inl (some (vI 0)), h) := tw_of d X (by decide)
theorem iw_OD (d : Nat) (X : PXs h p lx l t o) : F (d + 7) 102572610 [vR p, vR (gR h 3984588802 0)] h = some (.inl (some (vI (b01 (kd l t = 1 ∧ sI l t = 32)))), h) := f_isWord d X (by decide)
theorem tw_OD (d : Nat) (X : PXs h p lx l t o) : F (d + 8) 113058370 [vR p, vR (gR h 3984588802 0)] h = if kd l t = 1 ∧ sI l t = 32 then some (.inl (some (vI 1)), pI h 1285834896 p ((t + 1 : Nat) : Int)) else some (.inl (some (vI 0)), h) := tw_of d X (by decide)
theorem iw_PRINT (d : Nat) (X : PXs h p lx l t o) : F (d + 7) 102572610 [vR p, vR (gR h 3867148290 0)] h = some (.inl (some (vI (b01 (kd l t = 1 ∧ sI l t = 33)))), h) := f_isWord d X (by decide)
theorem tw_PRINT (d : Nat) (X : PXs h p lx l t o) : F (d + 8) 113058370 [vR p, vR (gR h 3867148290 0)] h = if kd l t = 1 ∧ sI l t = 33 then some (.inl (some (vI 1)), pI h 1285834896 p ((t + 1 : Nat) : Int)) else some (.inl (some (vI 0)), h) := tw_of d X (by decide)
theorem iw_INT (d : Nat) (X : PXs h p lx l t o) : F (d + 7) 102572610 [vR p, vR (gR h 3716153346 0)] h = some (.inl (some (vI (b01 (kd l t = 1 ∧ sI l t = 34)))), h) := f_isWord d X (by decide)
theorem tw_INT (d : Nat) (X : PXs h p lx l t o) : F (d + 8) 113058370 [vR p, vR (gR h 3716153346 0)] h = if kd l t = 1 ∧ sI l t = 34 then some (.inl (some (vI 1)), pI h 1285834896 p ((t + 1 : Nat) : Int)) else some (.inl (some (vI 0)), h) := tw_of d X (by decide)
theorem iw_BOOL (d : Nat) (X : PXs h p lx l t o) : F (d + 7) 102572610 [vR p, vR (gR h 3732930562 0)] h = some (.inl (some (vI (b01 (kd l t = 1 ∧ sI l t = 35)))), h) := f_isWord d X (by decide)
theorem tw_BOOL (d : Nat) (X : PXs h p lx l t o) : F (d + 8) 113058370 [vR p, vR (gR h 3732930562 0)] h = if kd l t = 1 ∧ sI l t = 35 then some (.inl (some (vI 1)), pI h 1285834896 p ((t + 1 : Nat) : Int)) else some (.inl (some (vI 0)), h) := tw_of d X (by decide)
theorem iw_VOID (d : Nat) (X : PXs h p lx l t o) : F (d + 7) 102572610 [vR p, vR (gR h 3741319170 0)] h = some (.inl (some (vI (b01 (kd l t = 1 ∧ sI l t = 36)))), h) := f_isWord d X (by decide)
theorem tw_VOID (d : Nat) (X : PXs h p lx l t o) : F (d + 8) 113058370 [vR p, vR (gR h 3741319170 0)] h = if kd l t = 1 ∧ sI l t = 36 then some (.inl (some (vI 1)), pI h 1285834896 p ((t + 1 : Nat) : Int)) else some (.inl (some (vI 0)), h) := tw_of d X (by decide)
theorem iw_REF (d : Nat) (X : PXs h p lx l t o) : F (d + 7) 102572610 [vR p, vR (gR h 3749707778 0)] h = some (.inl (some (vI (b01 (kd l t = 1 ∧ sI l t = 37)))), h) := f_isWord d X (by decide)
theorem tw_REF (d : Nat) (X : PXs h p lx l t o) : F (d + 8) 113058370 [vR p, vR (gR h 3749707778 0)] h = if kd l t = 1 ∧ sI l t = 37 then some (.inl (some (vI 1)), pI h 1285834896 p ((t + 1 : Nat) : Int)) else some (.inl (some (vI 0)), h) := tw_of d X (by decide)
theorem iw_PROC (d : Nat) (X : PXs h p lx l t o) : F (d + 7) 102572610 [vR p, vR (gR h 3758096386 0)] h = some (.inl (some (vI (b01 (kd l t = 1 ∧ sI l t = 38)))), h) := f_isWord d X (by decide)
theorem tw_PROC (d : Nat) (X : PXs h p lx l t o) : F (d + 8) 113058370 [vR p, vR (gR h 3758096386 0)] h = if kd l t = 1 ∧ sI l t = 38 then some (.inl (some (vI 1)), pI h 1285834896 p ((t + 1 : Nat) : Int)) else some (.inl (some (vI 0)), h) := tw_of d X (by decide)
theorem iw_STRUCT (d : Nat) (X : PXs h p lx l t o) : F (d + 7) 102572610 [vR p, vR (gR h 3766484994 0)] h = some (.inl (some (vI (b01 (kd l t = 1 ∧ sI l t = 39)))), h) := f_isWord d X (by decide)
theorem tw_STRUCT (d : Nat) (X : PXs h p lx l t o) : F (d + 8) 113058370 [vR p, vR (gR h 3766484994 0)] h = if kd l t = 1 ∧ sI l t = 39 then some (.inl (some (vI 1)), pI h 1285834896 p ((t + 1 : Nat) : Int)) else some (.inl (some (vI 0)), h) := tw_of d X (by decide)
theorem iw_UNION (d : Nat) (X : PXs h p lx l t o) : F (d + 7) 102572610 [vR p, vR (gR h 3774873602 0)] h = some (.inl (some (vI (b01 (kd l t = 1 ∧ sI l t = 40)))), h) := f_isWord d X (by decide)
theorem tw_UNION (d : Nat) (X : PXs h p lx l t o) : F (d + 8) 113058370 [vR p, vR (gR h 3774873602 0)] h = if kd l t = 1 ∧ sI l t = 40 then some (.inl (some (vI 1)), pI h 1285834896 p ((t + 1 : Nat) : Int)) else some (.inl (some (vI 0)), h) := tw_of d X (by decide)
theorem im_op (d : Nat) (X : PXs h p lx l t o) : F (d + 4) 104931906 [vR p, vJ (40)] h = some (.inl (some (vI (b01 (kd l t = 5 ∧ sI l t = 40)))), h) := f_isMark d X (by decide)
theorem tm_op (d : Nat) (X : PXs h p lx l t o) : F (d + 5) 106242626 [vR p, vJ (40)] h = if kd l t = 5 ∧ sI l t = 40 then some (.inl (some (vI 1)), pI h 1285834896 p ((t + 1 : Nat) : Int)) else some (.inl (some (vI 0)), h) := tm_of d X (by decide)
theorem ma_op (d : Nat) (X : PXs h p lx l t o) : (kd l t = 5 ∧ sI l t = 40) → F (d + 6) 108077634 [vR p, vJ (40)] h = some (.inl none, pI h 1285834896 p ((t + 1 : Nat) : Int)) := fun q => f_markY d X (by decide) q
theorem im_cp (d : Nat) (X : PXs h p lx l t o) : F (d + 4) 104931906 [vR p, vJ (41)] h = some (.inl (some (vI (b01 (kd l t = 5 ∧ sI l t = 41)))), h) := f_isMark d X (by decide)
theorem tm_cp (d : Nat) (X : PXs h p lx l t o) : F (d + 5) 106242626 [vR p, vJ (41)] h = if kd l t = 5 ∧ sI l t = 41 then some (.inl (some (vI 1)), pI h 1285834896 p ((t + 1 : Nat) : Int)) else some (.inl (some (vI 0)), h) := tm_of d X (by decide)
theorem ma_cp (d : Nat) (X : PXs h p lx l t o) : (kd l t = 5 ∧ sI l t = 41) → F (d + 6) 108077634 [vR p, vJ (41)] h = some (.inl none, pI h 1285834896 p ((t + 1 : Nat) : Int)) := fun q => f_markY d X (by decide) q
theorem im_ob (d : Nat) (X : PXs h p lx l t o) : F (d + 4) 104931906 [vR p, vJ (91)] h = some (.inl (some (vI (b01 (kd l t = 5 ∧ sI l t = 91)))), h) := f_isMark d X (by decide)
theorem tm_ob (d : Nat) (X : PXs h p lx l t o) : F (d + 5) 106242626 [vR p, vJ (91)] h = if kd l t = 5 ∧ sI l t = 91 then some (.inl (some (vI 1)), pI h 1285834896 p ((t + 1 : Nat) : Int)) else some (.inl (some (vI 0)), h) := tm_of d X (by decide)
theorem ma_ob (d : Nat) (X : PXs h p lx l t o) : (kd l t = 5 ∧ sI l t = 91) → F (d + 6) 108077634 [vR p, vJ (91)] h = some (.inl none, pI h 1285834896 p ((t + 1 : Nat) : Int)) := fun q => f_markY d X (by decide) q
theorem im_cb (d : Nat) (X : PXs h p lx l t o) : F (d + 4) 104931906 [vR p, vJ (93)] h = some (.inl (some (vI (b01 (kd l t = 5 ∧ sI l t = 93)))), h) := f_isMark d X (by decide)
theorem tm_cb (d : Nat) (X : PXs h p lx l t o) : F (d + 5) 106242626 [vR p, vJ (93)] h = if kd l t = 5 ∧ sI l t = 93 then some (.inl (some (vI 1)), pI h 1285834896 p ((t + 1 : Nat) : Int)) else some (.inl (some (vI 0)), h) := tm_of d X (by decide)
theorem ma_cb (d : Nat) (X : PXs h p lx l t o) : (kd l t = 5 ∧ sI l t = 93) → F (d + 6) 108077634 [vR p, vJ (93)] h = some (.inl none, pI h 1285834896 p ((t + 1 : Nat) : Int)) := fun q => f_markY d X (by decide) q
theorem im_co (d : Nat) (X : PXs h p lx l t o) : F (d + 4) 104931906 [vR p, vJ (44)] h = some (.inl (some (vI (b01 (kd l t = 5 ∧ sI l t = 44)))), h) := f_isMark d X (by decide)
theorem tm_co (d : Nat) (X : PXs h p lx l t o) : F (d + 5) 106242626 [vR p, vJ (44)] h = if kd l t = 5 ∧ sI l t = 44 then some (.inl (some (vI 1)), pI h 1285834896 p ((t + 1 : Nat) : Int)) else some (.inl (some (vI 0)), h) := tm_of d X (by decide)
theorem ma_co (d : Nat) (X : PXs h p lx l t o) : (kd l t = 5 ∧ sI l t = 44) → F (d + 6) 108077634 [vR p, vJ (44)] h = some (.inl none, pI h 1285834896 p ((t + 1 : Nat) : Int)) := fun q => f_markY d X (by decide) q
theorem im_se (d : Nat) (X : PXs h p lx l t o) : F (d + 4) 104931906 [vR p, vJ (59)] h = some (.inl (some (vI (b01 (kd l t = 5 ∧ sI l t = 59)))), h) := f_isMark d X (by decide)
theorem tm_se (d : Nat) (X : PXs h p lx l t o) : F (d + 5) 106242626 [vR p, vJ (59)] h = if kd l t = 5 ∧ sI l t = 59 then some (.inl (some (vI 1)), pI h 1285834896 p ((t + 1 : Nat) : Int)) else some (.inl (some (vI 0)), h) := tm_of d X (by decide)
theorem ma_se (d : Nat) (X : PXs h p lx l t o) : (kd l t = 5 ∧ sI l t = 59) → F (d + 6) 108077634 [vR p, vJ (59)] h = some (.inl none, pI h 1285834896 p ((t + 1 : Nat) : Int)) := fun q => f_markY d X (by decide) q
theorem im_cl (d : Nat) (X : PXs h p lx l t o) : F (d + 4) 104931906 [vR p, vJ (58)] h = some (.inl (some (vI (b01 (kd l t = 5 ∧ sI l t = 58)))), h) := f_isMark d X (by decide)
theorem tm_cl (d : Nat) (X : PXs h p lx l t o) : F (d + 5) 106242626 [vR p, vJ (58)] h = if kd l t = 5 ∧ sI l t = 58 then some (.inl (some (vI 1)), pI h 1285834896 p ((t + 1 : Nat) : Int)) else some (.inl (some (vI 0)), h) := tm_of d X (by decide)
theorem ma_cl (d : Nat) (X : PXs h p lx l t o) : (kd l t = 5 ∧ sI l t = 58) → F (d + 6) 108077634 [vR p, vJ (58)] h = some (.inl none, pI h 1285834896 p ((t + 1 : Nat) : Int)) := fun q => f_markY d X (by decide) q
theorem im_be (d : Nat) (X : PXs h p lx l t o) : F (d + 4) 104931906 [vR p, vJ (15674)] h = some (.inl (some (vI (b01 (kd l t = 5 ∧ sI l t = 300)))), h) := f_isMark d X (by decide)
theorem tm_be (d : Nat) (X : PXs h p lx l t o) : F (d + 5) 106242626 [vR p, vJ (15674)] h = if kd l t = 5 ∧ sI l t = 300 then some (.inl (some (vI 1)), pI h 1285834896 p ((t + 1 : Nat) : Int)) else some (.inl (some (vI 0)), h) := tm_of d X (by decide)
theorem ma_be (d : Nat) (X : PXs h p lx l t o) : (kd l t = 5 ∧ sI l t = 300) → F (d + 6) 108077634 [vR p, vJ (15674)] h = some (.inl none, pI h 1285834896 p ((t + 1 : Nat) : Int)) := fun q => f_markY d X (by decide) q
end XQ
