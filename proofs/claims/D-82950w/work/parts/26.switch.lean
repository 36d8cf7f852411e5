/-! SIMULATION: switches -/
set_option maxRecDepth 100000
def mkPs (pc dflt : Int) : Int → List Int → List (Int × Int)
  | _, [] => []
  | lo, off :: l => if off = dflt then mkPs pc dflt (lo + 1) l else (lo, pc + off) :: mkPs pc dflt (lo + 1) l
theorem swk_out {k : Kt} {x : Int} {d : Nat} {ls st : List PV} {h : PH} {pc dflt : Int} : ∀ (offs : List Int) (lo : Int), (x < lo ∨ lo + offs.length ≤ x) → swk k x d ls st h (mkPs pc dflt lo offs) = k d ls st h
  | [], lo, _ => rfl
  | off :: l, lo, hx => by
    have hx2 : x < lo ∨ lo + (l.length + 1 : Nat) ≤ x := hx
    have h1 := swk_out (k := k) (x := x) (d := d) (ls := ls) (st := st) (h := h) (pc := pc) (dflt := dflt) l (lo + 1) (by omega)
    unfold mkPs
    split
    · exact h1
    · show (if x = lo then _ else _) = _
      rw [if_neg (by omega)]
      exact h1
theorem swk_in {k : Kt} {x : Int} {d : Nat} {ls st : List PV} {h : PH} {pc dflt off : Int} (hd : d = (pc + dflt).toNat) : ∀ (offs : List Int) (lo : Int), lo ≤ x → offs[(x - lo).toNat]? = some off → swk k x d ls st h (mkPs pc dflt lo offs) = k (pc + off).toNat ls st h
  | [], lo, _, ho => by simp at ho
  | o1 :: l, lo, h1, ho => by
    by_cases e : x = lo
    · subst e
      have : o1 = off := by simpa using ho
      subst this
      unfold mkPs
      split
      · rename_i e2
        rw [swk_out l (x + 1) (Or.inl (by omega)), hd, e2]
      · show (if x = x then _ else _) = _
        rw [if_pos rfl]
    · have h2 := swk_in (k := k) (x := x) (d := d) (ls := ls) (st := st) (h := h) (pc := pc) (dflt := dflt) (off := off) hd l (lo + 1) (by omega) (by
        have e3 : (x - lo).toNat = (x - (lo + 1)).toNat + 1 := by omega
        rw [e3] at ho
        simpa using ho)
      unfold mkPs
      split
      · exact h2
      · show (if x = lo then _ else _) = _
        rw [if_neg e]
        exact h2
theorem swk_look {k : Kt} {x : Int} {d : Nat} {ls st : List PV} {h : PH} {pc dflt : Int} (hd : d = (pc + dflt).toNat) : ∀ (ps : List (Int × Int)), swk k x d ls st h (ps.map fun q => (q.1, pc + q.2)) = k (pc + Op.lookupswitch.offset ps dflt x).toNat ls st h
  | [] => by rw [hd]; rfl
  | (v, off) :: l => by
    show (if x = v then _ else _) = _
    have h1 := swk_look (k := k) (x := x) (d := d) (ls := ls) (st := st) (h := h) (pc := pc) (dflt := dflt) hd l
    unfold Op.lookupswitch.offset
    by_cases e : x = v
    · rw [if_pos e]
      simp [e]
    · rw [if_neg e]
      simp [Ne.symm e]
      exact h1
/-- a switch as the bytes have it, and as the resolved row has it -/
def SwR (code : ByteArray) (pc len : Nat) (d : Int) (ps : Array (Int × Int)) : Prop :=
  (∃ (dflt lo hi : Int) (offs : Array Int), decode code pc = .ok (.tableswitch dflt lo hi offs, len) ∧ hi = lo + offs.size - 1 ∧ d = pc + dflt ∧ 0 ≤ d ∧ ps.toList = mkPs pc dflt lo offs.toList ∧ ∀ o ∈ offs.toList, 0 ≤ (pc : Int) + o) ∨
  (∃ (dflt : Int) (qs : Array (Int × Int)), decode code pc = .ok (.lookupswitch dflt qs, len) ∧ (qs.toList.zip (qs.toList.drop 1)).all (fun (a, next) => a.1 < next.1) = true ∧ d = pc + dflt ∧ 0 ≤ d ∧ ps.toList = qs.toList.map (fun q => (q.1, (pc : Int) + q.2)) ∧ (∀ o ∈ qs.toList, 0 ≤ (pc : Int) + o.2))
theorem off_ge {pc : Nat} {dflt x : Int} (hd : 0 ≤ (pc : Int) + dflt) : ∀ qs : List (Int × Int), (∀ o ∈ qs, 0 ≤ (pc : Int) + o.2) → 0 ≤ (pc : Int) + Op.lookupswitch.offset qs dflt x
  | [], _ => hd
  | q :: l, h => by
    unfold Op.lookupswitch.offset
    have h1 := off_ge (x := x) hd l (fun o ho => h o (List.mem_cons_of_mem _ ho))
    by_cases e : q.1 = x
    · simp [e]; exact h q List.mem_cons_self
    · simp [e]; exact h1
theorem sim_switch {s0 : State} {K : KX} {p : Program} {l : Launch} {e : Env} {d : Nat} {s : State} {m : MethodId} {args : Array Value} {below : List Frame} {meth : Method} {c : Code} {M : Nat} {hS hE : PH} {o : Ot} {cf : Nat → List PV → PH → Rs} {k : Kt} (hx : p.tables.exec = Jvm.exec) (hkk : SimK s0 K p l e d s m args below meth c hS hE o M k) {pc len : Nat} {dd : Int} {ps : Array (Int × Int)} (hsw : SwR c.code pc len dd ps)
    {lp st : List PV} {h : PH} {H : Heap} {ls : Array Slot} {locs : List Loc} (he : stI cf k M pc (pc + len) (.lookupswitch dd ps) lp st h = some (o, hE)) (hlen : lp.length = mxM M) (hL : LV ls lp) (hwl : WFv lp) (hws : WFv st) (hR : Rep s0 K h H) (hG : Ge hS h) (hfr : ∀ q ∈ locs, fr0 s0 q.base) :
    GW s0 K p l e d s m args below meth c hS hE o h H locs (F0 m pc ls (st.map cv)) := by
  rcases st with _ | ⟨x | ⟨x | ⟨x | x⟩⟩, st⟩ <;> first | exact no_e (show (none : Rs) = some (o, hE) from he) | skip
  have he : swk k x dd.toNat lp st h ps.toList = some (o, hE) := he
  have hxr : in32 x := hws.hd
  have ex : (Int32.ofInt x).toInt = x := of32 hxr
  rcases hsw with ⟨dflt, lo, hi, offs, h1, h2, h3, h4, h5, h6⟩ | ⟨dflt, qs, h1, h2, h3, h4, h5, h6⟩
  · rw [h5] at he
    by_cases hin : x < lo ∨ hi < x
    · rw [swk_out _ _ (by simp only [Array.length_toList]; omega)] at he
      exact lv_tableOut hx rfl h1 (by rw [ex]; exact hin) (tgt := dd.toNat) (by omega) (hkk _ _ _ _ _ _ _ he hlen hL hwl hws.tl hR hG hfr)
    · have hlt : (x - lo).toNat < offs.size := by omega
      have ho : offs[(x - lo).toNat]? = some offs[(x - lo).toNat] := Array.getElem?_eq_some_iff.mpr ⟨hlt, rfl⟩
      have ho2 : offs.toList[(x - lo).toNat]? = some offs[(x - lo).toNat] := by rw [Array.getElem?_toList]; exact ho
      rw [swk_in (by rw [h3]) _ _ (by omega) ho2] at he
      have hge := h6 _ (List.mem_of_getElem? ho2)
      exact lv_tableIn hx rfl h1 (by rw [ex]; omega) (by rw [ex]; omega) (by rw [ex]; exact ho) (tgt := ((pc : Int) + offs[(x - lo).toNat]).toNat) (by omega) (hkk _ _ _ _ _ _ _ he hlen hL hwl hws.tl hR hG hfr)
  · rw [h5, swk_look (by rw [h3])] at he
    have hge := off_ge (x := x) (h3 ▸ h4) qs.toList h6
    exact lv_lookup hx rfl h1 h2 (by rw [ex]) (tgt := ((pc : Int) + Op.lookupswitch.offset qs.toList dflt x).toNat) (by omega) (hkk _ _ _ _ _ _ _ he hlen hL hwl hws.tl hR hG hfr)
