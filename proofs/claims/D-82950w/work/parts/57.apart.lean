/-! TWO HEAPS THAT ARE ALIKE ON A SET OF KEYS: code that is begun on such keys does the same on both, and changes no other key -/
set_option maxRecDepth 100000
def okP (P : Nat → Prop) (v : PV) : Prop := match v with
  | .inr (.inr (.inl r)) => P r
  | _ => True
def AllV (P : Nat → Prop) (l : List PV) : Prop := ∀ v ∈ l, okP P v
def okO (P : Nat → Prop) (o : Ot) : Prop := match o with
  | .inl (some v) => okP P v
  | .inl none => True
  | .inr e => P e
/-- references in statics that code reads and uses -/
def rSt : List Nat := [3590324226, 3598712834, 3607101442, 3615490050, 3623878658, 3632267266, 3640655874, 3649044482, 3657433090, 3665821698, 3674210306, 3682598914, 3690987522, 3699376130, 3707764738, 3716153346, 3724541954, 3732930562, 3741319170, 3749707778, 3758096386, 3766484994, 3774873602, 3783262210, 3791650818, 3800039426, 3808428034, 3816816642, 3825205250, 3833593858, 3841982466, 3850371074, 3858759682, 3867148290, 3875536898, 3883925506, 3892314114, 3900702722, 3909091330, 3917479938, 3925868546, 3934257154, 3942645762, 3951034370, 3959422978, 3967811586, 3976200194, 3984588802, 3992977410, 4001366018, 4009754626, 4034920450, 4043309058, 4051697666, 4068474882, 4076863490, 4085252098, 4093640706]
abbrev unt (f : Nat) : Prop := f = 3467599538 ∨ f = 3475988146
/-- what lies in such keys are such keys -/
def Cl (P : Nat → Prop) (h : PH) : Prop := P 0 ∧ (∀ f, rSt.elem f = true → P (gR h f 0)) ∧ (∀ r f, P r → f % 4 = 2 → ¬ unt f → iFs.elem f = true → inT (f / 4 % 128) (f / 65536 % 128) (hc h r) → P (gR h f r)) ∧ (∀ r j, P r → (inT 71 77 (hc h r) ∨ inT 71 77 (kc h r)) → inA j (hl h r) → P (eR h r j)) ∧ 0 < hn h ∧ (∀ r, hn h ≤ r → hc h r = 0 ∧ kc h r = 0) ∧ ∀ r, kc h r ≠ 0 → mdA (hc h r) = false
def SmR (h g : PH) (r : Nat) : Prop := hc g r = hc h r ∧ hl g r = hl h r ∧ (∀ f, gI g f r = gI h f r) ∧ (∀ f, gJ g f r = gJ h f r) ∧ (∀ f, gR g f r = gR h f r) ∧ (∀ j, eI g r j = eI h r j) ∧ (∀ j, eJ g r j = eJ h r j) ∧ ∀ j, eR g r j = eR h r j
def Sm (al : Bool) (N : Nat) (P : Nat → Prop) (h g : PH) : Prop := (∀ r, P r ∨ (al = true ∧ hn h ≤ r) → SmR h g r) ∧ (al = true → (hn g = hn h ∧ hs g = hs h ∧ hk g = hk h) ∧ N ≤ hn h)
def Ou (al : Bool) (P : Nat → Prop) (g g1 : PH) : Prop := (∀ r, ¬ P r → SmR g g1 r) ∧ (al = false → hn g1 = hn g ∧ hs g1 = hs g ∧ hk g1 = hk g)
/-- keys that grow with the heap: those of P, all of them in Q -/
def PO (al : Bool) (P : Nat → Nat → Prop) (Q : Nat → Prop) (N : Nat) : Prop := (∀ n m r, n ≤ m → P n r → P m r) ∧ (∀ n r, P n r → Q r) ∧ (al = true → ∀ n, N ≤ n → P (n + 1) n) ∧ ∀ n r, P (n + 1) r → P n r ∨ r = n
def WW (al : Bool) (N : Nat) (P : Nat → Nat → Prop) (Q : Nat → Prop) (g0 h g : PH) : Prop := Cl (P (hn h)) h ∧ Sm al N (P (hn h)) h g ∧ Ou al Q g0 g
section APART
variable {al : Bool} {N : Nat} {P : Nat → Nat → Prop} {Q : Nat → Prop} {g0 h g : PH}
theorem SmR.rf {r : Nat} : SmR h h r := ⟨rfl, rfl, fun _ => rfl, fun _ => rfl, fun _ => rfl, fun _ => rfl, fun _ => rfl, fun _ => rfl⟩
theorem SmR.tr {a b c : PH} {r : Nat} (x : SmR a b r) (y : SmR b c r) : SmR a c r := ⟨y.1.trans x.1, y.2.1.trans x.2.1, fun f => (y.2.2.1 f).trans (x.2.2.1 f), fun f => (y.2.2.2.1 f).trans (x.2.2.2.1 f), fun f => (y.2.2.2.2.1 f).trans (x.2.2.2.2.1 f), fun f => (y.2.2.2.2.2.1 f).trans (x.2.2.2.2.2.1 f), fun f => (y.2.2.2.2.2.2.1 f).trans (x.2.2.2.2.2.2.1 f), fun f => (y.2.2.2.2.2.2.2 f).trans (x.2.2.2.2.2.2.2 f)⟩
theorem Ou.rf : Ou al Q g g := ⟨fun _ _ => SmR.rf, fun _ => ⟨rfl, rfl, rfl⟩⟩
theorem Ou.tr {a b c : PH} (x : Ou al Q a b) (y : Ou al Q b c) : Ou al Q a c := ⟨fun r hr => (x.1 r hr).tr (y.1 r hr), fun e => ⟨(y.2 e).1.trans (x.2 e).1, (y.2 e).2.1.trans (x.2 e).2.1, (y.2 e).2.2.trans (x.2 e).2.2⟩⟩
theorem ww_p0 (G : WW al N P Q g0 h g) : P (hn h) 0 := G.1.1
theorem ww_sm (G : WW al N P Q g0 h g) {r : Nat} (hr : P (hn h) r) : SmR h g r := G.2.1.1 r (Or.inl hr)
theorem ww_kc (G : WW al N P Q g0 h g) (r : Nat) : kc g r = kc h r := ((ww_sm G) (ww_p0 G)).2.2.2.2.1 _
theorem ww_st (G : WW al N P Q g0 h g) (f : Nat) : gI g f 0 = gI h f 0 ∧ gJ g f 0 = gJ h f 0 ∧ gR g f 0 = gR h f 0 := ⟨((ww_sm G) (ww_p0 G)).2.2.1 _, ((ww_sm G) (ww_p0 G)).2.2.2.1 _, ((ww_sm G) (ww_p0 G)).2.2.2.2.1 _⟩
theorem av_c {R : Nat → Prop} {v : PV} {l : List PV} (a : okP R v) (b : AllV R l) : AllV R (v :: l) := fun w hw => by
  rcases List.mem_cons.mp hw with e | e
  · rw [e]; exact a
  · exact b w e
theorem av_h {R : Nat → Prop} {v : PV} {l : List PV} (a : AllV R (v :: l)) : okP R v := a v List.mem_cons_self
theorem av_t {R : Nat → Prop} {v : PV} {l : List PV} (a : AllV R (v :: l)) : AllV R l := fun w hw => a w (List.mem_cons_of_mem _ hw)
theorem av_n {R : Nat → Prop} : AllV R [] := fun _ hw => by cases hw
theorem av_get {R : Nat → Prop} : ∀ {l : List PV} {n : Nat}, AllV R l → okP R (lget l n)
  | [], _, _ => trivial
  | _ :: _, 0, a => av_h a
  | _ :: l, n + 1, a => av_get (l := l) (n := n) (av_t a)
theorem av_set {R : Nat → Prop} : ∀ {l : List PV} {n : Nat} {v : PV}, AllV R l → okP R v → AllV R (lset l n v)
  | [], _, _, a, _ => a
  | _ :: _, 0, _, a, b => av_c b (av_t a)
  | _ :: l, n + 1, v, a, b => av_c (av_h a) (av_set (l := l) (n := n) (v := v) (av_t a) b)
theorem av_pop {R : Nat → Prop} : ∀ {n : Nat} {acc st a st' : List PV}, AllV R acc → AllV R st → popN n acc st = some (a, st') → AllV R a ∧ AllV R st'
  | 0, acc, st, a, st', x, y, e => by
    unfold popN at e; cases e; exact ⟨x, y⟩
  | n + 1, acc, [], a, st', x, y, e => by unfold popN at e; cases e
  | n + 1, acc, v :: st, a, st', x, y, e => by
    unfold popN at e
    exact av_pop (n := n) (av_c (av_h y) x) (av_t y) e
theorem av_ent {R : Nat → Prop} : ∀ {l : List PV}, AllV R l → AllV R (entL l)
  | [], a => a
  | .inl _ :: l, a => av_c trivial (av_ent (l := l) (av_t a))
  | .inr (.inl _) :: l, a => av_c trivial (av_c trivial (av_ent (l := l) (av_t a)))
  | .inr (.inr (.inl _)) :: l, a => av_c (av_h a) (av_ent (l := l) (av_t a))
  | .inr (.inr (.inr _)) :: l, a => av_c trivial (av_ent (l := l) (av_t a))
theorem av_pad {R : Nat → Prop} : ∀ {n : Nat} {l : List PV}, AllV R l → AllV R (padL n l)
  | 0, _, a => a
  | n + 1, [], a => av_c trivial (av_pad (n := n) (l := []) a)
  | n + 1, _ :: l, a => av_c (av_h a) (av_pad (n := n) (l := l) (av_t a))
theorem av_m {P1 P2 : Nat → Prop} {l : List PV} (z : ∀ r, P1 r → P2 r) (a : AllV P1 l) : AllV P2 l := fun v hv => by
  have q := a v hv
  rcases v with v | ⟨v | ⟨v | v⟩⟩
  · trivial
  · trivial
  · exact z _ q
  · trivial
theorem Cl.up {P1 P2 : Nat → Prop} (z : ∀ r, P1 r → P2 r) (y : ∀ r, P2 r → P1 r) (c : Cl P1 h) : Cl P2 h := ⟨z _ c.1, fun f hf => z _ (c.2.1 f hf), fun r f hr e1 e2 e3 e4 => z _ (c.2.2.1 r f (y _ hr) e1 e2 e3 e4), fun r j hr e1 e2 => z _ (c.2.2.2.1 r j (y _ hr) e1 e2), c.2.2.2.2⟩
theorem ww_pI {f r : Nat} {v : Int} (G : WW al N P Q g0 h g) (hP : PO al P Q N) (hr : P (hn h) r) : WW al N P Q g0 (pI h f r v) (pI g f r v) := by
  refine ⟨G.1, ⟨fun q hq => ?_, G.2.1.2⟩, ⟨fun q hq => ?_, G.2.2.2⟩⟩
  · obtain ⟨c1, c2, c3, c4, c5, c6, c7, c8⟩ := G.2.1.1 q hq
    exact ⟨c1, c2, fun f' => by show up2 (gI g) f r v f' q = up2 (gI h) f r v f' q; unfold up2; rw [c3], c4, c5, c6, c7, c8⟩
  · obtain ⟨c1, c2, c3, c4, c5, c6, c7, c8⟩ := G.2.2.1 q hq
    exact ⟨c1, c2, fun f' => by show up2 (gI g) f r v f' q = _; unfold up2; rw [if_neg (by rintro ⟨-, z⟩; exact hq (z ▸ hP.2.1 _ _ hr))]; exact c3 f', c4, c5, c6, c7, c8⟩
theorem ww_pJ {f r : Nat} {v : Int} (G : WW al N P Q g0 h g) (hP : PO al P Q N) (hr : P (hn h) r) : WW al N P Q g0 (pJ h f r v) (pJ g f r v) := by
  refine ⟨G.1, ⟨fun q hq => ?_, G.2.1.2⟩, ⟨fun q hq => ?_, G.2.2.2⟩⟩
  · obtain ⟨c1, c2, c3, c4, c5, c6, c7, c8⟩ := G.2.1.1 q hq
    exact ⟨c1, c2, c3, fun f' => by show up2 (gJ g) f r v f' q = up2 (gJ h) f r v f' q; unfold up2; rw [c4], c5, c6, c7, c8⟩
  · obtain ⟨c1, c2, c3, c4, c5, c6, c7, c8⟩ := G.2.2.1 q hq
    exact ⟨c1, c2, c3, fun f' => by show up2 (gJ g) f r v f' q = _; unfold up2; rw [if_neg (by rintro ⟨-, z⟩; exact hq (z ▸ hP.2.1 _ _ hr))]; exact c4 f', c5, c6, c7, c8⟩
theorem kc_pR {f r v q : Nat} (e : f % 4 = 2) : kc (pR h f r v) q = kc h q := by
  show up2 (gR h) f r v (4 * q + 1) 0 = _
  unfold up2
  rw [if_neg (fun z => by omega)]
  rfl
theorem ww_pR {f r v : Nat} (G : WW al N P Q g0 h g) (hP : PO al P Q N) (hr : P (hn h) r) (hv : P (hn h) v ∨ unt f) (e4 : f % 4 = 2) : WW al N P Q g0 (pR h f r v) (pR g f r v) := by
  refine ⟨⟨G.1.1, fun f' hf' => ?_, fun q f' hq e1 e2 e5 e3 => ?_, fun q j hq e1 e2 => ?_, G.1.2.2.2.2.1, fun q hq => by rw [kc_pR e4]; exact G.1.2.2.2.2.2.1 q hq, fun q hq => by rw [kc_pR e4] at hq; exact G.1.2.2.2.2.2.2 q hq⟩, ⟨fun q hq => ?_, G.2.1.2⟩, ⟨fun q hq => ?_, G.2.2.2⟩⟩
  · show P (hn h) (up2 (gR h) f r v f' 0)
    unfold up2
    split
    · rcases hv with z | z
      · exact z
      · rename_i w
        rcases z with z | z <;> rw [w.1, z] at hf' <;> exact absurd hf' (by decide)
    · exact G.1.2.1 f' hf'
  · show P (hn h) (up2 (gR h) f r v f' q)
    unfold up2
    split
    · rename_i w
      rcases hv with z | z
      · exact z
      · rw [w.1] at e2; exact absurd z e2
    · exact G.1.2.2.1 q f' hq e1 e2 e5 e3
  · rw [kc_pR e4] at e1
    exact G.1.2.2.2.1 q j hq e1 e2
  · obtain ⟨c1, c2, c3, c4, c5, c6, c7, c8⟩ := G.2.1.1 q hq
    exact ⟨c1, c2, c3, c4, fun f' => by show up2 (gR g) f r v f' q = up2 (gR h) f r v f' q; unfold up2; rw [c5], c6, c7, c8⟩
  · obtain ⟨c1, c2, c3, c4, c5, c6, c7, c8⟩ := G.2.2.1 q hq
    exact ⟨c1, c2, c3, c4, fun f' => by show up2 (gR g) f r v f' q = _; unfold up2; rw [if_neg (by rintro ⟨-, z⟩; exact hq (z ▸ hP.2.1 _ _ hr))]; exact c5 f', c6, c7, c8⟩
theorem ww_qI {r : Nat} {i v : Int} (G : WW al N P Q g0 h g) (hP : PO al P Q N) (hr : P (hn h) r) : WW al N P Q g0 (qI h r i v) (qI g r i v) := by
  refine ⟨G.1, ⟨fun q hq => ?_, G.2.1.2⟩, ⟨fun q hq => ?_, G.2.2.2⟩⟩
  · obtain ⟨c1, c2, c3, c4, c5, c6, c7, c8⟩ := G.2.1.1 q hq
    exact ⟨c1, c2, c3, c4, c5, fun j => by show ue2 (eI g) r i v q j = ue2 (eI h) r i v q j; unfold ue2; rw [c6], c7, c8⟩
  · obtain ⟨c1, c2, c3, c4, c5, c6, c7, c8⟩ := G.2.2.1 q hq
    exact ⟨c1, c2, c3, c4, c5, fun j => by show ue2 (eI g) r i v q j = _; unfold ue2; rw [if_neg (by rintro ⟨z, -⟩; exact hq (z ▸ hP.2.1 _ _ hr))]; exact c6 j, c7, c8⟩
theorem ww_qJ {r : Nat} {i v : Int} (G : WW al N P Q g0 h g) (hP : PO al P Q N) (hr : P (hn h) r) : WW al N P Q g0 (qJ h r i v) (qJ g r i v) := by
  refine ⟨G.1, ⟨fun q hq => ?_, G.2.1.2⟩, ⟨fun q hq => ?_, G.2.2.2⟩⟩
  · obtain ⟨c1, c2, c3, c4, c5, c6, c7, c8⟩ := G.2.1.1 q hq
    exact ⟨c1, c2, c3, c4, c5, c6, fun j => by show ue2 (eJ g) r i v q j = ue2 (eJ h) r i v q j; unfold ue2; rw [c7], c8⟩
  · obtain ⟨c1, c2, c3, c4, c5, c6, c7, c8⟩ := G.2.2.1 q hq
    exact ⟨c1, c2, c3, c4, c5, c6, fun j => by show ue2 (eJ g) r i v q j = _; unfold ue2; rw [if_neg (by rintro ⟨z, -⟩; exact hq (z ▸ hP.2.1 _ _ hr))]; exact c7 j, c8⟩
theorem ww_qR {r v : Nat} {i : Int} (G : WW al N P Q g0 h g) (hP : PO al P Q N) (hr : P (hn h) r) (hv : P (hn h) v) : WW al N P Q g0 (qR h r i v) (qR g r i v) := by
  refine ⟨⟨G.1.1, G.1.2.1, G.1.2.2.1, fun q j hq e1 e2 => ?_, G.1.2.2.2.2⟩, ⟨fun q hq => ?_, G.2.1.2⟩, ⟨fun q hq => ?_, G.2.2.2⟩⟩
  · show P (hn h) (ue2 (eR h) r i v q j)
    unfold ue2
    split
    · exact hv
    · exact G.1.2.2.2.1 q j hq e1 e2
  · obtain ⟨c1, c2, c3, c4, c5, c6, c7, c8⟩ := G.2.1.1 q hq
    exact ⟨c1, c2, c3, c4, c5, c6, c7, fun j => by show ue2 (eR g) r i v q j = ue2 (eR h) r i v q j; unfold ue2; rw [c8]⟩
  · obtain ⟨c1, c2, c3, c4, c5, c6, c7, c8⟩ := G.2.2.1 q hq
    exact ⟨c1, c2, c3, c4, c5, c6, c7, fun j => by show ue2 (eR g) r i v q j = _; unfold ue2; rw [if_neg (by rintro ⟨z, -⟩; exact hq (z ▸ hP.2.1 _ _ hr))]; exact c8 j⟩
theorem ww_pn (G : WW true N P Q g0 h g) (hP : PO true P Q N) : P (hn h + 1) (hn h) := hP.2.2.1 rfl _ (G.2.1.2 rfl).2
theorem PO.s (hP : PO al P Q N) {n r : Nat} (a : P n r) : P (n + 1) r := hP.1 _ _ _ (Nat.le_succ n) a
theorem ww_hne (G : WW true N P Q g0 h g) : hn g = hn h := (G.2.1.2 rfl).1.1
theorem kc_nO {t n q : Nat} (hp : 0 < hn h) : kc (nO h t n) q = kc h q := if_neg (by omega)
theorem ww_nO {t n : Nat} (G : WW true N P Q g0 h g) (hP : PO true P Q N) (ht : t ≤ 70) : WW true N P Q g0 (nO h t n) (nO g t n) := by
  have e := (ww_hne G)
  obtain ⟨⟨-, e2, e3⟩, e4⟩ := G.2.1.2 rfl
  have hp := ww_pn G hP
  have pd : ∀ {q}, P (hn h + 1) q → q ≠ hn h → P (hn h) q := fun z w => (hP.2.2.2 _ _ z).resolve_right w
  have h0 := G.1.2.2.2.2.1
  refine ⟨⟨hP.s G.1.1, fun f' hf' => ?_, fun q f' hq e1 e2 e5 e3 => ?_, fun q j hq e1 e2 => ?_, Nat.succ_pos _, fun q hq => ⟨(if_neg (by have : hn h + 1 ≤ q := hq; omega)).trans (G.1.2.2.2.2.2.1 q (by have : hn h + 1 ≤ q := hq; omega)).1, by rw [kc_nO h0]; exact (G.1.2.2.2.2.2.1 q (by have : hn h + 1 ≤ q := hq; omega)).2⟩, fun q hq => ?_⟩, ⟨fun q hq => ?_, fun _ => ⟨⟨by show hn g + 1 = hn h + 1; rw [e], by show hs g + n = hs h + n; rw [e2], by show hk g + 1 = hk h + 1; rw [e3]⟩, Nat.le_succ_of_le e4⟩⟩, ⟨fun q hq => ?_, fun z => by cases z⟩⟩
  · show P (hn h + 1) (if 0 = hn h then 0 else gR h f' 0)
    rw [if_neg (by omega)]
    exact hP.s (G.1.2.1 f' hf')
  · show P (hn h + 1) (if q = hn h then 0 else gR h f' q)
    split
    · exact hP.s G.1.1
    · rename_i w
      refine hP.s (G.1.2.2.1 q f' (pd hq w) e1 e2 e5 ?_)
      have z : inT (f' / 4 % 128) (f' / 65536 % 128) (up1 (hc h) (hn h) t q) := e3
      unfold up1 at z
      rw [if_neg w] at z
      exact z
  · rw [kc_nO h0] at e1
    have z : inT 71 77 (up1 (hc h) (hn h) t q) ∨ inT 71 77 (kc h q) := e1
    unfold up1 at z
    by_cases w : q = hn h
    · rw [if_pos w, w, (G.1.2.2.2.2.2.1 _ (Nat.le_refl _)).2] at z
      rcases z with z | z
      · exact absurd z.1 (by omega)
      · exact absurd z.1 (by decide)
    · rw [if_neg w] at z
      exact hP.s (G.1.2.2.2.1 q j (pd hq w) z e2)
  · rw [kc_nO h0] at hq
    have w : q ≠ hn h := fun z => hq (by rw [z]; exact (G.1.2.2.2.2.2.1 _ (Nat.le_refl _)).2)
    rw [show hc (nO h t n) q = hc h q from if_neg w]
    exact G.1.2.2.2.2.2.2 q hq
  · obtain ⟨c1, c2, c3, c4, c5, c6, c7, c8⟩ := G.2.1.1 q (by
      rcases hq with z | z
      · rcases hP.2.2.2 _ _ z with y | y
        · exact Or.inl y
        · exact Or.inr ⟨rfl, Nat.le_of_eq y.symm⟩
      · exact Or.inr ⟨rfl, Nat.le_of_succ_le z.2⟩)
    refine ⟨?_, c2, fun f' => ?_, fun f' => ?_, fun f' => ?_, c6, c7, c8⟩
    · show up1 (hc g) (hn g) t q = up1 (hc h) (hn h) t q
      unfold up1; rw [e, c1]
    · show (if q = hn g then 0 else gI g f' q) = if q = hn h then 0 else gI h f' q
      rw [e, c3]
    · show (if q = hn g then 0 else gJ g f' q) = if q = hn h then 0 else gJ h f' q
      rw [e, c4]
    · show (if q = hn g then 0 else gR g f' q) = if q = hn h then 0 else gR h f' q
      rw [e, c5]
  · obtain ⟨c1, c2, c3, c4, c5, c6, c7, c8⟩ := G.2.2.1 q hq
    have w : q ≠ hn g := fun z => hq (by rw [z, e]; exact hP.2.1 _ _ hp)
    refine ⟨?_, c2, fun f' => ?_, fun f' => ?_, fun f' => ?_, c6, c7, c8⟩
    · show up1 (hc g) (hn g) t q = _
      unfold up1; rw [if_neg w]; exact c1
    · exact (if_neg w).trans (c3 f')
    · exact (if_neg w).trans (c4 f')
    · exact (if_neg w).trans (c5 f')
theorem ww_nA {t : Nat} {n : Int} (G : WW true N P Q g0 h g) (hP : PO true P Q N) (ht : 56 ≤ t) : WW true N P Q g0 (nA h t n) (nA g t n) := by
  have e := (ww_hne G)
  obtain ⟨⟨-, e2, e3⟩, e4⟩ := G.2.1.2 rfl
  have hp := ww_pn G hP
  have pd : ∀ {q}, P (hn h + 1) q → q ≠ hn h → P (hn h) q := fun z w => (hP.2.2.2 _ _ z).resolve_right w
  refine ⟨⟨hP.s G.1.1, fun f' hf' => hP.s (G.1.2.1 f' hf'), fun q f' hq e1 e2 e5 e3 => ?_, fun q j hq e1 e2 => ?_, Nat.succ_pos _, fun q hq => ⟨(if_neg (by have : hn h + 1 ≤ q := hq; omega)).trans (G.1.2.2.2.2.2.1 q (by have : hn h + 1 ≤ q := hq; omega)).1, (G.1.2.2.2.2.2.1 q (by have : hn h + 1 ≤ q := hq; omega)).2⟩, fun q hq => ?_⟩, ⟨fun q hq => ?_, fun _ => ⟨⟨by show hn g + 1 = hn h + 1; rw [e], by show hs g + n.toNat = hs h + n.toNat; rw [e2], by show hk g + 1 = hk h + 1; rw [e3]⟩, Nat.le_succ_of_le e4⟩⟩, ⟨fun q hq => ?_, fun z => by cases z⟩⟩
  · have z : inT (f' / 4 % 128) (f' / 65536 % 128) (up1 (hc h) (hn h) t q) := e3
    unfold up1 at z
    by_cases w : q = hn h
    · rw [if_pos w] at z
      have q := List.all_eq_true.mp iF_hi f' (List.elem_iff.mp e5)
      rw [Bool.and_eq_true, decide_eq_true_eq] at q
      exact absurd z.2 (by omega)
    · rw [if_neg w] at z
      exact hP.s (G.1.2.2.1 q f' (pd hq w) e1 e2 e5 z)
  · show P (hn h + 1) (if q = hn h then 0 else eR h q j)
    split
    · exact hP.s G.1.1
    · rename_i w
      have z : inT 71 77 (up1 (hc h) (hn h) t q) ∨ inT 71 77 (kc h q) := e1
      have z2 : inA j (up1 (hl h) (hn h) n q) := e2
      unfold up1 at z z2
      rw [if_neg w] at z z2
      exact hP.s (G.1.2.2.2.1 q j (pd hq w) z z2)
  · have w : q ≠ hn h := fun z => hq (by rw [z]; exact (G.1.2.2.2.2.2.1 _ (Nat.le_refl _)).2)
    rw [show hc (nA h t n) q = hc h q from if_neg w]
    exact G.1.2.2.2.2.2.2 q hq
  · obtain ⟨c1, c2, c3, c4, c5, c6, c7, c8⟩ := G.2.1.1 q (by
      rcases hq with z | z
      · rcases hP.2.2.2 _ _ z with y | y
        · exact Or.inl y
        · exact Or.inr ⟨rfl, Nat.le_of_eq y.symm⟩
      · exact Or.inr ⟨rfl, Nat.le_of_succ_le z.2⟩)
    refine ⟨?_, ?_, c3, c4, c5, fun f' => ?_, fun f' => ?_, fun f' => ?_⟩
    · show up1 (hc g) (hn g) t q = up1 (hc h) (hn h) t q
      unfold up1; rw [e, c1]
    · show up1 (hl g) (hn g) n q = up1 (hl h) (hn h) n q
      unfold up1; rw [e, c2]
    · show (if q = hn g then 0 else eI g q f') = if q = hn h then 0 else eI h q f'
      rw [e, c6]
    · show (if q = hn g then 0 else eJ g q f') = if q = hn h then 0 else eJ h q f'
      rw [e, c7]
    · show (if q = hn g then 0 else eR g q f') = if q = hn h then 0 else eR h q f'
      rw [e, c8]
  · obtain ⟨c1, c2, c3, c4, c5, c6, c7, c8⟩ := G.2.2.1 q hq
    have w : q ≠ hn g := fun z => hq (by rw [z, e]; exact hP.2.1 _ _ hp)
    refine ⟨?_, ?_, c3, c4, c5, fun f' => ?_, fun f' => ?_, fun f' => ?_⟩
    · show up1 (hc g) (hn g) t q = _
      unfold up1; rw [if_neg w]; exact c1
    · show up1 (hl g) (hn g) n q = _
      unfold up1; rw [if_neg w]; exact c2
    · exact (if_neg w).trans (c6 f')
    · exact (if_neg w).trans (c7 f')
    · exact (if_neg w).trans (c8 f')
theorem okE_g (G : WW al N P Q g0 h g) {t v : Nat} (hv : P (hn h) v) : okE g t v ↔ okE h t v := by
  unfold okE
  rw [((ww_sm G) hv).1]
theorem ww_aC {a b : Nat} {i j n : Int} (G : WW al N P Q g0 h g) (hP : PO al P Q N) (ha : P (hn h) a) (hb : P (hn h) b) (hi : 0 ≤ i) (hn1 : i + n ≤ hl h a) (ht : (inT 71 77 (hc h b) ∨ inT 71 77 (kc h b)) → (inT 71 77 (hc h a) ∨ inT 71 77 (kc h a))) : WW al N P Q g0 (aC h a i b j n) (aC g a i b j n) := by
  obtain ⟨d1, d2, d3, d4, d5, d6, d7, d8⟩ := (ww_sm G) ha
  refine ⟨⟨G.1.1, G.1.2.1, G.1.2.2.1, fun q y hq e1 e2 => ?_, G.1.2.2.2.2⟩, ⟨fun q hq => ?_, G.2.1.2⟩, ⟨fun q hq => ?_, G.2.2.2⟩⟩
  · show P (hn h) (cpE (eR h) a i b j n q y)
    unfold cpE
    split
    · rename_i w
      have e1 : inT 71 77 (hc h b) ∨ inT 71 77 (kc h b) := w.1 ▸ e1
      exact G.1.2.2.2.1 a _ ha (ht e1) ⟨by omega, by omega⟩
    · exact G.1.2.2.2.1 q y hq e1 e2
  · obtain ⟨c1, c2, c3, c4, c5, c6, c7, c8⟩ := G.2.1.1 q hq
    refine ⟨c1, c2, c3, c4, c5, fun y => ?_, fun y => ?_, fun y => ?_⟩
    · show cpE (eI g) a i b j n q y = cpE (eI h) a i b j n q y
      unfold cpE; rw [c6, d6]
    · show cpE (eJ g) a i b j n q y = cpE (eJ h) a i b j n q y
      unfold cpE; rw [c7, d7]
    · show cpE (eR g) a i b j n q y = cpE (eR h) a i b j n q y
      unfold cpE; rw [c8, d8]
  · obtain ⟨c1, c2, c3, c4, c5, c6, c7, c8⟩ := G.2.2.1 q hq
    have w : ∀ y, ¬ (q = b ∧ j ≤ y ∧ y < j + n) := fun y z => hq (z.1 ▸ hP.2.1 _ _ hb)
    exact ⟨c1, c2, c3, c4, c5, fun y => (if_neg (w y)).trans (c6 y), fun y => (if_neg (w y)).trans (c7 y), fun y => (if_neg (w y)).trans (c8 y)⟩
theorem ww_nE {t n : Nat} (G : WW true N P Q g0 h g) (hP : PO true P Q N) (ht : t ≤ 70) : WW true N P Q g0 (nE h t n) (nE g t n) := by
  have e := (ww_hne G)
  have hp := ww_pn G hP
  unfold nE
  rw [e, ((ww_st G) _).2.2, ((ww_st G) _).2.2]
  exact ww_pR (ww_pR (ww_pR (ww_nO G hP ht) hP hp (Or.inl hp) (by decide)) hP hp (Or.inr (Or.inl rfl)) (by decide)) hP hp (Or.inr (Or.inr rfl)) (by decide)
def TlS (al : Bool) (N : Nat) (P : Nat → Nat → Prop) (Q : Nat → Prop) (g0 : PH) (f f' : Kt → Rs) : Prop := (∀ k, f k = none) ∨ (∃ o h1 g1, (WW al N P Q g0 h1 g1 ∧ okO (P (hn h1)) o) ∧ ∀ k, f k = some (o, h1) ∧ f' k = some (o, g1)) ∨ ∃ pc ls st h1 g1, (WW al N P Q g0 h1 g1 ∧ AllV (P (hn h1)) ls ∧ AllV (P (hn h1)) st) ∧ ∀ k : Kt, f k = k pc ls st h1 ∧ ∀ k' : Kt, f' k' = k' pc ls st g1
theorem ts_n {f' : Kt → Rs} : TlS al N P Q g0 (fun _ => none) f' := Or.inl fun _ => rfl
theorem ts_k {pc : Nat} {ls st : List PV} (G : WW al N P Q g0 h g) (a : AllV (P (hn h)) ls) (b : AllV (P (hn h)) st) : TlS al N P Q g0 (fun k => k pc ls st h) (fun k => k pc ls st g) := Or.inr (Or.inr ⟨pc, ls, st, h, g, ⟨G, a, b⟩, fun _ => ⟨rfl, fun _ => rfl⟩⟩)
theorem ts_s {o : Ot} (G : WW al N P Q g0 h g) (a : okO (P (hn h)) o) : TlS al N P Q g0 (fun _ => some (o, h)) (fun _ => some (o, g)) := Or.inr (Or.inl ⟨o, h, g, ⟨G, a⟩, fun _ => ⟨rfl, rfl⟩⟩)
theorem ts_gd {c c' : Prop} [Decidable c] [Decidable c'] {f f' : Kt → Rs} (z : c → c') (a : c → TlS al N P Q g0 f f') : TlS al N P Q g0 (fun k => gd c (f k)) (fun k => gd c' (f' k)) := by
  by_cases hq : c
  · have e : (fun k => gd c (f k)) = f := funext fun k => if_pos hq
    have e' : (fun k => gd c' (f' k)) = f' := funext fun k => if_pos (z hq)
    rw [e, e']; exact a hq
  · exact Or.inl fun k => if_neg hq
theorem ts_ite {c : Prop} [Decidable c] {f f' e e' : Kt → Rs} (a : TlS al N P Q g0 f f') (b : TlS al N P Q g0 e e') : TlS al N P Q g0 (fun k => if c then f k else e k) (fun k => if c then f' k else e' k) := by
  by_cases hq : c
  · simp only [hq, if_true]; exact a
  · simp only [hq, if_false]; exact b
theorem ts_swk {x : Int} {d : Nat} {ls st : List PV} (G : WW al N P Q g0 h g) (a : AllV (P (hn h)) ls) (b : AllV (P (hn h)) st) (l : List (Int × Int)) : TlS al N P Q g0 (fun k => swk k x d ls st h l) (fun k => swk k x d ls st g l) := by
  induction l with
  | nil => exact ts_k G a b
  | cons q l ih => exact ts_ite (ts_k G a b) ih
def CfS (al : Bool) (N : Nat) (P : Nat → Nat → Prop) (Q : Nat → Prop) (h g : PH) (cf : Nat → List PV → PH → Rs) (m : Nat) (args : List PV) : Prop := ∀ o h1, cf m args h = some (o, h1) → ∃ g1, cf m args g = some (o, g1) ∧ WW al N P Q g h1 g1 ∧ okO (P (hn h1)) o ∧ hn h ≤ hn h1
theorem ts_callK {cf : Nat → List PV → PH → Rs} {M pc nx m : Nat} {args ls st : List PV} (G : WW al N P Q g0 h g) (hP : PO al P Q N) (hcf : CfS al N P Q h g cf m args) (a : AllV (P (hn h)) ls) (b : AllV (P (hn h)) st) : TlS al N P Q g0 (fun k => callK cf k M pc nx m args ls st h) (fun k => callK cf k M pc nx m args ls st g) := by
  unfold callK
  cases Nat.ble (stw st) 8 with
  | false => exact ts_n
  | true =>
  simp only [cond_true]
  have W : ∀ {h1 g1 : PH}, WW al N P Q g h1 g1 → WW al N P Q g0 h1 g1 := fun w => ⟨w.1, w.2.1, G.2.2.tr w.2.2⟩
  have pu_ok : ∀ {v : Option PV} {n : Nat}, hn h ≤ n → okO (P n) (.inl v) → AllV (P n) (pu v st) := by
    intro v n hn0 hv
    cases v with
    | none => exact av_m (fun r => hP.1 _ _ _ hn0) b
    | some v => exact av_c hv (av_m (fun r => hP.1 _ _ _ hn0) b)
  cases hndL M with
  | nil =>
    unfold bnd
    rcases hq : cf m args h with _ | ⟨v | e, h'⟩
    · exact ts_n
    · obtain ⟨g1, e1, e2, e3, e4⟩ := hcf _ _ hq
      rw [e1]
      exact ts_k (W e2) (av_m (fun r => hP.1 _ _ _ e4) a) (pu_ok e4 e3)
    · obtain ⟨g1, e1, e2, e3, e4⟩ := hcf _ _ hq
      rw [e1]
      exact ts_s (W e2) e3
  | cons x l =>
    unfold bndH
    rcases hq : cf m args h with _ | ⟨v | e, h'⟩
    · exact ts_n
    · obtain ⟨g1, e1, e2, e3, e4⟩ := hcf _ _ hq
      rw [e1]
      exact ts_k (W e2) (av_m (fun r => hP.1 _ _ _ e4) a) (pu_ok e4 e3)
    · obtain ⟨g1, e1, e2, e3, e4⟩ := hcf _ _ hq
      have e3 : P (hn h') e := e3
      rw [e1]
      dsimp only
      rw [((ww_sm e2) e3).1]
      cases hndF (x :: l) pc (hc h' e) with
      | none => exact ts_s (W e2) e3
      | some t => exact ts_k (W e2) (av_m (fun r => hP.1 _ _ _ e4) a) (av_c e3 av_n)
/-- rows that this is shown for -/
def okN (al : Bool) (S : Nat → Bool) (i : Instr) : Bool := match i with
  | .getstatic f => !(Nat.beq (f % 4) 2) || rSt.elem f
  | .getfield f => !(Nat.beq (f % 4) 2) || (iFs.elem f && !(Nat.beq f 3467599538) && !(Nat.beq f 3475988146))
  | .newarray _ => al
  | .anewarray t => al && Nat.ble 56 t
  | .new t => al && Nat.ble t 70
  | .multianewarray t _ => al && Nat.ble t 70
  | .invokestatic m => S m
  | .invokespecial m => S m
  | .invokevirtual m => S m
  | .invokeinterface p _ => ((nth dspT p).getD []).all fun q => S q.2
  | _ => true
theorem rd_eq (G : WW al N P Q g0 h g) {f r : Nat} (hP : PO al P Q N) (hr : P (hn h) r) : rdF g f r = rdF h f r := by
  obtain ⟨c1, c2, c3, c4, c5, c6, c7, c8⟩ := (ww_sm G) hr
  unfold rdF
  rw [c3, c4, c5]
theorem okP_rd {R : Nat → Prop} {f r : Nat} (z : f % 4 = 2 → R (gR h f r)) : okP R (rdF h f r) := by
  unfold rdF
  split
  · trivial
  · trivial
  · rename_i e; exact z e
  · trivial
set_option maxHeartbeats 8000000 in
theorem ts_stI {S : Nat → Bool} (cf : Nat → List PV → PH → Rs) (G : WW al N P Q g0 h g) (hP : PO al P Q N) (hcf : ∀ m args, S m = true → AllV (P (hn h)) args → CfS al N P Q h g cf m args) (M pc nx : Nat) (i : Instr) (hok : okN al S i = true) (ls st : List PV) (a : AllV (P (hn h)) ls) (b : AllV (P (hn h)) st) : TlS al N P Q g0 (fun k => stI cf k M pc nx i ls st h) (fun k => stI cf k M pc nx i ls st g) := by
  cases i
  case aconst_null => exact ts_k G a (av_c (ww_p0 G) b)
  case iload x =>
    have z := av_get (n := x) a
    dsimp only [stI]; rcases hq : lget ls x with v | ⟨v | ⟨v | v⟩⟩ <;> first | exact ts_k G a (av_c trivial b) | exact ts_n
  case aload x =>
    have z := av_get (n := x) a
    dsimp only [stI]; rcases hq : lget ls x with v | ⟨v | ⟨v | v⟩⟩ <;> rw [hq] at z <;> first | exact ts_k G a (av_c z b) | exact ts_n
  case iinc x z => dsimp only [stI]; rcases lget ls x with v | ⟨v | ⟨v | v⟩⟩ <;> first | exact ts_k G (av_set a trivial) b | exact ts_n
  case lload x => dsimp only [stI]; rcases lget ls x with v | ⟨v | ⟨v | v⟩⟩ <;> rcases lget ls (x + 1) with w | ⟨w | ⟨w | w⟩⟩ <;> first | exact ts_k G a (av_c trivial b) | exact ts_n
  case istore x => dsimp only [stI]; rcases st with _ | ⟨v | ⟨v | ⟨v | v⟩⟩, st⟩ <;> first | exact ts_n | exact ts_k G (av_set a trivial) (av_t b)
  case astore x => dsimp only [stI]; rcases st with _ | ⟨v | ⟨v | ⟨v | v⟩⟩, st⟩ <;> first | exact ts_n | exact ts_k G (av_set a (av_h b)) (av_t b)
  case lstore x => dsimp only [stI]; rcases st with _ | ⟨v | ⟨v | ⟨v | v⟩⟩, st⟩ <;> first | exact ts_n | exact ts_k G (av_set (av_set a trivial) trivial) (av_t b)
  case ifCond o t => dsimp only [stI]; rcases st with _ | ⟨v | ⟨v | ⟨v | v⟩⟩, st⟩ <;> first | exact ts_n | (cases o <;> exact ts_ite (ts_k G a (av_t b)) (ts_k G a (av_t b)))
  case if_icmp o t => dsimp only [stI]; rcases st with _ | ⟨v | ⟨v | ⟨v | v⟩⟩, _ | ⟨w | ⟨w | ⟨w | w⟩⟩, st⟩⟩ <;> first | exact ts_n | (cases o <;> exact ts_ite (ts_k G a (av_t (av_t b))) (ts_k G a (av_t (av_t b))))
  case if_acmp o t => dsimp only [stI]; rcases st with _ | ⟨v | ⟨v | ⟨v | v⟩⟩, _ | ⟨w | ⟨w | ⟨w | w⟩⟩, st⟩⟩ <;> first | exact ts_n | (cases o <;> exact ts_ite (ts_k G a (av_t (av_t b))) (ts_k G a (av_t (av_t b))))
  case ifnull t => dsimp only [stI]; rcases st with _ | ⟨v | ⟨v | ⟨v | v⟩⟩, st⟩ <;> first | exact ts_n | exact ts_ite (ts_k G a (av_t b)) (ts_k G a (av_t b))
  case ifnonnull t => dsimp only [stI]; rcases st with _ | ⟨v | ⟨v | ⟨v | v⟩⟩, st⟩ <;> first | exact ts_n | exact ts_ite (ts_k G a (av_t b)) (ts_k G a (av_t b))
  case lookupswitch d ps => dsimp only [stI]; rcases st with _ | ⟨v | ⟨v | ⟨v | v⟩⟩, st⟩ <;> first | exact ts_n | exact ts_swk G a (av_t b) _
  case pop => dsimp only [stI]; rcases st with _ | ⟨v | ⟨v | ⟨v | v⟩⟩, st⟩ <;> first | exact ts_n | exact ts_k G a (av_t b)
  case pop2 =>
    dsimp only [stI]; rcases st with _ | ⟨v | ⟨v | ⟨v | v⟩⟩, st⟩
    case cons.inr.inr.inl =>
      have hr : P (hn h) v := av_h b
      dsimp only
      rw [(ww_sm G hr).1]
      refine ts_gd (fun z => z) (fun _ => ?_)
      cases Nat.ble (stw st) 8 <;> first | exact ts_n | exact ts_k G a (av_t b)
    all_goals exact ts_n
  case dup => dsimp only [stI]; rcases st with _ | ⟨v | ⟨v | ⟨v | v⟩⟩, st⟩ <;> first | exact ts_n | exact ts_k G a (av_c (av_h b) b)
  case dup_x1 => dsimp only [stI]; rcases st with _ | ⟨v | ⟨v | ⟨v | v⟩⟩, _ | ⟨w | ⟨w | ⟨w | w⟩⟩, st⟩⟩ <;> first | exact ts_n | exact ts_k G a (av_c (av_h b) (av_c (av_h (av_t b)) (av_c (av_h b) (av_t (av_t b)))))
  case dup2 => dsimp only [stI]; rcases st with _ | ⟨v | ⟨v | ⟨v | v⟩⟩, st⟩ <;> first | exact ts_n | exact ts_k G a (av_c (av_h b) b) | (rcases st with _ | ⟨w | ⟨w | ⟨w | w⟩⟩, st⟩ <;> first | exact ts_n | exact ts_k G a (av_c (av_h b) (av_c (av_h (av_t b)) b)))
  case getstatic f =>
    have hok : (!(Nat.beq (f % 4) 2) || rSt.elem f) = true := hok
    dsimp only [stI]
    rw [rd_eq G hP (ww_p0 G)]
    refine ts_k G a (av_c (okP_rd fun e => G.1.2.1 f ?_) b)
    rw [e] at hok
    exact hok
  case getfield f =>
    have hok : (!(Nat.beq (f % 4) 2) || (iFs.elem f && !(Nat.beq f 3467599538) && !(Nat.beq f 3475988146))) = true := hok
    dsimp only [stI]; rcases st with _ | ⟨v | ⟨v | ⟨v | v⟩⟩, st⟩
    case cons.inr.inr.inl =>
      have hr : P (hn h) v := av_h b
      dsimp only
      rw [rd_eq G hP hr, (ww_sm G hr).1]
      refine ts_gd (fun z => z) (fun z => ts_k G a (av_c (okP_rd fun e => ?_) (av_t b)))
      rw [e] at hok
      have hok : (iFs.elem f && !(Nat.beq f 3467599538) && !(Nat.beq f 3475988146)) = true := hok
      simp only [Bool.and_eq_true, Bool.not_eq_true'] at hok
      refine G.1.2.2.1 v f hr e ?_ hok.1.1 z
      rintro (q | q)
      · rw [q] at hok; exact absurd hok.1.2 (by decide)
      · rw [q] at hok; exact absurd hok.2 (by decide)
    all_goals exact ts_n
  case putfield f =>
    dsimp only [stI]
    rcases st with _ | ⟨v | ⟨v | ⟨v | v⟩⟩, _ | ⟨w | ⟨w | ⟨w | w⟩⟩, st⟩⟩
    case cons.inl.cons.inr.inr.inl =>
      have hr : P (hn h) w := av_h (av_t b)
      dsimp only
      rw [(ww_sm G hr).1]
      refine ts_gd (fun z => z) (fun _ => ?_)
      rcases f % 4 with _ | _ | _ | _ | _ <;> first | exact ts_n | exact ts_k (ww_pI G hP hr) a (av_t (av_t b)) | exact ts_gd (fun z => z) (fun _ => ts_k (ww_pI G hP hr) a (av_t (av_t b)))
    case cons.inr.inl.cons.inr.inr.inl =>
      have hr : P (hn h) w := av_h (av_t b)
      dsimp only
      rw [(ww_sm G hr).1]
      refine ts_gd (fun z => z) (fun _ => ?_)
      rcases f % 4 with _ | _ | _ | _ | _ <;> first | exact ts_n | exact ts_k (ww_pJ G hP hr) a (av_t (av_t b))
    case cons.inr.inr.inl.cons.inr.inr.inl =>
      have hr : P (hn h) w := av_h (av_t b)
      have hv : P (hn h) v := av_h b
      dsimp only
      rw [(ww_sm G hr).1]
      refine ts_gd (fun z => z) (fun _ => ?_)
      rcases hf : f % 4 with _ | _ | _ | _ | _ <;> first | exact ts_n | exact ts_k (ww_pR G hP hr (Or.inl hv) hf) a (av_t (av_t b))
    all_goals exact ts_n
  case arraylength =>
    dsimp only [stI]; rcases st with _ | ⟨v | ⟨v | ⟨v | v⟩⟩, st⟩
    case cons.inr.inr.inl =>
      have hr : P (hn h) v := av_h b
      dsimp only
      rw [(ww_sm G hr).1, (ww_sm G hr).2.1, ww_kc G]
      exact ts_gd (fun z => z) (fun _ => ts_k G a (av_c trivial (av_t b)))
    all_goals exact ts_n
  case iaload =>
    dsimp only [stI]; rcases st with _ | ⟨v | ⟨v | ⟨v | v⟩⟩, _ | ⟨w | ⟨w | ⟨w | w⟩⟩, st⟩⟩
    case cons.inl.cons.inr.inr.inl =>
      have hr : P (hn h) w := av_h (av_t b)
      dsimp only
      rw [(ww_sm G hr).1, (ww_sm G hr).2.1, ww_kc G, (ww_sm G hr).2.2.2.2.2.1]
      exact ts_gd (fun z => z) (fun _ => ts_k G a (av_c trivial (av_t (av_t b))))
    all_goals exact ts_n
  case laload =>
    dsimp only [stI]; rcases st with _ | ⟨v | ⟨v | ⟨v | v⟩⟩, _ | ⟨w | ⟨w | ⟨w | w⟩⟩, st⟩⟩
    case cons.inl.cons.inr.inr.inl =>
      have hr : P (hn h) w := av_h (av_t b)
      dsimp only
      rw [(ww_sm G hr).1, (ww_sm G hr).2.1, (ww_sm G hr).2.2.2.2.2.2.1]
      exact ts_gd (fun z => z) (fun _ => ts_k G a (av_c trivial (av_t (av_t b))))
    all_goals exact ts_n
  case baload =>
    dsimp only [stI]; rcases st with _ | ⟨v | ⟨v | ⟨v | v⟩⟩, _ | ⟨w | ⟨w | ⟨w | w⟩⟩, st⟩⟩
    case cons.inl.cons.inr.inr.inl =>
      have hr : P (hn h) w := av_h (av_t b)
      dsimp only
      rw [(ww_sm G hr).1, (ww_sm G hr).2.1, ww_kc G, (ww_sm G hr).2.2.2.2.2.1]
      exact ts_gd (fun z => z) (fun _ => ts_k G a (av_c trivial (av_t (av_t b))))
    all_goals exact ts_n
  case caload =>
    dsimp only [stI]; rcases st with _ | ⟨v | ⟨v | ⟨v | v⟩⟩, _ | ⟨w | ⟨w | ⟨w | w⟩⟩, st⟩⟩
    case cons.inl.cons.inr.inr.inl =>
      have hr : P (hn h) w := av_h (av_t b)
      dsimp only
      rw [(ww_sm G hr).1, (ww_sm G hr).2.1, ww_kc G, (ww_sm G hr).2.2.2.2.2.1]
      exact ts_gd (fun z => z) (fun _ => ts_k G a (av_c trivial (av_t (av_t b))))
    all_goals exact ts_n
  case aaload =>
    dsimp only [stI]; rcases st with _ | ⟨v | ⟨v | ⟨v | v⟩⟩, _ | ⟨w | ⟨w | ⟨w | w⟩⟩, st⟩⟩
    case cons.inl.cons.inr.inr.inl =>
      have hr : P (hn h) w := av_h (av_t b)
      dsimp only
      rw [(ww_sm G hr).1, (ww_sm G hr).2.1, ww_kc G, (ww_sm G hr).2.2.2.2.2.2.2]
      exact ts_gd (fun z => z) (fun z => ts_k G a (av_c (G.1.2.2.2.1 w v hr z.1 z.2) (av_t (av_t b))))
    all_goals exact ts_n
  case iastore =>
    dsimp only [stI]; rcases st with _ | ⟨v | ⟨v | ⟨v | v⟩⟩, _ | ⟨w | ⟨w | ⟨w | w⟩⟩, _ | ⟨u | ⟨u | ⟨u | u⟩⟩, st⟩⟩⟩
    case cons.inl.cons.inl.cons.inr.inr.inl =>
      have hr : P (hn h) u := av_h (av_t (av_t b))
      dsimp only
      rw [(ww_sm G hr).1, (ww_sm G hr).2.1]
      exact ts_gd (fun z => z) (fun _ => ts_k (ww_qI G hP hr) a (av_t (av_t (av_t b))))
    all_goals exact ts_n
  case lastore =>
    dsimp only [stI]; rcases st with _ | ⟨v | ⟨v | ⟨v | v⟩⟩, _ | ⟨w | ⟨w | ⟨w | w⟩⟩, _ | ⟨u | ⟨u | ⟨u | u⟩⟩, st⟩⟩⟩
    case cons.inr.inl.cons.inl.cons.inr.inr.inl =>
      have hr : P (hn h) u := av_h (av_t (av_t b))
      dsimp only
      rw [(ww_sm G hr).1, (ww_sm G hr).2.1]
      exact ts_gd (fun z => z) (fun _ => ts_k (ww_qJ G hP hr) a (av_t (av_t (av_t b))))
    all_goals exact ts_n
  case bastore =>
    dsimp only [stI]; rcases st with _ | ⟨v | ⟨v | ⟨v | v⟩⟩, _ | ⟨w | ⟨w | ⟨w | w⟩⟩, _ | ⟨u | ⟨u | ⟨u | u⟩⟩, st⟩⟩⟩
    case cons.inl.cons.inl.cons.inr.inr.inl =>
      have hr : P (hn h) u := av_h (av_t (av_t b))
      dsimp only
      rw [(ww_sm G hr).1, (ww_sm G hr).2.1]
      exact ts_gd (fun z => z) (fun _ => ts_k (ww_qI G hP hr) a (av_t (av_t (av_t b))))
    all_goals exact ts_n
  case aastore =>
    dsimp only [stI]; rcases st with _ | ⟨v | ⟨v | ⟨v | v⟩⟩, _ | ⟨w | ⟨w | ⟨w | w⟩⟩, _ | ⟨u | ⟨u | ⟨u | u⟩⟩, st⟩⟩⟩
    case cons.inr.inr.inl.cons.inl.cons.inr.inr.inl =>
      have hr : P (hn h) u := av_h (av_t (av_t b))
      have hv : P (hn h) v := av_h b
      dsimp only
      rw [(ww_sm G hr).1, (ww_sm G hr).2.1]
      exact ts_gd (fun z => ⟨z.1, z.2.1, (okE_g G hv).mpr z.2.2.1, z.2.2.2⟩) (fun _ => ts_k (ww_qR G hP hr hv) a (av_t (av_t (av_t b))))
    all_goals exact ts_n
  case newarray t =>
    have hok : al = true := hok
    subst hok
    dsimp only [stI]; rcases st with _ | ⟨v | ⟨v | ⟨v | v⟩⟩, st⟩
    case cons.inl =>
      obtain ⟨⟨e1, e2, e3⟩, -⟩ := G.2.1.2 rfl
      rw [e1]
      refine ts_gd (fun z => ⟨z.1, by rw [e3]; exact z.2.1, by rw [e2]; exact z.2.2⟩) (fun _ => ?_)
      cases t <;> first | exact ts_n | exact ts_k (ww_nA G hP (by decide)) (av_m (fun r => hP.s) a) (av_c (ww_pn G hP) (av_m (fun r => hP.s) (av_t b)))
    all_goals exact ts_n
  case anewarray t =>
    have hok : (al && Nat.ble 56 t) = true := hok
    rw [Bool.and_eq_true] at hok
    obtain ⟨hok, ht⟩ := hok
    subst hok
    dsimp only [stI]; rcases st with _ | ⟨v | ⟨v | ⟨v | v⟩⟩, st⟩
    case cons.inl =>
      obtain ⟨⟨e1, e2, e3⟩, -⟩ := G.2.1.2 rfl
      rw [e1]
      exact ts_gd (fun z => ⟨z.1, by rw [e3]; exact z.2.1, by rw [e2]; exact z.2.2⟩) (fun _ => ts_k (ww_nA G hP (Nat.ble_eq.mp ht)) (av_m (fun r => hP.s) a) (av_c (ww_pn G hP) (av_m (fun r => hP.s) (av_t b))))
    all_goals exact ts_n
  case new t =>
    have hok : (al && Nat.ble t 70) = true := hok
    rw [Bool.and_eq_true] at hok
    obtain ⟨hok, ht⟩ := hok
    subst hok
    obtain ⟨⟨e1, e2, e3⟩, -⟩ := G.2.1.2 rfl
    dsimp only [stI]
    rw [e1]
    exact ts_gd (fun z => ⟨by rw [e3]; exact z.1, by rw [e2]; exact z.2⟩) (fun _ => ts_k (ww_nO G hP (Nat.ble_eq.mp ht)) (av_m (fun r => hP.s) a) (av_c (ww_pn G hP) (av_m (fun r => hP.s) b)))
  case multianewarray t z0 =>
    have hok : (al && Nat.ble t 70) = true := hok
    rw [Bool.and_eq_true] at hok
    obtain ⟨hok, ht⟩ := hok
    subst hok
    obtain ⟨⟨e1, e2, e3⟩, -⟩ := G.2.1.2 rfl
    dsimp only [stI]
    rw [e1]
    exact ts_gd (fun z => ⟨⟨by rw [e3]; exact z.1.1, by rw [e2]; exact z.1.2⟩, z.2⟩) (fun _ => ts_k (ww_nE G hP (Nat.ble_eq.mp ht)) (av_m (fun r => hP.s) a) (av_c (ww_pn G hP) (av_m (fun r => hP.s) b)))
  case checkcast q =>
    dsimp only [stI]; rcases st with _ | ⟨v | ⟨v | ⟨v | v⟩⟩, st⟩
    case cons.inr.inr.inl =>
      have hr : P (hn h) v := av_h b
      dsimp only
      rw [(ww_sm G hr).1]
      exact ts_gd (fun z => z) (fun _ => ts_k G a b)
    all_goals exact ts_n
  case instanceof q =>
    dsimp only [stI]; rcases st with _ | ⟨v | ⟨v | ⟨v | v⟩⟩, st⟩
    case cons.inr.inr.inl =>
      have hr : P (hn h) v := av_h b
      dsimp only
      rw [(ww_sm G hr).1]
      exact ts_gd (fun z => z) (fun _ => ts_k G a (av_c trivial (av_t b)))
    all_goals exact ts_n
  case invokestatic m =>
    dsimp only [stI]
    rcases hq : popN (m % 16) [] st with _ | ⟨x, st'⟩
    · exact ts_n
    · obtain ⟨z1, z2⟩ := av_pop av_n b hq
      exact ts_callK G hP (hcf m x hok z1) a z2
  case invokespecial m =>
    dsimp only [stI]
    rcases hq : popN (m % 16) [] st with _ | ⟨_ | ⟨v | ⟨v | ⟨v | v⟩⟩, x⟩, st'⟩
    case some.cons.inr.inr.inl =>
      obtain ⟨z1, z2⟩ := av_pop av_n b hq
      have hr : P (hn h) v := av_h z1
      dsimp only
      rw [(ww_sm G hr).1]
      exact ts_gd (fun z => z) (fun _ => ts_callK G hP (hcf m _ hok z1) a z2)
    all_goals exact ts_n
  case invokevirtual m =>
    dsimp only [stI]
    rcases hq : popN (m % 16) [] st with _ | ⟨_ | ⟨v | ⟨v | ⟨v | v⟩⟩, x⟩, st'⟩
    case some.cons.inr.inr.inl =>
      obtain ⟨z1, z2⟩ := av_pop av_n b hq
      have hr : P (hn h) v := av_h z1
      dsimp only
      rw [(ww_sm G hr).1]
      exact ts_gd (fun z => z) (fun _ => ts_callK G hP (hcf m _ hok z1) a z2)
    all_goals exact ts_n
  case invokeinterface p n =>
    have hS : ∀ t m, dsp p t = some m → S m = true := by
      intro t m e
      unfold dsp at e
      cases hq : nth dspT p with
      | none => rw [hq] at e; cases e
      | some l =>
        rw [hq] at e
        have e : asc l t = some m := e
        obtain ⟨k', hk'⟩ := asc_mem e
        have hok : ((nth dspT p).getD []).all (fun q => S q.2) = true := hok
        rw [hq] at hok
        exact List.all_eq_true.mp hok _ hk'
    dsimp only [stI]
    rcases hq : popN n [] st with _ | ⟨_ | ⟨v | ⟨v | ⟨v | v⟩⟩, x⟩, st'⟩
    case some.cons.inr.inr.inl =>
      obtain ⟨z1, z2⟩ := av_pop av_n b hq
      have hr : P (hn h) v := av_h z1
      dsimp only
      rw [(ww_sm G hr).1]
      cases hd : dsp p (hc h v) with
      | none => exact ts_n
      | some m => exact ts_callK G hP (hcf m _ (hS _ _ hd) z1) a z2
    all_goals exact ts_n
  case athrow =>
    dsimp only [stI]; rcases st with _ | ⟨v | ⟨v | ⟨v | v⟩⟩, st⟩
    case cons.inr.inr.inl =>
      have hr : P (hn h) v := av_h b
      dsimp only
      rw [(ww_sm G hr).1]
      refine ts_gd (fun z => z) (fun _ => ?_)
      cases hndF (hndL M) pc (hc h v) with
      | none => exact ts_s G hr
      | some t => exact ts_k G a (av_c hr av_n)
    all_goals exact ts_n
  case ireturn => dsimp only [stI]; rcases st with _ | ⟨v | ⟨v | ⟨v | v⟩⟩, _ | ⟨w, st⟩⟩ <;> first | exact ts_n | exact ts_s G trivial
  case freturn => dsimp only [stI]; rcases st with _ | ⟨v | ⟨v | ⟨v | v⟩⟩, _ | ⟨w, st⟩⟩ <;> first | exact ts_n | exact ts_gd (fun z => z) (fun _ => ts_s G trivial)
  case dreturn => dsimp only [stI]; rcases st with _ | ⟨v | ⟨v | ⟨v | v⟩⟩, _ | ⟨w, st⟩⟩ <;> first | exact ts_n | exact ts_gd (fun z => z) (fun _ => ts_s G trivial)
  case lreturn => dsimp only [stI]; rcases st with _ | ⟨v | ⟨v | ⟨v | v⟩⟩, _ | ⟨w, st⟩⟩ <;> first | exact ts_n | exact ts_s G trivial
  case areturn => dsimp only [stI]; rcases st with _ | ⟨v | ⟨v | ⟨v | v⟩⟩, _ | ⟨w, st⟩⟩ <;> first | exact ts_n | exact ts_s G (av_h b)
  case return_ => dsimp only [stI]; rcases st with _ | ⟨w, st⟩ <;> first | exact ts_n | exact ts_s G trivial
  all_goals first
    | exact ts_k G a (av_c trivial b)
    | exact ts_k G a b
    | exact ts_n
    | (dsimp only [stI]; rcases st with _ | ⟨v | ⟨v | ⟨v | v⟩⟩, st⟩ <;> first | exact ts_n | exact ts_k G a (av_c trivial (av_t b)))
    | (dsimp only [stI]; rcases st with _ | ⟨v | ⟨v | ⟨v | v⟩⟩, _ | ⟨w | ⟨w | ⟨w | w⟩⟩, st⟩⟩ <;> first | exact ts_n | exact ts_k G a (av_c trivial (av_t (av_t b))) | exact ts_gd (fun z => z) (fun _ => ts_k G a (av_c trivial (av_t (av_t b)))))
def okMN (al : Bool) (S : Nat → Bool) (m : Nat) : Bool := (codM m).all fun l => l.all fun q => okN al S q.2.1
theorem fetchN_ok {S : Nat → Bool} {M pc : Nat} {i : Instr} {len : Nat} (h : okMN al S (M / 262144) = true) (hf : fetch M pc = some (i, len)) : okN al S i = true := by
  unfold fetch at hf
  cases hq : nth (codM (M / 262144)) (pc / 64) with
  | none => rw [hq] at hf; cases hf
  | some l =>
    rw [hq] at hf
    have hf : lkR pc l = some (i, len) := hf
    obtain ⟨p, hp⟩ := lkR_in hf
    exact List.all_eq_true.mp (List.all_eq_true.mp h l (nth_in hq)) _ hp
theorem pad5 {l : List PV} (hq : l.length ≤ 5) : ∃ a b c d e, padL 5 l = [a, b, c, d, e] := by
  rcases l with _ | ⟨a, _ | ⟨b, _ | ⟨c, _ | ⟨d, _ | ⟨e, _ | ⟨f, l⟩⟩⟩⟩⟩⟩
  · exact ⟨_, _, _, _, _, rfl⟩
  · exact ⟨_, _, _, _, _, rfl⟩
  · exact ⟨_, _, _, _, _, rfl⟩
  · exact ⟨_, _, _, _, _, rfl⟩
  · exact ⟨_, _, _, _, _, rfl⟩
  · exact ⟨_, _, _, _, _, rfl⟩
  · simp only [List.length_cons] at hq; omega
theorem pad2 {l : List PV} (hq : l.length ≤ 2) : ∃ a b, padL 2 l = [a, b] := by
  rcases l with _ | ⟨a, _ | ⟨b, _ | ⟨c, l⟩⟩⟩
  · exact ⟨_, _, rfl⟩
  · exact ⟨_, _, rfl⟩
  · exact ⟨_, _, rfl⟩
  · simp only [List.length_cons] at hq; omega
def hJ7 (h : PH) (r : Nat) : PH := pR (pR (pR h 3459210930 r r) 3467599538 r (gR h 4118806530 0)) 3475988146 r (gR h 4127195138 0)
def hJ7b (h : PH) (r c1 c2 : Nat) : PH := pR (pR (pR h 3467599538 r 0) 3484376754 r c1) 3459210930 r c2
theorem j7_0 (cf : Nat → List PV → PH → Rs) (r : Nat) (v1 v2 v3 : PV) (x : Int) (h : PH) : FA cf 175995589 0 [vR r, v1, v2, v3, vI x] [] h = gd (0 < hc h r) (gd (inT 44 47 (hc h r)) (gd (inT 44 47 (hc h r)) (gd (inT 44 47 (hc h r)) (if x = 0 then FA cf 175995589 36 [vR r, v1, v2, v3, vI x] [] (hJ7 h r) else FA cf 175995589 28 [vR r, v1, v2, v3, vI x] [] (hJ7 h r))))) := (FA_ex cf 175995589 13 _ _ _ _).trans rfl
theorem j7_28 (cf : Nat → List PV → PH → Rs) (r : Nat) (v1 v2 v3 v4 : PV) (h : PH) : FA cf 175995589 28 [vR r, v1, v2, v3, v4] [] h = none := (FA_ex cf 175995589 2 _ _ _ _).trans rfl
theorem j7_36 (cf : Nat → List PV → PH → Rs) (r c1 c2 : Nat) (y : Int) (v4 : PV) (h : PH) : FA cf 175995589 36 [vR r, vR c1, vR c2, vI y, v4] [] h = gd (inT 44 47 (hc h r)) (gd (inT 44 47 (hc h r)) (gd (inT 44 47 (hc h r)) (if y = 0 then gd (inT 44 47 (hc h r)) (some (.inl none, pR (hJ7b h r c1 c2) 3475988146 r 0)) else some (.inl none, hJ7b h r c1 c2)))) := by
  refine ((FA_ex cf 175995589 11 _ _ _ _).trans rfl : FA cf 175995589 36 [vR r, vR c1, vR c2, vI y, v4] [] h = gd (inT 44 47 (hc h r)) (gd (inT 44 47 (hc h r)) (gd (inT 44 47 (hc h r)) (if y = 0 then FA cf 175995589 55 [vR r, vR c1, vR c2, vI y, v4] [] (hJ7b h r c1 c2) else FA cf 175995589 60 [vR r, vR c1, vR c2, vI y, v4] [] (hJ7b h r c1 c2))))).trans ?_
  have e1 : FA cf 175995589 55 [vR r, vR c1, vR c2, vI y, v4] [] (hJ7b h r c1 c2) = gd (inT 44 47 (hc h r)) (some (.inl none, pR (hJ7b h r c1 c2) 3475988146 r 0)) := (FA_ex cf 175995589 4 _ _ _ _).trans rfl
  have e2 : FA cf 175995589 60 [vR r, vR c1, vR c2, vI y, v4] [] (hJ7b h r c1 c2) = some (.inl none, hJ7b h r c1 c2) := (FA_ex cf 175995589 1 _ _ _ _).trans rfl
  rw [e1, e2]
theorem tr_j7 {cf : Nat → List PV → PH → Rs} {ls : List PV} (G : WW al N P Q g0 h g) (hP : PO al P Q N) (hq : ∃ a b c d e, ls = [a, b, c, d, e]) (hls : AllV (P (hn h)) ls) {o : Ot} {h' : PH} (hF : FA cf 175995589 0 ls [] h = some (o, h')) : ∃ g', FA cf 175995589 0 ls [] g = some (o, g') ∧ WW al N P Q g0 h' g' ∧ okO (P (hn h')) o ∧ hn h ≤ hn h' := by
  obtain ⟨v0, v1, v2, v3, v4, rfl⟩ := hq
  have n0 : ∀ {v0 : PV}, (∀ r, v0 ≠ vR r) → FA cf 175995589 0 [v0, v1, v2, v3, v4] [] h = none := by
    intro v0 hv
    refine (FA_ex cf 175995589 1 _ _ _ _).trans ?_
    rcases v0 with v | ⟨v | ⟨v | v⟩⟩
    · rfl
    · rfl
    · exact absurd rfl (hv v)
    · rfl
  have n4 : ∀ {r : Nat} {v4 : PV}, (∀ x, v4 ≠ vI x) → FA cf 175995589 0 [vR r, v1, v2, v3, v4] [] h = gd (0 < hc h r) (gd (inT 44 47 (hc h r)) (gd (inT 44 47 (hc h r)) (gd (inT 44 47 (hc h r)) none))) := by
    intro r v4 hv
    refine (FA_ex cf 175995589 12 _ _ _ _).trans ?_
    rcases v4 with v | ⟨v | ⟨v | v⟩⟩
    · exact absurd rfl (hv v)
    · rfl
    · rfl
    · rfl
  rcases v0 with v | ⟨v | ⟨r | v⟩⟩
  · rw [n0 (fun r e => by cases e)] at hF; cases hF
  · rw [n0 (fun r e => by cases e)] at hF; cases hF
  · have hr : P (hn h) r := av_h hls
    have e0 := (ww_sm G hr).1
    rcases v4 with x | ⟨x | ⟨x | x⟩⟩
    · rw [j7_0] at hF
      obtain ⟨z1, hF⟩ := gd_some hF
      obtain ⟨z2, hF⟩ := gd_some hF
      obtain ⟨-, hF⟩ := gd_some hF
      obtain ⟨-, hF⟩ := gd_some hF
      have z1' : 0 < hc g r := by rw [e0]; exact z1
      have z2' : inT 44 47 (hc g r) := by rw [e0]; exact z2
      by_cases hx : x = 0
      · rw [if_pos hx] at hF
        rw [j7_0, gd_t z1', gd_t z2', gd_t z2', gd_t z2', if_pos hx]
        have G1 : WW al N P Q g0 (hJ7 h r) (hJ7 g r) := by
          unfold hJ7
          rw [(ww_st G _).2.2, (ww_st G _).2.2]
          exact ww_pR (ww_pR (ww_pR G hP hr (Or.inl hr) (by decide)) hP hr (Or.inr (Or.inl rfl)) (by decide)) hP hr (Or.inr (Or.inr rfl)) (by decide)
        have n1 : ∀ {v1 v2 v3 : PV}, ¬ (∃ c1 c2 y, v1 = vR c1 ∧ v2 = vR c2 ∧ v3 = vI y) → FA cf 175995589 36 [vR r, v1, v2, v3, vI x] [] (hJ7 h r) = none := by
          intro v1 v2 v3 hv
          refine (FA_ex cf 175995589 11 _ _ _ _).trans ?_
          rcases v1 with v | ⟨v | ⟨c1 | v⟩⟩
          · exact if_pos z2
          · exact if_pos z2
          · rcases v2 with v | ⟨v | ⟨c2 | v⟩⟩
            · exact (if_pos z2).trans (if_pos z2)
            · exact (if_pos z2).trans (if_pos z2)
            · rcases v3 with y | ⟨v | ⟨v | v⟩⟩
              · exact absurd ⟨c1, c2, y, rfl, rfl, rfl⟩ hv
              · exact (if_pos z2).trans ((if_pos z2).trans (if_pos z2))
              · exact (if_pos z2).trans ((if_pos z2).trans (if_pos z2))
              · exact (if_pos z2).trans ((if_pos z2).trans (if_pos z2))
            · exact (if_pos z2).trans (if_pos z2)
          · exact if_pos z2
        by_cases hv : ∃ c1 c2 y, v1 = vR c1 ∧ v2 = vR c2 ∧ v3 = vI y
        · obtain ⟨c1, c2, y, rfl, rfl, rfl⟩ := hv
          have p1 : P (hn h) c1 := av_h (av_t hls)
          have p2 : P (hn h) c2 := av_h (av_t (av_t hls))
          have G2 : WW al N P Q g0 (hJ7b (hJ7 h r) r c1 c2) (hJ7b (hJ7 g r) r c1 c2) := ww_pR (ww_pR (ww_pR G1 hP hr (Or.inr (Or.inl rfl)) (by decide)) hP hr (Or.inl p1) (by decide)) hP hr (Or.inl p2) (by decide)
          have w2 : inT 44 47 (hc (hJ7 h r) r) := z2
          have w2' : inT 44 47 (hc (hJ7 g r) r) := z2'
          rw [j7_36, gd_t w2, gd_t w2, gd_t w2] at hF
          rw [j7_36, gd_t w2', gd_t w2', gd_t w2']
          by_cases hy : y = 0
          · rw [if_pos hy, gd_t w2] at hF
            rw [if_pos hy, gd_t w2']
            cases hF
            exact ⟨_, rfl, ww_pR G2 hP hr (Or.inr (Or.inr rfl)) (by decide), trivial, Nat.le_refl _⟩
          · rw [if_neg hy] at hF
            rw [if_neg hy]
            cases hF
            exact ⟨_, rfl, G2, trivial, Nat.le_refl _⟩
        · rw [n1 hv] at hF; cases hF
      · rw [if_neg hx, j7_28] at hF; cases hF
    all_goals
      rw [n4 (fun x e => by cases e)] at hF
      obtain ⟨-, hF⟩ := gd_some hF
      obtain ⟨-, hF⟩ := gd_some hF
      obtain ⟨-, hF⟩ := gd_some hF
      obtain ⟨-, hF⟩ := gd_some hF
      cases hF
  · rw [n0 (fun r e => by cases e)] at hF; cases hF
theorem tr_j0 {d : Nat} {ls : List PV} (G : WW al N P Q g0 h g) (hq : ∃ a b, ls = [a, b]) {o : Ot} {h' : PH} (hF : FA (F d) 174063618 0 ls [] h = some (o, h')) : ∃ g', FA (F d) 174063618 0 ls [] g = some (o, g') ∧ WW al N P Q g0 h' g' ∧ okO (P (hn h')) o ∧ hn h ≤ hn h' := by
  obtain ⟨v0, v1, rfl⟩ := hq
  have n0 : ∀ {v0 : PV}, (∀ x, v0 ≠ vI x) → FA (F d) 174063618 0 [v0, v1] [] h = none := by
    intro v0 hv
    refine (FA_ex (F d) 174063618 1 _ _ _ _).trans ?_
    rcases v0 with v | ⟨v | ⟨v | v⟩⟩
    · exact absurd rfl (hv v)
    · rfl
    · rfl
    · rfl
  have n1 : ∀ {x : Int} {v1 : PV}, (∀ x, v1 ≠ vI x) → FA (F d) 174063618 0 [vI x, v1] [] h = none := by
    intro x v1 hv
    refine (FA_ex (F d) 174063618 2 _ _ _ _).trans ?_
    rcases v1 with v | ⟨v | ⟨v | v⟩⟩
    · exact absurd rfl (hv v)
    · rfl
    · rfl
    · rfl
  rcases v0 with x | ⟨v | ⟨v | v⟩⟩
  · rcases v1 with y | ⟨v | ⟨v | v⟩⟩
    · have e : ∀ h, FA (F d) 174063618 0 [vI x, vI y] [] h = bnd (F d 172752899 [vI x, vI y, vR (gR h 4110417922 0)] h) (fun v h' => FA (F d) 174063618 8 [vI x, vI y] (pu v []) h') := fun h => (FA_ex (F d) 174063618 4 _ _ _ _).trans rfl
      rw [e] at hF ⊢
      cases d with
      | zero => cases hF
      | succ d =>
        have e9 : ∀ (q : Nat) (h : PH), FA (F d) 172752899 9 [vI x, vI y, vR q] [] h = none := fun q h => (FA_ex (F d) 172752899 4 _ _ _ _).trans rfl
        by_cases h1 : 0 ≤ x
        · by_cases h2 : x < y
          · rw [f_chk2 d h h1 h2] at hF
            rw [f_chk2 d g h1 h2]
            have e8 : ∀ h, FA (F (d + 1)) 174063618 8 [vI x, vI y] [vI x] h = some (.inl none, h) := fun h => (FA_ex (F (d + 1)) 174063618 2 _ _ _ _).trans rfl
            have hF : FA (F (d + 1)) 174063618 8 [vI x, vI y] [vI x] h = some (o, h') := hF
            rw [e8] at hF
            cases hF
            exact ⟨g, e8 g, G, trivial, Nat.le_refl _⟩
          · rw [e_J2_checkIndex, c_J2_checkIndex_0, if_neg (by omega), c_J2_checkIndex_4, if_neg h2, e9] at hF
            cases hF
        · rw [e_J2_checkIndex, c_J2_checkIndex_0, if_pos (by omega), e9] at hF
          cases hF
    all_goals
      rw [n1 (fun x e => by cases e)] at hF
      cases hF
  all_goals
    rw [n0 (fun x e => by cases e)] at hF
    cases hF
/-- a closed set of methods -/
def TrOK (al : Bool) (S : Nat → Bool) : Prop := (∀ M, S M = true → M / 262144 < 900 → M = 175995589 ∨ M = 174063618 ∨ okMN al S (M / 262144) = true) ∧ (al = false → ∀ M, S M = true → M / 262144 ≠ 901)
end APART
theorem F_tr {al : Bool} {N : Nat} {P : Nat → Nat → Prop} {Q : Nat → Prop} {S : Nat → Bool} (hO : TrOK al S) (hP : PO al P Q N) : ∀ (d M : Nat) (av : List PV) (h g : PH) (o : Ot) (h' : PH), S M = true → AllV (P (hn h)) av → WW al N P Q g h g → F d M av h = some (o, h') → ∃ g', F d M av g = some (o, g') ∧ WW al N P Q g h' g' ∧ okO (P (hn h')) o ∧ hn h ≤ hn h' := by
  intro d
  induction d with
  | zero => intro M av h g o h' _ _ _ hF; cases hF
  | succ d ih =>
    intro M av h g o h' hS hav G hF
    have hF0 : F (d + 1) M av h = some (o, h') := hF
    have hF : cond (Nat.ble 900 (M / 262144)) (prim (M / 262144) av h) (cond (Nat.ble (entL av).length (mxM M)) (FA (F d) M 0 (padL (mxM M) (entL av)) [] h) none) = some (o, h') := hF
    show ∃ g', cond (Nat.ble 900 (M / 262144)) (prim (M / 262144) av g) (cond (Nat.ble (entL av).length (mxM M)) (FA (F d) M 0 (padL (mxM M) (entL av)) [] g) none) = some (o, g') ∧ _
    cases hb : Nat.ble 900 (M / 262144) with
    | true =>
      rw [hb] at hF
      have hp : prim (M / 262144) av h = some (o, h') := hF
      clear hF
      show ∃ g', prim (M / 262144) av g = some (o, g') ∧ _
      unfold prim at hp ⊢
      split at hp
      · rename_i a i b j n e9
        have pa : P (hn h) a := av_h hav
        have pb : P (hn h) b := av_h (av_t (av_t hav))
        obtain ⟨hg, e⟩ := gd_some hp
        cases e
        obtain ⟨g1, g2, g3, g4, g5, g6, g7, g8, g9⟩ := hg
        have ca := ww_sm G pa
        have cb := ww_sm G pb
        refine ⟨aC g a i b j n, ?_, ww_aC G hP pa pb g3 g6 ?_, trivial, Nat.le_refl _⟩
        · refine gd_t ⟨by rw [ca.1, cb.1, ww_kc G]; exact g1, by rw [cb.1]; exact g2, g3, g4, g5, by rw [ca.2.1]; exact g6, by rw [cb.2.1]; exact g7, fun z => ?_, fun z => ?_⟩
          · rw [cb.1] at z
            have q := g8 z
            rw [okAll_iff] at q ⊢
            intro k hk'
            rw [ca.2.2.2.2.2.2.2]
            refine (okE_g G (G.1.2.2.2.1 a _ pa ?_ ⟨by omega, by omega⟩)).mpr (q k hk')
            rcases g1 with w | w
            · left; rw [w, z]; decide
            · right; rw [w.1]; decide
          · rw [cb.1] at z
            have q := g9 z
            rw [okByt_iff] at q ⊢
            intro k hk'
            rw [ca.2.2.2.2.2.1]
            exact q k hk'
        · intro z
          rcases g1 with w | w
          · rw [w]
            rcases z with z | z
            · exact Or.inl z
            · rcases g2 with y | y | y | y
              · have q := G.1.2.2.2.2.2.2 b (fun w0 => by rw [w0] at z; exact absurd z.1 (by decide)); rw [y] at q; cases q
              · have q := G.1.2.2.2.2.2.2 b (fun w0 => by rw [w0] at z; exact absurd z.1 (by decide)); rw [y] at q; cases q
              · have q := G.1.2.2.2.2.2.2 b (fun w0 => by rw [w0] at z; exact absurd z.1 (by decide)); rw [y] at q; cases q
              · left; rw [y]; decide
          · right; rw [w.1]; decide
      · rename_i a n e9
        have pa : P (hn h) a := av_h hav
        cases al with
        | false => exact absurd (by have := Nat.ble_eq.mp hb; omega) (hO.2 rfl M hS)
        | true =>
        obtain ⟨hg, e⟩ := gd_some hp
        cases e
        obtain ⟨g1, g2, g3⟩ := hg
        have ca := ww_sm G pa
        obtain ⟨⟨e1, e2, e3⟩, -⟩ := G.2.1.2 rfl
        have hne : a ≠ hn h := by
          intro z
          have q := G.1.2.2.2.2.2.1 a (by omega)
          rw [q.1, q.2] at g1
          omega
        have hta : inT 71 77 (hc h a) ∨ inT 71 77 (kc h a) := by
          rcases g1 with w | w
          · left; rw [w]; decide
          · right; rw [w]; decide
        have hnn : 0 ≤ n := g2.1
        refine ⟨aC (nA g 71 n) a 0 (hn g) 0 (if n < hl g a then n else hl g a), ?_, ?_, ww_pn G hP, Nat.le_succ _⟩
        · show gd _ _ = _
          rw [e1]
          refine gd_t ⟨by rw [ca.1, ww_kc G]; exact g1, ⟨g2.1, by rw [e3]; exact g2.2.1, by rw [e2]; exact g2.2.2⟩, ?_⟩
          rw [okAll_iff] at g3 ⊢
          intro k hk'
          rw [ca.2.1] at hk'
          rw [ca.2.2.2.2.2.2.2]
          refine (okE_g G (G.1.2.2.2.1 a _ pa hta ⟨by omega, ?_⟩)).mpr (g3 k hk')
          split at hk' <;> omega
        · rw [e1, ca.2.1]
          have G1 := ww_nA (t := 71) (n := n) G hP (by decide)
          have el : hl (nA h 71 n) a = hl h a := if_neg hne
          refine ww_aC G1 hP (hP.s pa) (ww_pn G hP) (Int.le_refl 0) ?_ (fun _ => ?_)
          · rw [el]; split <;> omega
          · rw [show hc (nA h 71 n) a = hc h a from if_neg hne]
            exact hta
      · cases hp
    | false =>
      rw [hb] at hF
      show ∃ g', cond (Nat.ble (entL av).length (mxM M)) (FA (F d) M 0 (padL (mxM M) (entL av)) [] g) none = some (o, g') ∧ _
      cases hq : Nat.ble (entL av).length (mxM M) with
      | false => rw [hq] at hF; cases hF
      | true =>
        rw [hq] at hF
        have hle := Nat.ble_eq.mp hq
        have hF2 : FA (F d) M 0 (padL (mxM M) (entL av)) [] h = some (o, h') := hF
        show ∃ g', FA (F d) M 0 (padL (mxM M) (entL av)) [] g = some (o, g') ∧ _
        have hls : AllV (P (hn h)) (padL (mxM M) (entL av)) := av_pad (av_ent hav)
        have hlt : M / 262144 < 900 := by
          rcases Nat.lt_or_ge (M / 262144) 900 with z | z
          · exact z
          · rw [Nat.ble_eq.mpr z] at hb; cases hb
        rcases hO.1 M hS hlt with e | e | hM
        · subst e
          exact tr_j7 G hP (pad5 hle) hls hF2
        · subst e
          exact tr_j0 G (pad2 hle) hF2
        · obtain ⟨n, hn0⟩ := FA_iff.mp hF2
          have key : ∀ (n pc : Nat) (ls st : List PV) (h1 g1 : PH), WW al N P Q g h1 g1 → AllV (P (hn h1)) ls → AllV (P (hn h1)) st → exN (F d) M n pc ls st h1 = some (o, h') → ∃ g', exN (F d) M n pc ls st g1 = some (o, g') ∧ WW al N P Q g h' g' ∧ okO (P (hn h')) o := by
            intro n
            induction n with
            | zero => intro pc ls st h1 g1 _ _ _ e; cases e
            | succ n ihn =>
              intro pc ls st h1 g1 G1 a b e
              have e : st1 (F d) (exN (F d) M n) M pc ls st h1 = some (o, h') := e
              show ∃ g', st1 (F d) (exN (F d) M n) M pc ls st g1 = some (o, g') ∧ _
              unfold st1 at e ⊢
              cases hfe : fetch M pc with
              | none => rw [hfe] at e; cases e
              | some q =>
                obtain ⟨i, len⟩ := q
                rw [hfe] at e
                have e : stI (F d) (exN (F d) M n) M pc (pc + len) i ls st h1 = some (o, h') := e
                show ∃ g', stI (F d) (exN (F d) M n) M pc (pc + len) i ls st g1 = some (o, g') ∧ _
                rcases ts_stI (S := S) (F d) G1 hP (fun m args hm ha o1 h2 hc1 => ih m args h1 g1 o1 h2 hm ha ⟨G1.1, G1.2.1, Ou.rf⟩ hc1) M pc (pc + len) i (fetchN_ok hM hfe) ls st a b with z | ⟨o1, h2, g2, ⟨z1, z0⟩, z2⟩ | ⟨pc1, ls1, st1, h2, g2, ⟨z1, z3, z4⟩, z2⟩
                · cases e.symm.trans (z (exN (F d) M n))
                · obtain ⟨y1, y2⟩ := z2 (exN (F d) M n)
                  cases e.symm.trans y1
                  exact ⟨g2, y2, z1, z0⟩
                · obtain ⟨y1, y2⟩ := z2 (exN (F d) M n)
                  obtain ⟨g', x1, x2, x3⟩ := ihn _ _ _ _ _ z1 z3 z4 (y1.symm.trans e)
                  exact ⟨g', (y2 _).trans x1, x2, x3⟩
          obtain ⟨g', x1, x2, x3⟩ := key n _ _ _ _ _ G hls av_n hn0
          exact ⟨g', FA_iff.mpr ⟨n, x1⟩, x2, x3, (F_le (d := d + 1) hF0).1⟩
