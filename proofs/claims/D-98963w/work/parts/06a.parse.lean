/-! the parser's written answers: sums, what is asked; where the tokens are behind them -/
set_option maxRecDepth 100000
/-- cells made before -/
def pad {α : Type} (c : Nat) (r : Option (PR α)) : Option (PR α) := match r with
  | none => none
  | some x => some (padd c x)
theorem pad_s {α : Type} {c : Nat} {r : Option (PR α)} {z : PR α} (h : pad c r = some z) : ∃ y, r = some y ∧ z = padd c y := by
  cases r with
  | none => cases h
  | some y => exact ⟨y, rfl, (Option.some.inj h).symm⟩
theorem padd_padd {α : Type} {a b : Nat} {r : PR α} : padd a (padd b r) = padd (a + b) r := by
  cases r with
  | inl e => show Sum.inl (e.1, e.2.1, a + (b + e.2.2)) = _; rw [← Nat.add_assoc]; rfl
  | inr x => show Sum.inr (x.1, x.2.1, a + (b + x.2.2)) = _; rw [← Nat.add_assoc]; rfl
theorem padd_0 {α : Type} {r : PR α} : padd 0 r = r := by
  cases r with
  | inl e => show Sum.inl (e.1, e.2.1, 0 + e.2.2) = _; rw [Nat.zero_add]
  | inr x => show Sum.inr (x.1, x.2.1, 0 + x.2.2) = _; rw [Nat.zero_add]
/-- one less is open -/
abbrev tDown (t : QTS) : QTS := (t.1, t.2.1, t.2.2.1, t.2.2.2.1, t.2.2.2.2.1 - 1, t.2.2.2.2.2)
def sNameOf (s : Int32) : Int32 := if s = 211 then 0 else if s = 221 then 1 else if s = 214 then 2 else if s = 212 then 5 else if s = 222 then 3 else if s = 223 then 4 else if s = 224 then 6 else if s = 225 then 7 else -1
def sMay (kind nm : Int32) : Bool := if nm < 3 then true else if nm = 3 then decide (201 ≤ kind) && decide (kind ≤ 203) else if nm = 7 then decide (kind = 204) else (decide (kind = 200) || decide (kind = 204))
/-- a sum: its code, its value -/
abbrev QU : Type := QC × QS
abbrev QV : Type := QC × QB
abbrev QUi : Type := Int32 × QC × QS
def chU (q : QU) (its : List QUi) : QU := match its with
  | [] => q
  | _ :: _ => (q.1 ++ its.flatMap (fun it => it.2.1 ++ [(opOf it.1, 0)]), fun nm => its.foldl (fun a it => sTwo it.1 a (it.2.2 nm)) (q.2 nm))
def sChL (D : Nat → Int32) (n : Nat) (one : QTS → Option (PR QU)) (s1 s2 : Int32) : Nat → QU → List QUi → QTS → Option (PR QU)
  | 0, _, _, _ => none
  | f + 1, q, its, t => if t.2.2.1 = s1 ∨ t.2.2.1 = s2 then pbo (one (sNext D n t)) fun q2 t2 => pad (addCost its.length + addCost its.length) (sChL D n one s1 s2 f q (its ++ [(t.2.2.1, q2)]) t2)
    else some (.inr (chU q its, t, 0))
def sChn (D : Nat → Int32) (n : Nat) (one : QTS → Option (PR QU)) (s1 s2 : Int32) (t : QTS) : Option (PR QU) := pad 1 (pbo (one t) fun q t1 => pad 2 (sChL D n one s1 s2 160 q [] t1))
def sSumW (D : Nat → Int32) (n : Nat) (one : QTS → Option (PR QU)) : QTS → Option (PR QU) := sChn D n (sChn D n one 42 47) 43 45
def sOne (D : Nat → Int32) (n : Nat) : Nat → QTS → Option (PR QU)
  | 0, _ => none
  | d + 1, t =>
    if t.2.2.1 = 300 then pad 1 (pbo (some (sNumber D n 0 9999 t)) fun v t1 => some (.inr (([(0, v)], fun _ => v.toInt64), t1, 0)))
    else if sNameOf t.2.2.1 = -1 then (
      if t.2.2.1 = 40 then pbo (some (sOpens D n t)) fun _ t1 => pbo (sSumW D n (sOne D n d) t1) fun q t2 => pbo (some (sWant D n 41 t2)) fun _ t3 => some (.inr (q, tDown t3, 0))
      else if t.2.2.1 = 45 then pbo (some (sOpens D n t)) fun _ t1 => pad 1 (pbo (sOne D n d t1) fun q t2 => some (.inr ((q.1 ++ [(4, 0)], fun nm => -(q.2 nm)), tDown t2, 0)))
      else some (.inl (1, t.2.1, 1)))
    else if sMay t.2.2.2.2.2 (sNameOf t.2.2.1) = true then some (.inr (([(1, sNameOf t.2.2.1)], fun nm => (nm (sNameOf t.2.2.1).toNatClampNeg).toInt64), sNext D n t, 1))
    else some (.inl (5, t.2.1, 1))
/-- a sum, at most nine deep -/
def sSum (D : Nat → Int32) (n : Nat) : QTS → Option (PR QU) := sSumW D n (sOne D n 9)
/-! asks -/
def alV (z : Int32) (its : List QV) : QV := match its with
  | [] => ([], fun _ => false)
  | [it0] => it0
  | it0 :: r => (it0.1 ++ r.flatMap (fun it => it.1 ++ [(22 - z, 0)]), fun nm => if z = 1 then decide ((its.filter (fun it => it.2 nm)).length = its.length) else decide (0 < (its.filter (fun it => it.2 nm)).length))
/-- both, either: one more while the sort is s; z: 1 and, 0 or -/
def sAlL (D : Nat → Int32) (n : Nat) (one : QTS → Option (PR QV)) (s z : Int32) : Nat → List QV → QTS → Option (PR QV)
  | 0, _, _ => none
  | f + 1, its, t => if t.2.2.1 = s then pbo (one (sNext D n t)) fun q2 t2 => pad (addCost its.length) (sAlL D n one s z f (its ++ [q2]) t2)
    else some (.inr (alV z its, t, if its.length = 1 then 0 else 1))
def sAll (D : Nat → Int32) (n : Nat) (one : QTS → Option (PR QV)) (s z : Int32) (t : QTS) : Option (PR QV) := pad 1 (pbo (one t) fun q t1 => pad 1 (sAlL D n one s z 160 [q] t1))
def sEithW (D : Nat → Int32) (n : Nat) (ask : QTS → Option (PR QV)) : QTS → Option (PR QV) := sAll D n (sAll D n ask 217 1) 216 0
def moV (its : List QV) : QV := (its.flatMap (fun it => it.1) ++ [(3, nI its.length)], fun nm => decide (its.length < 2 * (its.filter (fun it => it.2 nm)).length))
def sMoL (D : Nat → Int32) (n : Nat) (eith : QTS → Option (PR QV)) : Nat → List QV → QTS → Option (PR QV)
  | 0, _, _ => none
  | f + 1, its, t => if t.2.2.1 = 44 then (if its.length = 6 then some (.inl (7, t.2.1, 1)) else pbo (eith (sNext D n t)) fun q2 t2 => pad (addCost its.length) (sMoL D n eith f (its ++ [q2]) t2))
    else pbo (some (sWant D n 41 t)) fun _ t1 => some (.inr (moV its, tDown t1, 1))
def sMost (D : Nat → Int32) (n : Nat) (eith : QTS → Option (PR QV)) (t : QTS) : Option (PR QV) :=
  pbo (some (sOpens D n t)) fun _ t1 => pad 1 (pbo (some (sWant D n 40 t1)) fun _ t2 => pbo (eith t2) fun q t3 => pad 1 (sMoL D n eith 7 [q] t3))
def sFact (D : Nat → Int32) (n : Nat) (t : QTS) : Option (PR QV) :=
  if t.2.2.2.2.2 = 200 then pad 1 (pbo (some (sNumber D n 0 7 (sNext D n t))) fun v t1 => some (.inr (([(2, v)], fun nm => sHas (nm 8) v), t1, 0)))
  else some (.inl (5, t.2.1, 1))
def isCmp (s : Int32) : Prop := s = 60 ∨ s = 62 ∨ s = 61 ∨ s = 35 ∨ s = 303 ∨ s = 304
def sCmpd (D : Nat → Int32) (n : Nat) (t : QTS) : Option (PR QV) :=
  pbo (sSum D n t) fun q t1 => if t1.2.2.1 = 60 ∨ t1.2.2.1 = 62 ∨ t1.2.2.1 = 61 ∨ t1.2.2.1 = 35 ∨ t1.2.2.1 = 303 ∨ t1.2.2.1 = 304 then pad 1 (pbo (sSum D n (sNext D n t1)) fun q2 t2 => some (.inr ((q.1 ++ q2.1 ++ [(cmpOf t1.2.2.1, 0)], fun nm => sCmp t1.2.2.1 (q.2 nm) (q2.2 nm)), t2, 0))) else some (.inl (1, t1.2.1, 1))
def sAsk (D : Nat → Int32) (n : Nat) : Nat → QTS → Option (PR QV)
  | 0, _ => none
  | d + 1, t =>
    if t.2.2.1 = 218 then pbo (some (sOpens D n t)) fun _ t1 => pad 1 (pbo (sAsk D n d t1) fun q t2 => some (.inr ((q.1 ++ [(20, 0)], fun nm => !(q.2 nm)), tDown t2, 0)))
    else if t.2.2.1 = 219 then sFact D n t
    else if t.2.2.1 = 220 then sMost D n (sEithW D n (sAsk D n d)) t
    else sCmpd D n t
def sEither (D : Nat → Int32) (n : Nat) : QTS → Option (PR QV) := sEithW D n (sAsk D n 9)
def sWhole (D : Nat → Int32) (n : Nat) (t : QTS) : Option (PR QV) :=
  pbo (sEither D n t) fun q t1 => if t1.2.2.1 = 215 then pad 1 (pbo (sEither D n (sNext D n t1)) fun q2 t2 => some (.inr ((q.1 ++ q2.1 ++ [(23, 0)], fun nm => q.2 nm && !(q2.2 nm)), t2, 0))) else some (.inr (q, t1, 0))
/-! where the tokens are: at most at the end, as many open, of the same kind -/
def TK (n : Nat) (t t' : QTS) : Prop := t'.1 ≤ n ∧ t'.2.2.2.2 = t.2.2.2.2
theorem TK.tr {n : Nat} {a b c : QTS} (h : TK n a b) (g : TK n b c) : TK n a c := ⟨g.1, g.2.trans h.2⟩
theorem TK.nx {D : Nat → Int32} {n : Nat} {t : QTS} (h : t.1 ≤ n) : TK n t (sNext D n t) := by
  refine ⟨(sNext_le h).1, ?_⟩
  rw [sNext_eq]
  unfold sNx
  repeat' split
  all_goals rfl
/-- what was read leaves the tokens well -/
def PT {α : Type} (n : Nat) (f : QTS → Option (PR α)) : Prop := ∀ t q t' c, t.1 ≤ n → f t = some (.inr (q, t', c)) → TK n t t'
theorem padd_inr {α : Type} {c : Nat} {r : PR α} {x : α × QTS × Nat} (h : padd c r = .inr x) : ∃ d, r = .inr (x.1, x.2.1, d) ∧ x.2.2 = c + d := by
  cases r with
  | inl e => cases h
  | inr y => have := Sum.inr.inj h; subst this; exact ⟨y.2.2, rfl, rfl⟩
theorem pad_inr {α : Type} {c : Nat} {r : Option (PR α)} {x : α × QTS × Nat} (h : pad c r = some (.inr x)) : ∃ d, r = some (.inr (x.1, x.2.1, d)) ∧ x.2.2 = c + d := by
  obtain ⟨y, h1, h2⟩ := pad_s h
  obtain ⟨d, h3, h4⟩ := padd_inr h2.symm
  exact ⟨d, by rw [h1, h3], h4⟩
theorem pbo_inr {α β : Type} {r : Option (PR α)} {k : α → QTS → Option (PR β)} {x : β × QTS × Nat} (h : pbo r k = some (.inr x)) : ∃ a t c d, r = some (.inr (a, t, c)) ∧ k a t = some (.inr (x.1, x.2.1, d)) ∧ x.2.2 = c + d := by
  rcases pbo_s h with ⟨e, h1, h2⟩ | ⟨a, t, c, y, h1, h2, h3⟩
  · cases h2
  · obtain ⟨d, h4, h5⟩ := padd_inr h3.symm
    exact ⟨a, t, c, d, h1, by rw [h2, h4], h5⟩
theorem PT.number {D : Nat → Int32} {n : Nat} {lo hi : Int32} : PT n (fun t => some (sNumber D n lo hi t)) := by
  intro t q t' c ht h
  have h := Option.some.inj h
  unfold sNumber at h
  by_cases c1 : t.2.2.1 = 300
  · rw [if_pos c1] at h
    by_cases c2 : t.2.2.2.1 < lo ∨ hi < t.2.2.2.1
    · rw [if_pos c2] at h; cases h
    · rw [if_neg c2] at h
      cases h
      exact TK.nx ht
  · rw [if_neg c1] at h; cases h
theorem PT.want {D : Nat → Int32} {n : Nat} {z : Int32} : PT n (fun t => some (sWant D n z t)) := by
  intro t q t' c ht h
  have h := Option.some.inj h
  unfold sWant at h
  by_cases c1 : t.2.2.1 = z
  · rw [if_pos c1] at h
    cases h
    exact TK.nx ht
  · rw [if_neg c1] at h; cases h
/-- behind a sign that opens: one more is open -/
def TU (n : Nat) (t t' : QTS) : Prop := t'.1 ≤ n ∧ t'.2.2.2.2 = (t.2.2.2.2.1 + 1, t.2.2.2.2.2)
theorem opens_t {D : Nat → Int32} {n : Nat} {t t' : QTS} {c : Nat} (ht : t.1 ≤ n) (h : some (sOpens D n t) = some (.inr ((), t', c))) : TU n t t' ∧ t.2.2.2.2.1 ≠ 8 := by
  have h := Option.some.inj h
  unfold sOpens at h
  by_cases c1 : t.2.2.2.2.1 = 8
  · rw [if_pos c1] at h; cases h
  · rw [if_neg c1] at h
    cases h
    exact ⟨TK.nx (t := (t.1, t.2.1, t.2.2.1, t.2.2.2.1, t.2.2.2.2.1 + 1, t.2.2.2.2.2)) ht, c1⟩
theorem TU.down {n : Nat} {t a b : QTS} (h : TU n t a) (g : TK n a b) : TK n t (tDown b) := by
  refine ⟨g.1, ?_⟩
  have e := g.2.trans h.2
  have e1 : b.2.2.2.2.1 = t.2.2.2.2.1 + 1 := by rw [e]
  have e2 : b.2.2.2.2.2 = t.2.2.2.2.2 := by rw [e]
  show (b.2.2.2.2.1 - 1, b.2.2.2.2.2) = t.2.2.2.2
  rw [e1, e2]
  rfl
theorem PT.chL {D : Nat → Int32} {n : Nat} {one : QTS → Option (PR QU)} {s1 s2 : Int32} (h1 : PT n one) : ∀ (f : Nat) (q : QU) (its : List QUi), PT n (sChL D n one s1 s2 f q its) := by
  intro f
  induction f with
  | zero => intro q its t x t' c ht h; cases h
  | succ f ih =>
    intro q its t x t' c ht h
    rw [sChL] at h
    by_cases c1 : t.2.2.1 = s1 ∨ t.2.2.1 = s2
    · rw [if_pos c1] at h
      obtain ⟨a, t2, c2, d, g1, g2, -⟩ := pbo_inr h
      obtain ⟨d2, g3, -⟩ := pad_inr g2
      have k1 := TK.nx (D := D) ht
      have k2 := h1 _ _ _ _ k1.1 g1
      exact (k1.tr k2).tr (ih _ _ _ _ _ _ k2.1 g3)
    · rw [if_neg c1] at h
      cases h
      exact ⟨ht, rfl⟩
theorem PT.chn {D : Nat → Int32} {n : Nat} {one : QTS → Option (PR QU)} {s1 s2 : Int32} (h1 : PT n one) : PT n (sChn D n one s1 s2) := by
  intro t x t' c ht h
  unfold sChn at h
  obtain ⟨d, g1, -⟩ := pad_inr h
  obtain ⟨a, t2, c2, d2, g2, g3, -⟩ := pbo_inr g1
  obtain ⟨d3, g4, -⟩ := pad_inr g3
  have k2 := h1 _ _ _ _ ht g2
  exact k2.tr (PT.chL h1 _ _ _ _ _ _ _ k2.1 g4)
theorem PT.one {D : Nat → Int32} {n : Nat} : ∀ d, PT n (sOne D n d) := by
  intro d
  induction d with
  | zero => intro t x t' c ht h; cases h
  | succ d ih =>
    intro t x t' c ht h
    rw [sOne] at h
    by_cases c1 : t.2.2.1 = 300
    · rw [if_pos c1] at h
      obtain ⟨d1, g1, -⟩ := pad_inr h
      obtain ⟨a, t2, c2, d2, g2, g3, -⟩ := pbo_inr g1
      cases g3
      exact PT.number _ _ _ _ ht g2
    rw [if_neg c1] at h
    by_cases c2 : sNameOf t.2.2.1 = -1
    · rw [if_pos c2] at h
      by_cases c3 : t.2.2.1 = 40
      · rw [if_pos c3] at h
        obtain ⟨a, t1, e1, d1, g1, h, -⟩ := pbo_inr h
        obtain ⟨q, t2, e2, d2, g2, h, -⟩ := pbo_inr h
        obtain ⟨a3, t3, e3, d3, g3, h, -⟩ := pbo_inr h
        cases h
        have k1 := (opens_t ht g1).1
        have k2 := PT.chn (PT.chn ih) _ _ _ _ k1.1 g2
        exact k1.down (k2.tr (PT.want _ _ _ _ k2.1 g3))
      rw [if_neg c3] at h
      by_cases c4 : t.2.2.1 = 45
      · rw [if_pos c4] at h
        obtain ⟨a, t1, e1, d1, g1, h, -⟩ := pbo_inr h
        obtain ⟨d3, h, -⟩ := pad_inr h
        obtain ⟨q, t2, e2, d2, g2, h, -⟩ := pbo_inr h
        cases h
        have k1 := (opens_t ht g1).1
        exact k1.down (ih _ _ _ _ k1.1 g2)
      · rw [if_neg c4] at h; cases h
    rw [if_neg c2] at h
    by_cases c3 : sMay t.2.2.2.2.2 (sNameOf t.2.2.1) = true
    · rw [if_pos c3] at h
      cases h
      exact TK.nx ht
    · rw [if_neg c3] at h; cases h
theorem PT.sum {D : Nat → Int32} {n : Nat} {d : Nat} : PT n (sSumW D n (sOne D n d)) := PT.chn (PT.chn (PT.one d))
theorem PT.alL {D : Nat → Int32} {n : Nat} {one : QTS → Option (PR QV)} {s z : Int32} (h1 : PT n one) : ∀ (f : Nat) (its : List QV), PT n (sAlL D n one s z f its) := by
  intro f
  induction f with
  | zero => intro its t x t' c ht h; cases h
  | succ f ih =>
    intro its t x t' c ht h
    rw [sAlL] at h
    by_cases c1 : t.2.2.1 = s
    · rw [if_pos c1] at h
      obtain ⟨a, t2, c2, d, g1, g2, -⟩ := pbo_inr h
      obtain ⟨d2, g3, -⟩ := pad_inr g2
      have k1 := TK.nx (D := D) ht
      have k2 := h1 _ _ _ _ k1.1 g1
      exact (k1.tr k2).tr (ih _ _ _ _ _ k2.1 g3)
    · rw [if_neg c1] at h
      cases h
      exact ⟨ht, rfl⟩
theorem PT.all {D : Nat → Int32} {n : Nat} {one : QTS → Option (PR QV)} {s z : Int32} (h1 : PT n one) : PT n (sAll D n one s z) := by
  intro t x t' c ht h
  unfold sAll at h
  obtain ⟨d, g1, -⟩ := pad_inr h
  obtain ⟨a, t2, c2, d2, g2, g3, -⟩ := pbo_inr g1
  obtain ⟨d3, g4, -⟩ := pad_inr g3
  have k2 := h1 _ _ _ _ ht g2
  exact k2.tr (PT.alL h1 _ _ _ _ _ _ k2.1 g4)
/-- within a most: one more is open, what is read shuts it -/
theorem PT.moL {D : Nat → Int32} {n : Nat} {one : QTS → Option (PR QV)} (h1 : PT n one) : ∀ (f : Nat) (its : List QV) (t t0 : QTS) (x : QV) (t' : QTS) (c : Nat), TU n t0 t → sMoL D n one f its t = some (.inr (x, t', c)) → TK n t0 t' := by
  intro f
  induction f with
  | zero => intro its t t0 x t' c ht h; cases h
  | succ f ih =>
    intro its t t0 x t' c ht h
    rw [sMoL] at h
    by_cases c1 : t.2.2.1 = 44
    · rw [if_pos c1] at h
      by_cases c2 : its.length = 6
      · rw [if_pos c2] at h; cases h
      rw [if_neg c2] at h
      obtain ⟨a, t2, c2, d, g1, g2, -⟩ := pbo_inr h
      obtain ⟨d2, g3, -⟩ := pad_inr g2
      have k1 := TK.nx (D := D) ht.1
      have k2 := k1.tr (h1 _ _ _ _ k1.1 g1)
      exact ih _ _ _ _ _ _ ⟨k2.1, k2.2.trans ht.2⟩ g3
    · rw [if_neg c1] at h
      obtain ⟨a, t2, c2, d, g1, g2, -⟩ := pbo_inr h
      cases g2
      exact ht.down (PT.want _ _ _ _ ht.1 g1)
theorem PT.most {D : Nat → Int32} {n : Nat} {one : QTS → Option (PR QV)} (h1 : PT n one) : PT n (sMost D n one) := by
  intro t x t' c ht h
  unfold sMost at h
  obtain ⟨a, t1, e1, d1, g1, h, -⟩ := pbo_inr h
  obtain ⟨d, h, -⟩ := pad_inr h
  obtain ⟨a2, t2, e2, d2, g2, h, -⟩ := pbo_inr h
  obtain ⟨q, t3, e3, d3, g3, h, -⟩ := pbo_inr h
  obtain ⟨d4, g4, -⟩ := pad_inr h
  have k1 := (opens_t ht g1).1
  have k2 := PT.want _ _ _ _ k1.1 g2
  have k3 := k2.tr (h1 _ _ _ _ k2.1 g3)
  exact PT.moL h1 _ _ _ _ _ _ _ ⟨k3.1, k3.2.trans k1.2⟩ g4
theorem PT.fact {D : Nat → Int32} {n : Nat} : PT n (sFact D n) := by
  intro t x t' c ht h
  unfold sFact at h
  by_cases c1 : t.2.2.2.2.2 = 200
  · rw [if_pos c1] at h
    obtain ⟨d, h, -⟩ := pad_inr h
    obtain ⟨a, t1, e1, d1, g1, h, -⟩ := pbo_inr h
    cases h
    have k1 := TK.nx (D := D) ht
    exact k1.tr (PT.number _ _ _ _ k1.1 g1)
  · rw [if_neg c1] at h; cases h
theorem PT.cmpd {D : Nat → Int32} {n : Nat} : PT n (sCmpd D n) := by
  intro t x t' c ht h
  unfold sCmpd at h
  obtain ⟨q, t1, e1, d1, g1, h, -⟩ := pbo_inr h
  have k1 := PT.sum _ _ _ _ ht g1
  by_cases c1 : t1.2.2.1 = 60 ∨ t1.2.2.1 = 62 ∨ t1.2.2.1 = 61 ∨ t1.2.2.1 = 35 ∨ t1.2.2.1 = 303 ∨ t1.2.2.1 = 304
  · rw [if_pos c1] at h
    obtain ⟨d, h, -⟩ := pad_inr h
    obtain ⟨q2, t2, e2, d2, g2, h, -⟩ := pbo_inr h
    cases h
    have k2 := TK.nx (D := D) k1.1
    exact (k1.tr k2).tr (PT.sum _ _ _ _ k2.1 g2)
  · rw [if_neg c1] at h; cases h
theorem PT.ask {D : Nat → Int32} {n : Nat} : ∀ d, PT n (sAsk D n d) := by
  intro d
  induction d with
  | zero => intro t x t' c ht h; cases h
  | succ d ih =>
    intro t x t' c ht h
    rw [sAsk] at h
    by_cases c1 : t.2.2.1 = 218
    · rw [if_pos c1] at h
      obtain ⟨a, t1, e1, d1, g1, h, -⟩ := pbo_inr h
      obtain ⟨d3, h, -⟩ := pad_inr h
      obtain ⟨q, t2, e2, d2, g2, h, -⟩ := pbo_inr h
      cases h
      have k1 := (opens_t ht g1).1
      exact k1.down (ih _ _ _ _ k1.1 g2)
    rw [if_neg c1] at h
    by_cases c2 : t.2.2.1 = 219
    · rw [if_pos c2] at h
      exact PT.fact _ _ _ _ ht h
    rw [if_neg c2] at h
    by_cases c3 : t.2.2.1 = 220
    · rw [if_pos c3] at h
      exact PT.most (PT.all (PT.all ih)) _ _ _ _ ht h
    · rw [if_neg c3] at h
      exact PT.cmpd _ _ _ _ ht h
theorem PT.eith {D : Nat → Int32} {n d : Nat} : PT n (sEithW D n (sAsk D n d)) := PT.all (PT.all (PT.ask d))
theorem PT.whole {D : Nat → Int32} {n : Nat} : PT n (sWhole D n) := by
  intro t x t' c ht h
  unfold sWhole at h
  obtain ⟨q, t1, e1, d1, g1, h, -⟩ := pbo_inr h
  have k1 := PT.eith _ _ _ _ ht g1
  by_cases c1 : t1.2.2.1 = 215
  · rw [if_pos c1] at h
    obtain ⟨d, h, -⟩ := pad_inr h
    obtain ⟨q2, t2, e2, d2, g2, h, -⟩ := pbo_inr h
    cases h
    have k2 := TK.nx (D := D) k1.1
    exact (k1.tr k2).tr (PT.eith _ _ _ _ k2.1 g2)
  · rw [if_neg c1] at h
    cases h
    exact k1
