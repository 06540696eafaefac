/-! what a text's trees say: values, codes (the reference's steps), cells; the contracts of their methods -/
set_option maxRecDepth 100000
abbrev QC : Type := List (Int32 × Int32)
abbrev QS : Type := (Nat → Int32) → Int64
abbrev QB : Type := (Nat → Int32) → Bool
def sClip (v : Int64) : Int64 := if (if v < 1000000 then v else 1000000) < (-1000000) then (-1000000) else (if v < 1000000 then v else 1000000)
def sTwo (s : Int32) (a b : Int64) : Int64 := sClip (if s = 43 then a + b else if s = 45 then a - b else if s = 42 then a * b else if b = 0 then 0 else a / b)
def sCmp (s : Int32) (a b : Int64) : Bool := if s = 60 then decide (a - b < 0) else if s = 62 then decide (0 < a - b) else if s = 61 then decide (a - b = 0) else if s = 35 then decide (¬ a - b = 0) else if s = 303 then decide (a - b ≤ 0) else decide (0 ≤ a - b)
def sHas (x k : Int32) : Bool := decide ((x >>> (k &&& 31)) &&& 1 = 1)
/-- a chain's items: sign, address, code, value -/
abbrev QIt : Type := Int32 × Nat × QC × QS
def sChain (nm : Nat → Int32) (a : Int64) (its : List QIt) : Int64 := its.foldl (fun a it => sTwo it.1 a (it.2.2.2 nm)) a
def opOf (s : Int32) : Int32 := if s = 43 then 5 else if s = 45 then 6 else if s = 42 then 7 else 8
def cmpOf (s : Int32) : Int32 := if s = 60 then 10 else if s = 303 then 11 else if s = 62 then 12 else if s = 304 then 13 else if s = 61 then 14 else 15
/-- the list at a holds Integers with these values -/
def IntsAt (K : QK) (M : QM) (a : Nat) (vs : List Int32) : Prop := ∃ xs : List Nat, LstAt K M a xs ∧ xs.length = vs.length ∧ ∀ (i x : Nat) (v : Int32), xs[i]? = some x → vs[i]? = some v → DAt K M x (.inr (18, [.int v]))
theorem IntsAt.ext {K : QK} {M M' : QM} {a : Nat} {vs : List Int32} (h : IntsAt K M a vs) (hx : QExt M M') : IntsAt K M' a vs := by
  obtain ⟨xs, h1, h2, h3⟩ := h
  exact ⟨xs, h1.ext hx, h2, fun i x v q1 q2 => (h3 i x v q1 q2).ext hx⟩
/-- a sum's tree at a: its code, its value of the names -/
def SumAt (K : QK) (M : QM) : Nat → Nat → QC → QS → Prop
  | 0, _, _, _ => False
  | n + 1, a, c, φ =>
    (∃ v : Int32, DAt K M a (.inr (10, [.int v])) ∧ c = [(0, v)] ∧ φ = fun _ => v.toInt64) ∨
    (∃ v : Int32, DAt K M a (.inr (11, [.int v])) ∧ qok v 8 = true ∧ c = [(1, v)] ∧ φ = fun nm => (nm v.toNatClampNeg).toInt64) ∨
    (∃ (b : Nat) (c1 : QC) (φ1 : QS), DAt K M a (.inr (12, [.ref b])) ∧ SumAt K M n b c1 φ1 ∧ c = c1 ++ [(4, 0)] ∧ φ = fun nm => -(φ1 nm)) ∨
    (∃ (f lm lg : Nat) (c1 : QC) (φ1 : QS) (its : List QIt), DAt K M a (.inr (9, [.ref f, .ref lm, .ref lg])) ∧ SumAt K M n f c1 φ1 ∧ LstAt K M lm (its.map (fun it => it.2.1)) ∧ IntsAt K M lg (its.map (fun it => it.1)) ∧ (∀ it ∈ its, SumAt K M n it.2.1 it.2.2.1 it.2.2.2) ∧ c = c1 ++ its.flatMap (fun it => it.2.2.1 ++ [(opOf it.1, 0)]) ∧ φ = fun nm => sChain nm (φ1 nm) its)
/-- items of All and Most: address, code, truth -/
abbrev QJt : Type := Nat × QC × QB
def sCount (nm : Nat → Int32) (its : List QJt) : Nat := (its.filter (fun it => it.2.2 nm)).length
def AskAt (K : QK) (M : QM) : Nat → Nat → QC → QB → Prop
  | 0, _, _, _ => False
  | n + 1, a, c, ψ =>
    (∃ (b : Nat) (c1 : QC) (ψ1 : QB), DAt K M a (.inr (6, [.ref b])) ∧ AskAt K M n b c1 ψ1 ∧ c = c1 ++ [(20, 0)] ∧ ψ = fun nm => !(ψ1 nm)) ∨
    (∃ k : Int32, DAt K M a (.inr (7, [.int k])) ∧ qok k 8 = true ∧ c = [(2, k)] ∧ ψ = fun nm => sHas (nm 8) k) ∨
    (∃ (lm : Nat) (its : List QJt), DAt K M a (.inr (8, [.ref lm])) ∧ LstAt K M lm (its.map (fun it => it.1)) ∧ (∀ it ∈ its, AskAt K M n it.1 it.2.1 it.2.2) ∧ its.length ≤ 6 ∧ c = its.flatMap (fun it => it.2.1) ++ [(3, nI its.length)] ∧ ψ = fun nm => decide (its.length < 2 * sCount nm its)) ∨
    (∃ (g : Int32) (a1 b1 : Nat) (c1 c2 : QC) (φ1 φ2 : QS), DAt K M a (.inr (13, [.int g, .ref a1, .ref b1])) ∧ SumAt K M n a1 c1 φ1 ∧ SumAt K M n b1 c2 φ2 ∧ (g = 60 ∨ g = 62 ∨ g = 61 ∨ g = 35 ∨ g = 303 ∨ g = 304) ∧ c = c1 ++ c2 ++ [(cmpOf g, 0)] ∧ ψ = fun nm => sCmp g (φ1 nm) (φ2 nm)) ∨
    (∃ (z : Int32) (lm : Nat) (it0 : QJt) (its : List QJt), DAt K M a (.inr (14, [.int z, .ref lm])) ∧ (z = 0 ∨ z = 1) ∧ LstAt K M lm ((it0 :: its).map (fun it => it.1)) ∧ (∀ it ∈ it0 :: its, AskAt K M n it.1 it.2.1 it.2.2) ∧ c = it0.2.1 ++ its.flatMap (fun it => it.2.1 ++ [(22 - z, 0)]) ∧ ψ = fun nm => if z = 1 then decide (sCount nm (it0 :: its) = (it0 :: its).length) else decide (0 < sCount nm (it0 :: its))) ∨
    (∃ (a1 b1 : Nat) (c1 c2 : QC) (ψ1 ψ2 : QB), DAt K M a (.inr (15, [.ref a1, .ref b1])) ∧ AskAt K M n a1 c1 ψ1 ∧ AskAt K M n b1 c2 ψ2 ∧ c = c1 ++ c2 ++ [(23, 0)] ∧ ψ = fun nm => ψ1 nm && !(ψ2 nm))
theorem SumAt.ext {K : QK} {M M' : QM} (hx : QExt M M') : ∀ (n a : Nat) (c : QC) (φ : QS), SumAt K M n a c φ → SumAt K M' n a c φ := by
  intro n
  induction n with
  | zero => intro a c φ h; exact h
  | succ n ih =>
    intro a c φ h
    rcases h with ⟨v, h1, h2⟩ | ⟨v, h1, h2⟩ | ⟨b, c1, φ1, h1, h2, h3⟩ | ⟨f, lm, lg, c1, φ1, its, h1, h2, h3, h4, h5, h6⟩
    · exact Or.inl ⟨v, h1.ext hx, h2⟩
    · exact Or.inr (Or.inl ⟨v, h1.ext hx, h2⟩)
    · exact Or.inr (Or.inr (Or.inl ⟨b, c1, φ1, h1.ext hx, ih _ _ _ h2, h3⟩))
    · exact Or.inr (Or.inr (Or.inr ⟨f, lm, lg, c1, φ1, its, h1.ext hx, ih _ _ _ h2, h3.ext hx, h4.ext hx, fun it q => ih _ _ _ (h5 it q), h6⟩))
theorem AskAt.ext {K : QK} {M M' : QM} (hx : QExt M M') : ∀ (n a : Nat) (c : QC) (ψ : QB), AskAt K M n a c ψ → AskAt K M' n a c ψ := by
  intro n
  induction n with
  | zero => intro a c ψ h; exact h
  | succ n ih =>
    intro a c ψ h
    rcases h with ⟨b, c1, ψ1, h1, h2, h3⟩ | ⟨k, h1, h2⟩ | ⟨lm, its, h1, h2, h3, h4⟩ | ⟨g, a1, b1, c1, c2, φ1, φ2, h1, h2, h3, h4⟩ | ⟨z, lm, it0, its, h1, h2, h3, h4, h5⟩ | ⟨a1, b1, c1, c2, ψ1, ψ2, h1, h2, h3, h4⟩
    · exact Or.inl ⟨b, c1, ψ1, h1.ext hx, ih _ _ _ h2, h3⟩
    · exact Or.inr (Or.inl ⟨k, h1.ext hx, h2⟩)
    · exact Or.inr (Or.inr (Or.inl ⟨lm, its, h1.ext hx, h2.ext hx, fun it q => ih _ _ _ (h3 it q), h4⟩))
    · exact Or.inr (Or.inr (Or.inr (Or.inl ⟨g, a1, b1, c1, c2, φ1, φ2, h1.ext hx, SumAt.ext hx _ _ _ _ h2, SumAt.ext hx _ _ _ _ h3, h4⟩)))
    · exact Or.inr (Or.inr (Or.inr (Or.inr (Or.inl ⟨z, lm, it0, its, h1.ext hx, h2, h3.ext hx, fun it q => ih _ _ _ (h4 it q), h5⟩))))
    · exact Or.inr (Or.inr (Or.inr (Or.inr (Or.inr ⟨a1, b1, c1, c2, ψ1, ψ2, h1.ext hx, ih _ _ _ h2, ih _ _ _ h3, h4⟩))))
/-! deeper trees are trees -/
theorem SumAt.up {K : QK} {M : QM} : ∀ (n a : Nat) (c : QC) (φ : QS), SumAt K M n a c φ → SumAt K M (n + 1) a c φ := by
  intro n
  induction n with
  | zero => intro a c φ h; exact h.elim
  | succ n ih =>
    intro a c φ h
    rcases h with h | h | ⟨b, c1, φ1, h1, h2, h3⟩ | ⟨f, lm, lg, c1, φ1, its, h1, h2, h3, h4, h5, h6⟩
    · exact Or.inl h
    · exact Or.inr (Or.inl h)
    · exact Or.inr (Or.inr (Or.inl ⟨b, c1, φ1, h1, ih _ _ _ h2, h3⟩))
    · exact Or.inr (Or.inr (Or.inr ⟨f, lm, lg, c1, φ1, its, h1, ih _ _ _ h2, h3, h4, fun it q => ih _ _ _ (h5 it q), h6⟩))
theorem SumAt.le {K : QK} {M : QM} {n k a : Nat} {c : QC} {φ : QS} (h : SumAt K M n a c φ) (hk : n ≤ k) : SumAt K M k a c φ := by
  induction hk with
  | refl => exact h
  | step _ ih => exact SumAt.up _ _ _ _ ih
theorem AskAt.up {K : QK} {M : QM} : ∀ (n a : Nat) (c : QC) (ψ : QB), AskAt K M n a c ψ → AskAt K M (n + 1) a c ψ := by
  intro n
  induction n with
  | zero => intro a c ψ h; exact h.elim
  | succ n ih =>
    intro a c ψ h
    rcases h with ⟨b, c1, ψ1, h1, h2, h3⟩ | h | ⟨lm, its, h1, h2, h3, h4⟩ | ⟨g, a1, b1, c1, c2, φ1, φ2, h1, h2, h3, h4⟩ | ⟨z, lm, it0, its, h1, h2, h3, h4, h5⟩ | ⟨a1, b1, c1, c2, ψ1, ψ2, h1, h2, h3, h4⟩
    · exact Or.inl ⟨b, c1, ψ1, h1, ih _ _ _ h2, h3⟩
    · exact Or.inr (Or.inl h)
    · exact Or.inr (Or.inr (Or.inl ⟨lm, its, h1, h2, fun it q => ih _ _ _ (h3 it q), h4⟩))
    · exact Or.inr (Or.inr (Or.inr (Or.inl ⟨g, a1, b1, c1, c2, φ1, φ2, h1, SumAt.up _ _ _ _ h2, SumAt.up _ _ _ _ h3, h4⟩)))
    · exact Or.inr (Or.inr (Or.inr (Or.inr (Or.inl ⟨z, lm, it0, its, h1, h2, h3, fun it q => ih _ _ _ (h4 it q), h5⟩))))
    · exact Or.inr (Or.inr (Or.inr (Or.inr (Or.inr ⟨a1, b1, c1, c2, ψ1, ψ2, h1, ih _ _ _ h2, ih _ _ _ h3, h4⟩))))
theorem AskAt.le {K : QK} {M : QM} {n k a : Nat} {c : QC} {ψ : QB} (h : AskAt K M n a c ψ) (hk : n ≤ k) : AskAt K M k a c ψ := by
  induction hk with
  | refl => exact h
  | step _ ih => exact AskAt.up _ _ _ _ ih
def xSum : MethodName := ⟨"VaneCourt$Sum", "of", "([I)J"⟩
def xAsk : MethodName := ⟨"VaneCourt$Asked", "is", "([I)Z"⟩
def qfl : List (String × MethodName × MethodName) := [(RX10, xSum, yX10_of), (RX11, xSum, yX11_of), (RX12, xSum, yX12_of), (RX9, xSum, yX9_of), (RX6, xAsk, yX6_is), (RX7, xAsk, yX7_is), (RX8, xAsk, yX8_is), (RX13, xAsk, yX13_is), (RX14, xAsk, yX14_is), (RX15, xAsk, yX15_is)]
def QF (G : State → Prop) : Prop := ∀ U, G U → ∀ t ∈ qfl, va_Fw t.1 t.2.1 t.2.2 U
theorem QF.at {G : State → Prop} (h : QF G) (i : Nat) {t : String × MethodName × MethodName} (ht : qfl[i]? = some t) : ∀ U, G U → va_Fw t.1 t.2.1 t.2.2 U := fun U hU => h U hU t (List.mem_of_getElem? ht)
theorem kd_xSum : xSum.cls ≠ "java/lang/invoke/MethodHandle" ∧ xSum.cls ≠ "java/lang/invoke/VarHandle" ∧ (parseMethodDescriptor xSum.desc).map (fun d => d.parameters.length) = some 1 := by decide +kernel
theorem kd_xAsk : xAsk.cls ≠ "java/lang/invoke/MethodHandle" ∧ xAsk.cls ≠ "java/lang/invoke/VarHandle" ∧ (parseMethodDescriptor xAsk.desc).map (fun d => d.parameters.length) = some 1 := by decide +kernel
/-- the room of a tree of depth n -/
abbrev tF (n : Nat) : Nat := n + 6
abbrev tL (n : Nat) : Nat := n * 60 + 400
