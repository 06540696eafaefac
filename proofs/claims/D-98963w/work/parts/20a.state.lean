/-! THE PURE LAW, 1: numbers; the abstract state; how the two systems' cells show it -/
set_option maxRecDepth 100000
abbrev P31 (n : Nat) : Prop := n < 2147483648
theorem nx_sub {a b : Nat} (h : b ≤ a) : nI a - nI b = nI (a - b) := by
  have e : a = (a - b) + b := by omega
  have e2 : nI a = nI (a - b) + nI b := by rw [nI_addn, ← e]
  rw [e2]
  exact vz_sub _ _
theorem nx_mul (a b : Nat) : nI a * nI b = nI (a * b) := (Int32.ofNat_mul a b).symm
theorem nx_eq {a b : Nat} (ha : P31 a) (hb : P31 b) : (nI a = nI b) = (a = b) := propext ⟨fun h => nI_inj h ha hb, fun h => by rw [h]⟩
theorem nx_lt {a b : Nat} (ha : P31 a) (hb : P31 b) : (nI a < nI b) = (a < b) := propext (nI_ltI ha hb)
theorem nx_le {a b : Nat} (ha : P31 a) (hb : P31 b) : (nI a ≤ nI b) = (a ≤ b) := propext (nI_leI ha hb)
theorem nx_cl {a : Nat} (ha : P31 a) : (nI a).toNatClampNeg = a := nI_clamp ha
theorem nx_ok {a n : Nat} (ha : P31 a) (h : a < n) : qok (nI a) n = true := by
  unfold qok
  rw [nI_toInt ha, decide_eq_true (by omega), decide_eq_true (by omega)]
  rfl
theorem nx_nok {a n : Nat} (ha : P31 a) (h : ¬ a < n) : qok (nI a) n = false := by
  unfold qok
  rw [nI_toInt ha, decide_eq_false (p := (a : Int) < (n : Int)) (by omega), Bool.and_false]
theorem nx_m1 {a : Nat} (ha : P31 a) : (nI a = -1) = False := by
  refine eq_false (fun h => ?_)
  have h := congrArg Int32.toInt h
  rw [nI_toInt ha] at h
  have e : (-1 : Int32).toInt = -1 := by decide
  rw [e] at h
  omega
theorem nx_m1' {a : Nat} (ha : P31 a) : (-1 = nI a) = False := by
  rw [show ((-1 : Int32) = nI a) = (nI a = -1) from propext ⟨Eq.symm, Eq.symm⟩]
  exact nx_m1 ha
theorem nx_ltm {a : Nat} (ha : P31 a) : (nI a < -1) = False := by
  refine eq_false (fun h => ?_)
  rw [Int32.lt_iff_toInt_lt, nI_toInt ha] at h
  have e : (-1 : Int32).toInt = -1 := by decide
  rw [e] at h
  omega
theorem nx_lem {a : Nat} (ha : P31 a) : (-1 < nI a) = True := by
  refine eq_true ?_
  rw [Int32.lt_iff_toInt_lt, nI_toInt ha]
  have e : (-1 : Int32).toInt = -1 := by decide
  rw [e]
  omega
theorem nx_div {a b : Nat} (ha : P31 a) (hb : P31 b) : nI a / nI b = nI (a / b) := by
  apply Int32.toInt_inj.mp
  have h1 : a / b ≤ a := Nat.div_le_self a b
  have h2 : P31 (a / b) := Nat.lt_of_le_of_lt h1 ha
  have e : (a : Int).tdiv (b : Int) = ((a / b : Nat) : Int) := by rw [Int.tdiv_eq_ediv_of_nonneg (by omega)]; rfl
  rw [Int32.toInt_div, nI_toInt ha, nI_toInt hb, nI_toInt h2, e]
  generalize a / b = k at h2
  exact Int.bmod_eq_of_le (by omega) (by omega)
/-- a number that an argument is, if it is below n -/
theorem qok_of {x : Int32} {n : Nat} (h : qok x n = true) : ∃ c, c < n ∧ P31 c ∧ x = nI c := by
  simp only [qok, Bool.and_eq_true, decide_eq_true_eq] at h
  refine ⟨x.toInt.toNat, by omega, ?_, ?_⟩
  · have := Int32.toInt_lt x
    show x.toInt.toNat < 2147483648
    omega
  · apply Int32.toInt_inj.mp
    have := Int32.toInt_lt x
    rw [nI_toInt (by omega)]
    omega
def oN (o : Option Nat) : Int32 := match o with
  | none => -1
  | some c => nI c
theorem oN_s {c : Nat} : oN (some c) = nI c := rfl
theorem oN_n : oN none = -1 := rfl
theorem in_gen {x lo hi : Int32} : f_X0_in x lo hi = some (if lo ≤ x ∧ x ≤ hi then 1 else 0) := by
  unfold f_X0_in
  by_cases h1 : x < lo
  · rw [if_pos h1, if_neg (fun h => absurd h1 (Int32.not_lt.mpr h.1))]
  · rw [if_neg h1]
    by_cases h2 : hi < x
    · rw [if_pos h2, if_neg (fun h => absurd h2 (Int32.not_lt.mpr h.2))]
    · rw [if_neg h2, if_pos ⟨Int32.not_lt.mp h1, Int32.not_lt.mp h2⟩]
theorem isIn_eq : f_X2_isIn = f_X0_in := rfl
theorem in_nat {x : Int32} {lo hi : Nat} (h2 : P31 (hi + 1)) : f_X0_in x (nI lo) (nI hi) = some (if qok x (hi + 1) = true ∧ lo ≤ x.toNatClampNeg then 1 else 0) ∨ ¬ P31 lo := by
  by_cases h1 : P31 lo
  · left
    rw [in_gen]
    congr 1
    have hh : P31 hi := Nat.lt_of_succ_lt h2
    have e : (nI lo ≤ x ∧ x ≤ nI hi) = (qok x (hi + 1) = true ∧ lo ≤ x.toNatClampNeg) := by
      rw [Int32.le_iff_toInt_le, Int32.le_iff_toInt_le, nI_toInt h1, nI_toInt hh]
      simp only [qok, Bool.and_eq_true, decide_eq_true_eq, Int32.toNatClampNeg]
      apply propext
      constructor
      · intro h; omega
      · intro h; omega
    simp only [e]
  · exact Or.inr h1
theorem in_n {x : Int32} {lo hi : Nat} (h1 : P31 lo) (h2 : P31 (hi + 1)) : f_X0_in x (nI lo) (nI hi) = some (if qok x (hi + 1) = true ∧ lo ≤ x.toNatClampNeg then 1 else 0) := (in_nat h2).resolve_right (fun h => h h1)
/-- below a count -/
theorem in_c {x : Int32} {n : Nat} (h : P31 n) : f_X0_in x 0 (nI n - 1) = some (if qok x n = true then 1 else 0) := by
  rw [in_gen]
  congr 1
  have e : (0 ≤ x ∧ x ≤ nI n - 1) = (qok x n = true) := by
    rw [Int32.le_iff_toInt_le, Int32.le_iff_toInt_le]
    have e1 : (nI n - 1).toInt = (n : Int) - 1 := by
      have e2 : (1 : Int32).toInt = 1 := by decide
      rw [Int32.toInt_sub, nI_toInt h, e2]
      exact Int.bmod_eq_of_le (by omega) (by omega)
    have e0 : (0 : Int32).toInt = 0 := by decide
    rw [e1, e0]
    simp only [qok, Bool.and_eq_true, decide_eq_true_eq]
    apply propext
    constructor
    · intro h; omega
    · intro h; omega
  simp only [e]
/-- a wind: quarter, force, fog, hour, what is drawn from -/
abbrev Wd : Type := Nat × Nat × Nat × Nat × Nat
/-- a row: the wind; who is in court; heard, laws, delays; of each case how it is, its sentence, whether it appealed; the book: hour, case, verdict, sentence -/
abbrev Row : Type := Wd × Option Nat × (Nat × Nat × Nat) × (Nat → Nat × Nat × Nat) × List (Nat × Nat × Nat × Nat)
/-- of a case: kind, gravity, needs, facts -/
abbrev Tri : Type := Nat → Nat × Nat × Nat × Nat
/-- a state: cases, texts, the text by which; trials; the row; steps (cases then, row), the oldest first; records; learned; counsel -/
abbrev Sta : Type := (Nat × Nat × Option Nat) × Tri × Row × List (Nat × Row) × List (Nat × Nat × Nat) × List (Nat × Nat) × List (Nat × Nat)
def WAt (w : Wd) (a : Nat → Int32) : Prop := a 0 = nI w.1 ∧ a 1 = nI w.2.1 ∧ a 2 = nI w.2.2.1 ∧ a 3 = nI w.2.2.2.1 ∧ a 4 = nI w.2.2.2.2
def RowAt (ρ : Row) (a : Nat → Int32) : Prop :=
  WAt ρ.1 a ∧ a 5 = oN ρ.2.1 ∧ (a 6 = nI ρ.2.2.1.1 ∧ a 7 = nI ρ.2.2.1.2.1 ∧ a 8 = nI ρ.2.2.1.2.2) ∧ (∀ c, c < 8 → a (9 + c) = nI (ρ.2.2.2.1 c).1 ∧ a (17 + c) = nI (ρ.2.2.2.1 c).2.1 ∧ a (25 + c) = nI (ρ.2.2.2.1 c).2.2) ∧ a 33 = nI ρ.2.2.2.2.length ∧ ∀ i e, ρ.2.2.2.2[i]? = some e → a (34 + 4 * i) = nI e.1 ∧ a (34 + 4 * i + 1) = nI e.2.1 ∧ a (34 + 4 * i + 2) = nI e.2.2.1 ∧ a (34 + 4 * i + 3) = nI e.2.2.2
/-- the same in the model's row -/
def RowB (ρ : Row) (b : Nat → Int32) : Prop :=
  WAt ρ.1 (fun k => b (8 + k)) ∧ b 13 = oN ρ.2.1 ∧ (b 14 = nI ρ.2.2.1.1 ∧ b 15 = nI ρ.2.2.1.2.1 ∧ b 16 = nI ρ.2.2.1.2.2) ∧ (∀ c, c < 8 → b (24 + 7 * c) = nI (ρ.2.2.2.1 c).1 ∧ b (25 + 7 * c) = nI (ρ.2.2.2.1 c).2.1 ∧ b (26 + 7 * c) = nI (ρ.2.2.2.1 c).2.2) ∧ b 17 = nI ρ.2.2.2.2.length
def BookB (bk : List (Nat × Nat × Nat × Nat)) (b : Nat → Int32) : Prop := ∀ i e, bk[i]? = some e → b (1182 + 2 * i) = nI (e.1 * 8 + e.2.1) ∧ b (1183 + 2 * i) = nI (e.2.2.1 * 1000 + e.2.2.2)
/-- a step in the model's row -/
def StepB (x : Nat) (s : Nat × Row) (b : Nat → Int32) : Prop :=
  b x = nI s.1 ∧ WAt s.2.1 (fun k => b (x + 1 + k)) ∧ b (x + 6) = oN s.2.2.1 ∧ (b (x + 7) = nI s.2.2.2.1.1 ∧ b (x + 8) = nI s.2.2.2.1.2.1 ∧ b (x + 9) = nI s.2.2.2.1.2.2) ∧ b (x + 10) = nI s.2.2.2.2.2.length ∧ ∀ c, c < 8 → b (x + 11 + 3 * c) = nI (s.2.2.2.2.1 c).1 ∧ b (x + 11 + 3 * c + 1) = nI (s.2.2.2.2.1 c).2.1 ∧ b (x + 11 + 3 * c + 2) = nI (s.2.2.2.2.1 c).2.2
/-- the component's state at its labels la .. -/
def SA (σ : Sta) (A : QA) (la : Nat) : Prop :=
  (A la 0 = nI σ.1.1 ∧ A la 1 = nI σ.1.2.1 ∧ A la 2 = oN σ.1.2.2 ∧ A la 3 = nI σ.2.2.2.1.length ∧ A la 4 = nI σ.2.2.2.2.1.length ∧ A la 5 = nI σ.2.2.2.2.2.1.length ∧ A la 6 = nI σ.2.2.2.2.2.2.length) ∧
  (∀ c, c < σ.1.1 → A (la + 10 + c) 0 = nI (σ.2.1 c).1 ∧ A (la + 10 + c) 1 = nI (σ.2.1 c).2.1 ∧ A (la + 10 + c) 2 = nI (σ.2.1 c).2.2.1 ∧ A (la + 10 + c) 3 = nI (σ.2.1 c).2.2.2) ∧
  RowAt σ.2.2.1 (A (la + 1)) ∧ (∀ i s, σ.2.2.2.1[i]? = some s → RowAt s.2 (A (la + 50 + i))) ∧
  (∀ i r, σ.2.2.2.2.1[i]? = some r → A (la + 20 + i) 0 = nI r.1 ∧ A (la + 20 + i) 1 = nI r.2.1 ∧ A (la + 20 + i) 2 = nI r.2.2) ∧
  (∀ i r, σ.2.2.2.2.2.1[i]? = some r → A (la + 30 + i) 0 = nI r.1 ∧ A (la + 30 + i) 1 = nI r.2) ∧
  (∀ i r, σ.2.2.2.2.2.2[i]? = some r → A (la + 40 + i) 0 = nI r.1 ∧ A (la + 40 + i) 1 = nI r.2)
/-- the model's -/
def SB (σ : Sta) (b : Nat → Int32) : Prop :=
  (b 0 = nI σ.1.1 ∧ b 1 = nI σ.1.2.1 ∧ b 2 = oN σ.1.2.2 ∧ b 3 = nI σ.2.2.2.1.length ∧ b 4 = nI σ.2.2.2.2.1.length ∧ b 5 = nI σ.2.2.2.2.2.1.length ∧ b 6 = nI σ.2.2.2.2.2.2.length) ∧
  (∀ c, c < σ.1.1 → b (20 + 7 * c) = nI (σ.2.1 c).1 ∧ b (21 + 7 * c) = nI (σ.2.1 c).2.1 ∧ b (22 + 7 * c) = nI (σ.2.1 c).2.2.1 ∧ b (23 + 7 * c) = nI (σ.2.1 c).2.2.2) ∧
  RowB σ.2.2.1 b ∧ BookB σ.2.2.1.2.2.2.2 b ∧ (∀ i s, σ.2.2.2.1[i]? = some s → StepB (132 + 35 * i) s b) ∧
  (∀ i r, σ.2.2.2.2.1[i]? = some r → b (76 + 3 * i) = nI r.1 ∧ b (76 + 3 * i + 1) = nI r.2.1 ∧ b (76 + 3 * i + 2) = nI r.2.2) ∧
  (∀ i r, σ.2.2.2.2.2.1[i]? = some r → b (100 + 2 * i) = nI r.1 ∧ b (100 + 2 * i + 1) = nI r.2) ∧
  (∀ i r, σ.2.2.2.2.2.2[i]? = some r → b (116 + 2 * i) = nI r.1 ∧ b (116 + 2 * i + 1) = nI r.2)
/-- of a case, how much of the book is its -/
def wrO (z : Nat × Nat × Nat) : Nat := z.2.2 + if 2 ≤ z.1 then 1 else 0
def wrS (f : Nat → Nat × Nat × Nat) : Nat := wrO (f 0) + wrO (f 1) + wrO (f 2) + wrO (f 3) + wrO (f 4) + wrO (f 5) + wrO (f 6) + wrO (f 7)
def WOK (w : Wd) : Prop := w.1 < 4 ∧ w.2.1 < 10 ∧ w.2.2.1 < 2 ∧ w.2.2.2.1 < 10000 ∧ w.2.2.2.2 < 30389
/-- a row that can be, with n cases -/
def ROK (n : Nat) (tr : Tri) (ρ : Row) : Prop :=
  WOK ρ.1 ∧ (∀ c, ρ.2.1 = some c → c < n ∧ (ρ.2.2.2.1 c).1 = 1 ∧ ρ.2.2.1.1 < (tr c).2.2.1 + ρ.2.2.1.2.2) ∧ (ρ.2.2.1.1 < 16 ∧ ρ.2.2.1.2.1 < 16 ∧ ρ.2.2.1.2.2 < 4 ∧ (ρ.2.1 = none → ρ.2.2.1 = (0, 0, 0))) ∧
  (∀ c, (ρ.2.2.2.1 c).1 < 4 ∧ (ρ.2.2.2.1 c).2.1 < 1000 ∧ (ρ.2.2.2.1 c).2.2 < 2 ∧ ((ρ.2.2.2.1 c).1 < 2 → (ρ.2.2.2.1 c).2.1 = 0) ∧ (n ≤ c → ρ.2.2.2.1 c = (0, 0, 0))) ∧
  ρ.2.2.2.2.length = wrS ρ.2.2.2.1 ∧ ∀ e ∈ ρ.2.2.2.2, e.1 < 10000 ∧ e.2.1 < 8 ∧ e.2.2.1 < 2 ∧ e.2.2.2 < 1000
def TrOK (n : Nat) (tr : Tri) : Prop := ∀ c, c < n → (tr c).1 < 6 ∧ (1 ≤ (tr c).2.1 ∧ (tr c).2.1 < 10) ∧ (1 ≤ (tr c).2.2.1 ∧ (tr c).2.2.1 < 10) ∧ (tr c).2.2.2 < 256
/-- a state that can be -/
def SOK (σ : Sta) : Prop :=
  (σ.1.1 ≤ 8 ∧ σ.1.2.1 ≤ 4 ∧ (∀ t, σ.1.2.2 = some t → t < σ.1.2.1)) ∧ TrOK σ.1.1 σ.2.1 ∧ ROK σ.1.1 σ.2.1 σ.2.2.1 ∧
  (σ.2.2.2.1.length ≤ 30 ∧ (∀ s ∈ σ.2.2.2.1, s.1 ≤ σ.1.1 ∧ ROK s.1 σ.2.1 s.2 ∧ s.2.2.2.2.2 <+: σ.2.2.1.2.2.2.2) ∧ σ.2.2.2.1.Pairwise (fun s s' => s.2.2.2.2.2 <+: s'.2.2.2.2.2)) ∧
  (σ.2.2.2.2.1.length ≤ 8 ∧ ∀ r ∈ σ.2.2.2.2.1, r.1 < σ.1.1 ∧ r.2.1 < 4 ∧ r.2.2 < 2) ∧ (σ.2.2.2.2.2.1.length ≤ 8 ∧ ∀ r ∈ σ.2.2.2.2.2.1, r.1 < σ.1.1 ∧ r.2 < 2) ∧ (σ.2.2.2.2.2.2.length ≤ 8 ∧ ∀ r ∈ σ.2.2.2.2.2.2, r.1 < 1000 ∧ r.2 < 100)
