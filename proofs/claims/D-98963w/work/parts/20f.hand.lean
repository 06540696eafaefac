/-! THE PURE LAW, 6: by hand: delay, call, appeal, gust, withdraw -/
set_option maxRecDepth 100000
def SS (σ : Sta) (A B : QA) : Prop := SA σ A 100 ∧ SB σ (B 1001) ∧ SOK σ
def FA (A A' : QA) : Prop := ∀ l, l < 100 ∨ 180 ≤ l → A' l = A l
def FB (B B' : QA) : Prop := ∀ l, l ≠ 1001 → B' l = B l
theorem FA.rf {A : QA} : FA A A := fun _ _ => rfl
theorem FB.rf {B : QA} : FB B B := fun _ _ => rfl
theorem SS.keep {σ : Sta} {A B : QA} (h : SS σ A B) : ∃ A' B', f_X1_keeps A = some A' ∧ f_X2_keep B = some B' ∧ SS (kp σ) A' B' ∧ FA A A' ∧ FB B B' := by
  obtain ⟨A', a1, a2, a3⟩ := A_keep h.1 h.2.2
  obtain ⟨B', b1, b2, b3⟩ := B_keep h.2.1 h.2.2
  exact ⟨A', B', a1, b1, ⟨a2, b2, h.2.2.kp⟩, a3, b3⟩
/-- another row, the rest as it was -/
theorem SS.row {σ : Sta} {A B A' B' : QA} {ρ : Row} {a1 b1 : Nat → Int32} (h : SS σ A B) (hr : RowAt ρ a1) (ea : A' 101 = a1) (ha : ∀ l, l ≠ 101 → A' l = A l) (hb : RowB ρ b1) (eb : B' 1001 = b1) (hk : BookB ρ.2.2.2.2 (B' 1001)) (hf : ∀ i, bOth i → B' 1001 i = B 1001 i) (hB : FB B B') (ho : ROK σ.1.1 σ.2.1 ρ) (hp : σ.2.2.1.2.2.2.2 <+: ρ.2.2.2.2) : SS (σ.1, σ.2.1, ρ, σ.2.2.2) A' B' ∧ FA A A' ∧ FB B B' := by
  subst ea
  subst eb
  obtain ⟨h1, h2, h3⟩ := h
  refine ⟨⟨h1.row hr (fun l hl _ _ => ha l hl) h3, h2.row hb hk hf h3, ?_⟩, fun l hl => ha l (by omega), hB⟩
  obtain ⟨k1, k2, k3, ⟨k4, k5, k6⟩, k7⟩ := h3
  exact ⟨k1, k2, ho, ⟨k4, fun s hs => ⟨(k5 s hs).1, (k5 s hs).2.1, (k5 s hs).2.2.trans hp⟩, k6⟩, k7⟩
theorem FA.tr {A B C : QA} (h : FA A B) (g : FA B C) : FA A C := fun l hl => (g l hl).trans (h l hl)
theorem FB.tr {A B C : QA} (h : FB A B) (g : FB B C) : FB A C := fun l hl => (g l hl).trans (h l hl)
theorem P_delay {σ : Sta} {A B : QA} (h : SS σ A B) : ∃ σ' v A' B', f_X0_delay A = some (v, A') ∧ f_X2_delay B = some (v, B') ∧ SS σ' A' B' ∧ FA A A' ∧ FB B B' := by
  have a5 : A 101 5 = oN σ.2.2.1.2.1 := h.1.2.2.1.2.1
  have a8 : A 101 8 = nI σ.2.2.1.2.2.1.2.2 := h.1.2.2.1.2.2.1.2.2
  have b5 : B 1001 13 = oN σ.2.2.1.2.1 := h.2.1.2.2.1.2.1
  have b8 : B 1001 16 = nI σ.2.2.1.2.2.1.2.2 := h.2.1.2.2.1.2.2.1.2.2
  have kr := h.2.2.2.2.1
  have kd : σ.2.2.1.2.2.1.2.2 < 4 := kr.2.2.1.2.2.1
  unfold f_X0_delay f_X2_delay f_X0_canDelay f_X2_canDelay
  rw [a5, b5, a8, b8]
  cases hc : σ.2.2.1.2.1 with
  | none =>
    simp only [oN_n, if_true, qb1_e]
    exact ⟨σ, _, A, B, rfl, rfl, h, FA.rf, FB.rf⟩
  | some c =>
    have kc := (kr.2.1 c hc)
    have c31 : P31 c := by have := h.2.2.1.1; have := kc.1; omega
    by_cases e : 3 ≤ σ.2.2.1.2.2.1.2.2
    · simp (disch := omega) only [oN_s, nx_m1, if_false, n3, nx_lt, nx_le, nx_eq, nx_ok, nx_sub, nx_cl, nx_mul, nI_addn, qif_t, qlet_e, qb1_e, qb2_e, qb3_e, if_pos e, if_true]
      exact ⟨σ, _, A, B, rfl, rfl, h, FA.rf, FB.rf⟩
    · simp (disch := omega) only [oN_s, nx_m1, if_false, n3, nx_lt, nx_le, nx_eq, nx_ok, nx_sub, nx_cl, nx_mul, nI_addn, qif_t, qlet_e, qb1_e, qb2_e, qb3_e, if_neg e]
      obtain ⟨A1, B1, g1, g2, g3, g4, g5⟩ := h.keep
      have a8' : A1 101 8 = nI σ.2.2.1.2.2.1.2.2 := g3.1.2.2.1.2.2.1.2.2
      have b8' : B1 1001 16 = nI σ.2.2.1.2.2.1.2.2 := g3.2.1.2.2.1.2.2.1.2.2
      rw [g1, g2]
      simp (disch := omega) only [show ((1 : Int32) = 0) = False from by decide, if_false, n1, nx_lt, nx_le, nx_eq, nx_ok, nx_sub, nx_cl, nx_mul, nI_addn, qif_t, qlet_e, qb1_e, qb2_e, qb3_e, a8', b8', qu_s, va_up_s]
      have r1 := g3.1.2.2.1.dl (x := σ.2.2.1.2.2.1.2.2 + 1) rfl
      have r2 := g3.2.1.2.2.1.dl (x := σ.2.2.1.2.2.1.2.2 + 1) rfl
      obtain ⟨z1, z2, z3⟩ := g3.row r1 (A' := qu A1 101 8 (nI (σ.2.2.1.2.2.1.2.2 + 1))) (B' := qu B1 1001 16 (nI (σ.2.2.1.2.2.1.2.2 + 1))) qu_s (fun l hl => qu_n hl) r2 qu_s (fun i e he => by rw [qu_s, va_up_n (by omega), va_up_n (by omega)]; exact g3.2.1.2.2.2.1 i e he) (fun i hi => by unfold bOth at hi; rw [qu_s, va_up_n (by omega)]) (fun l hl => qu_n hl) (by
        obtain ⟨q1, q2, q3, q4⟩ := kr
        refine ⟨q1, fun d hd => ?_, ⟨q3.1, q3.2.1, ?_, fun e => by rw [show (kp σ).2.2.1.2.1 = σ.2.2.1.2.1 from rfl, hc] at e; cases e⟩, q4⟩
        · obtain ⟨y1, y2, y3⟩ := q2 d hd
          exact ⟨y1, y2, by show σ.2.2.1.2.2.1.1 < (σ.2.1 d).2.2.1 + (σ.2.2.1.2.2.1.2.2 + 1); omega⟩
        · show σ.2.2.1.2.2.1.2.2 + 1 < 4; omega) List.prefix_rfl
      exact ⟨_, _, _, _, rfl, rfl, z1, g4.tr z2, g5.tr z3⟩
theorem n63 : (-1 : Int32) = oN none := rfl
theorem A_isCase {σ : Sta} {A : QA} {x : Int32} (h : SA σ A 100) (k : SOK σ) : f_X0_isCase x A = some (if qok x σ.1.1 = true then 1 else 0) := by
  unfold f_X0_isCase
  rw [h.1.1, in_c (by have := k.1.1; omega)]
  simp only [qb1_e]
  by_cases e : qok x σ.1.1 = true
  · rw [if_pos e]; rfl
  · rw [if_neg e]; rfl
theorem B_isCase {σ : Sta} {B : QA} {x : Int32} (h : SB σ (B 1001)) (k : SOK σ) : f_X2_isCase x B = some (if qok x σ.1.1 = true then 1 else 0) := by
  unfold f_X2_isCase
  rw [h.1.1, isIn_eq, in_c (by have := k.1.1; omega)]
  simp only [qb1_e]
  by_cases e : qok x σ.1.1 = true
  · rw [if_pos e]; rfl
  · rw [if_neg e]; rfl
/-- a case that waits -/
def wts (σ : Sta) (x : Int32) : Prop := qok x σ.1.1 = true ∧ (σ.2.2.1.2.2.2.1 x.toNatClampNeg).1 = 0
theorem one0 : ((1 : Int32) = 0) = False := by decide
theorem A_waits {σ : Sta} {A : QA} {x : Int32} (h : SA σ A 100) (k : SOK σ) : (wts σ x ∧ f_X0_waits x A = some 1) ∨ (¬ wts σ x ∧ f_X0_waits x A = some 0) := by
  unfold f_X0_waits
  rw [A_isCase h k]
  by_cases e : qok x σ.1.1 = true
  · obtain ⟨c, hc, c31, rfl⟩ := qok_of e
    have k8 := k.1.1
    have hr := (h.2.2.1.2.2.2.1 c (by omega)).1
    have kr := (k.2.2.1.2.2.2.1 c).1
    unfold wts
    rw [nx_cl c31, if_pos e]
    simp (disch := omega) only [qb1_e, one0, if_false, n9, nx_cl, nx_ok, nI_addn, qif_t, hr, e, true_and]
    by_cases e2 : (σ.2.2.1.2.2.2.1 c).1 = 0
    · left
      rw [e2]
      exact ⟨rfl, rfl⟩
    · right
      rw [if_neg (by rw [n0, nx_eq (by omega) (by omega)]; exact e2)]
      exact ⟨e2, rfl⟩
  · right
    rw [if_neg e]
    exact ⟨fun w => e w.1, rfl⟩
theorem B_waits {σ : Sta} {B : QA} {x : Int32} (h : SB σ (B 1001)) (k : SOK σ) : (wts σ x ∧ f_X2_isWaiting x B = some 1) ∨ (¬ wts σ x ∧ f_X2_isWaiting x B = some 0) := by
  unfold f_X2_isWaiting
  rw [B_isCase h k]
  by_cases e : qok x σ.1.1 = true
  · obtain ⟨c, hc, c31, rfl⟩ := qok_of e
    have k8 := k.1.1
    have hr := (h.2.2.1.2.2.2.1 c (by omega)).1
    have kr := (k.2.2.1.2.2.2.1 c).1
    unfold wts
    rw [nx_cl c31, if_pos e, n4]
    simp (disch := omega) only [qb1_e, one0, if_false, get_e, e, true_and, show 20 + 7 * c + 4 = 24 + 7 * c by omega, hr]
    by_cases e2 : (σ.2.2.1.2.2.2.1 c).1 = 0
    · left
      rw [e2]
      exact ⟨rfl, rfl⟩
    · right
      rw [if_neg (by rw [n0, nx_eq (by omega) (by omega)]; exact e2)]
      exact ⟨e2, rfl⟩
  · right
    rw [if_neg e]
    exact ⟨fun w => e w.1, rfl⟩
/-- what wrS says of another how -/
theorem wrS_up {f : Nat → Nat × Nat × Nat} {c : Nat} {z : Nat × Nat × Nat} (hc : c < 8) (h : wrO z = wrO (f c)) : wrS (va_up f c z) = wrS f := by
  have w : ∀ d, wrO (va_up f c z d) = wrO (f d) := fun d => by
    by_cases e : d = c
    · rw [e, va_up_s]; exact h
    · rw [va_up_n e]
  unfold wrS
  rw [w 0, w 1, w 2, w 3, w 4, w 5, w 6, w 7]
/-- a case is called -/
def clR (ρ : Row) (c : Nat) : Row := (ρ.1, some c, ρ.2.2.1, va_up ρ.2.2.2.1 c (1, (ρ.2.2.2.1 c).2), ρ.2.2.2.2)
theorem ROK.cl {n c : Nat} {tr : Tri} {ρ : Row} (h : ROK n tr ρ) (hn : n ≤ 8) (hc : c < n) (hw : (ρ.2.2.2.1 c).1 = 0) (hd : ρ.2.2.1.1 < (tr c).2.2.1 + ρ.2.2.1.2.2) : ROK n tr (clR ρ c) := by
  obtain ⟨h1, h2, h3, h4, h5, h6⟩ := h
  refine ⟨h1, fun d e => ?_, ⟨h3.1, h3.2.1, h3.2.2.1, fun e => by cases e⟩, fun d => ?_, ?_, h6⟩
  · cases e
    exact ⟨hc, by show (va_up ρ.2.2.2.1 c (1, (ρ.2.2.2.1 c).2) c).1 = 1; rw [va_up_s], hd⟩
  · show (va_up ρ.2.2.2.1 c (1, (ρ.2.2.2.1 c).2) d).1 < 4 ∧ (va_up ρ.2.2.2.1 c (1, (ρ.2.2.2.1 c).2) d).2.1 < 1000 ∧ (va_up ρ.2.2.2.1 c (1, (ρ.2.2.2.1 c).2) d).2.2 < 2 ∧ ((va_up ρ.2.2.2.1 c (1, (ρ.2.2.2.1 c).2) d).1 < 2 → (va_up ρ.2.2.2.1 c (1, (ρ.2.2.2.1 c).2) d).2.1 = 0) ∧ (n ≤ d → va_up ρ.2.2.2.1 c (1, (ρ.2.2.2.1 c).2) d = (0, 0, 0))
    by_cases e : d = c
    · subst e
      rw [va_up_s]
      obtain ⟨a, b, f, g, _⟩ := h4 d
      exact ⟨by show 1 < 4; decide, b, f, fun _ => g (by omega), fun z => by omega⟩
    · rw [va_up_n e]
      exact h4 d
  · show ρ.2.2.2.2.length = wrS (va_up ρ.2.2.2.1 c (1, (ρ.2.2.2.1 c).2))
    rw [wrS_up (by omega)]
    · exact h5
    · unfold wrO
      rw [hw]
      rfl
theorem P_call {σ : Sta} {A B : QA} (x : Int32) (h : SS σ A B) : ∃ σ' v A' B', f_X0_call x A = some (v, A') ∧ f_X2_call x B = some (v, B') ∧ SS σ' A' B' ∧ FA A A' ∧ FB B B' := by
  have a5 : A 101 5 = oN σ.2.2.1.2.1 := h.1.2.2.1.2.1
  have b5 : B 1001 13 = oN σ.2.2.1.2.1 := h.2.1.2.2.1.2.1
  have kr := h.2.2.2.2.1
  have k8 : σ.1.1 ≤ 8 := h.2.2.1.1
  unfold f_X0_call f_X2_call f_X0_canCall f_X2_canCall
  rw [a5, b5]
  rcases A_waits (x := x) h.1 h.2.2 with ⟨w1, w2⟩ | ⟨w1, w2⟩
  · rcases B_waits (x := x) h.2.1 h.2.2 with ⟨w3, w4⟩ | ⟨w3, w4⟩
    · rw [w2, w4]
      cases hc : σ.2.2.1.2.1 with
      | some c =>
        have kc := (kr.2.1 c hc).1
        simp (disch := omega) only [qb1_e, one0, if_false, oN_s, nx_m1, if_true]
        exact ⟨σ, _, A, B, rfl, rfl, h, FA.rf, FB.rf⟩
      | none =>
        simp only [qb1_e, one0, if_false, oN_n, if_true]
        obtain ⟨c, hcn, c31, rfl⟩ := qok_of w1.1
        have hw : (σ.2.2.1.2.2.2.1 c).1 = 0 := by have := w1.2; rw [nx_cl c31] at this; exact this
        obtain ⟨A1, B1, g1, g2, g3, g4, g5⟩ := h.keep
        rw [g1, g2]
        unfold f_X0_calls f_X2_callNow
        simp (disch := omega) only [n9, n4, put_e, nx_lt, nx_le, nx_eq, nx_ok, nx_sub, nx_cl, nx_mul, nI_addn, qif_t, qlet_e, qb1_e, qb2_e, qb3_e]
        have r1 := (g3.1.2.2.1.ct (x := some c) (v := nI c) rfl).how (k := c) (x := 1) (i := 9 + c) (v := 1) (by omega) rfl rfl
        have r2 := (g3.2.1.2.2.1.ct (x := some c) (v := nI c) rfl).how (k := c) (x := 1) (i := 20 + 7 * c + 4) (v := 1) (by omega) (by omega) rfl
        have hz : σ.2.2.1.2.2.1 = (0, 0, 0) := kr.2.2.1.2.2.2 hc
        have ht := (h.2.2.2.1 c hcn).2.2.1.1
        obtain ⟨z1, z2, z3⟩ := g3.row r1 (A' := qu (qu A1 101 5 (nI c)) 101 (9 + c) 1) (B' := qu (qu B1 1001 13 (nI c)) 1001 (20 + 7 * c + 4) 1) (by rw [qu_s, qu_s]) (fun l hl => by rw [qu_n hl, qu_n hl]) r2 (by rw [qu_s, qu_s]) (fun i e he => by rw [qu_s, va_up_n (by omega), va_up_n (by omega), qu_s, va_up_n (by omega), va_up_n (by omega)]; exact g3.2.1.2.2.2.1 i e he) (fun i hi => by unfold bOth at hi; rw [qu_s, va_up_n (by omega), qu_s, va_up_n (by omega)]) (fun l hl => by rw [qu_n hl, qu_n hl]) (kr.cl k8 hcn hw (by rw [hz]; show 0 < _ + 0; omega)) List.prefix_rfl
        exact ⟨_, _, _, _, rfl, rfl, z1, g4.tr z2, g5.tr z3⟩
    · exact absurd w1 w3
  · rcases B_waits (x := x) h.2.1 h.2.2 with ⟨w3, w4⟩ | ⟨w3, w4⟩
    · exact absurd w3 w1
    · rw [w2, w4]
      exact ⟨σ, _, A, B, rfl, rfl, h, FA.rf, FB.rf⟩
theorem P_gust {σ : Sta} {A B : QA} (x y : Int32) (h : SS σ A B) : ∃ σ' v A' B', f_X0_gust x y A = some (v, A') ∧ f_X2_gust x y B = some (v, B') ∧ SS σ' A' B' ∧ FA A A' ∧ FB B B' := by
  have a0 : A 101 0 = nI σ.2.2.1.1.1 := h.1.2.2.1.1.1
  have a1 : A 101 1 = nI σ.2.2.1.1.2.1 := h.1.2.2.1.1.2.1
  have b0 : B 1001 8 = nI σ.2.2.1.1.1 := h.2.1.2.2.1.1.1
  have b1 : B 1001 9 = nI σ.2.2.1.1.2.1 := h.2.1.2.2.1.1.2.1
  have kr := h.2.2.2.2.1
  unfold f_X0_gust f_X2_gust f_X0_gust_47 f_X2_gust_43
  rw [a0, a1, b0, b1, isIn_eq, n0, n3, n9, in_n (by omega) (by omega), in_n (by omega) (by omega)]
  by_cases e : qok x (3 + 1) = true
  · by_cases f : qok y (9 + 1) = true
    · obtain ⟨c, hc, c31, rfl⟩ := qok_of e
      obtain ⟨d, hd, d31, rfl⟩ := qok_of f
      simp only [e, f, true_and, Nat.zero_le, if_true, qb1_e, ← n0, one0, if_false]
      obtain ⟨A1, B1, g1, g2, g3, g4, g5⟩ := h.keep
      rw [g1, g2]
      have r1 := (g3.1.2.2.1.q (x := c) (v := nI c) rfl).f (x := d) (v := nI d) rfl
      have r2 := (g3.2.1.2.2.1.q (x := c) (v := nI c) rfl).f (x := d) (v := nI d) rfl
      obtain ⟨z1, z2, z3⟩ := g3.row r1 (A' := qu (qu A1 101 0 (nI c)) 101 1 (nI d)) (B' := qu (qu B1 1001 8 (nI c)) 1001 9 (nI d)) (by rw [qu_s, qu_s]) (fun l hl => by rw [qu_n hl, qu_n hl]) r2 (by rw [qu_s, qu_s]) (fun i e he => by rw [qu_s, va_up_n (by omega), va_up_n (by omega), qu_s, va_up_n (by omega), va_up_n (by omega)]; exact g3.2.1.2.2.2.1 i e he) (fun i hi => by unfold bOth at hi; rw [qu_s, va_up_n (by omega), qu_s, va_up_n (by omega)]) (fun l hl => by rw [qu_n hl, qu_n hl]) (by
        obtain ⟨⟨q1, q2, q3⟩, q4⟩ := kr
        exact ⟨⟨hc, hd, q3⟩, q4⟩) List.prefix_rfl
      by_cases e1 : nI σ.2.2.1.1.1 = nI c
      · by_cases e2 : nI σ.2.2.1.1.2.1 = nI d
        · rw [if_pos e1, if_pos e2, if_pos e1, if_pos e2]
          exact ⟨σ, _, A, B, rfl, rfl, h, FA.rf, FB.rf⟩
        · rw [if_pos e1, if_neg e2, if_pos e1, if_neg e2]
          exact ⟨_, _, _, _, rfl, rfl, z1, g4.tr z2, g5.tr z3⟩
      · rw [if_neg e1, if_neg e1]
        exact ⟨_, _, _, _, rfl, rfl, z1, g4.tr z2, g5.tr z3⟩
    · simp only [e, f, true_and, Nat.zero_le, if_true, qb1_e, ← n0, one0, if_false, false_and, Bool.false_eq_true]
      exact ⟨σ, _, A, B, rfl, rfl, h, FA.rf, FB.rf⟩
  · rw [if_neg (fun z => e z.1)]
    exact ⟨σ, _, A, B, rfl, rfl, h, FA.rf, FB.rf⟩
/-- an appeal -/
def apR (ρ : Row) (c : Nat) : Row := (ρ.1, ρ.2.1, ρ.2.2.1, va_up ρ.2.2.2.1 c (0, 0, 1), ρ.2.2.2.2)
theorem ROK.ap {n c : Nat} {tr : Tri} {ρ : Row} (h : ROK n tr ρ) (hn : n ≤ 8) (hc : c < n) (hw : (ρ.2.2.2.1 c).1 = 3) (ha : (ρ.2.2.2.1 c).2.2 = 0) : ROK n tr (apR ρ c) := by
  obtain ⟨h1, h2, h3, h4, h5, h6⟩ := h
  refine ⟨h1, fun d e => ?_, h3, fun d => ?_, ?_, h6⟩
  · obtain ⟨a, b, g⟩ := h2 d e
    refine ⟨a, ?_, g⟩
    show (va_up ρ.2.2.2.1 c (0, 0, 1) d).1 = 1
    rw [va_up_n (by intro z; subst z; omega)]
    exact b
  · show (va_up ρ.2.2.2.1 c (0, 0, 1) d).1 < 4 ∧ (va_up ρ.2.2.2.1 c (0, 0, 1) d).2.1 < 1000 ∧ (va_up ρ.2.2.2.1 c (0, 0, 1) d).2.2 < 2 ∧ ((va_up ρ.2.2.2.1 c (0, 0, 1) d).1 < 2 → (va_up ρ.2.2.2.1 c (0, 0, 1) d).2.1 = 0) ∧ (n ≤ d → va_up ρ.2.2.2.1 c (0, 0, 1) d = (0, 0, 0))
    by_cases e : d = c
    · subst e
      rw [va_up_s]
      exact ⟨by decide, by decide, by decide, fun _ => rfl, fun z => by omega⟩
    · rw [va_up_n e]
      exact h4 d
  · show ρ.2.2.2.2.length = wrS (va_up ρ.2.2.2.1 c (0, 0, 1))
    rw [wrS_up (by omega)]
    · exact h5
    · unfold wrO
      rw [hw, ha]
      rfl
/-- a case that may appeal -/
def apl (σ : Sta) (x : Int32) : Prop := qok x σ.1.1 = true ∧ (σ.2.2.1.2.2.2.1 x.toNatClampNeg).1 = 3 ∧ (σ.2.2.1.2.2.2.1 x.toNatClampNeg).2.2 = 0
theorem A_canAppeal {σ : Sta} {A : QA} {x : Int32} (h : SA σ A 100) (k : SOK σ) : (apl σ x ∧ f_X0_canAppeal x A = some 1) ∨ (¬ apl σ x ∧ f_X0_canAppeal x A = some 0) := by
  unfold f_X0_canAppeal
  rw [A_isCase h k]
  by_cases e : qok x σ.1.1 = true
  · obtain ⟨c, hc, c31, rfl⟩ := qok_of e
    have k8 := k.1.1
    obtain ⟨hr, -, hr3⟩ := h.2.2.1.2.2.2.1 c (by omega)
    obtain ⟨kr, -, kr3, -⟩ := k.2.2.1.2.2.2.1 c
    unfold apl
    rw [nx_cl c31, if_pos e]
    simp (disch := omega) only [qb1_e, one0, if_false, n9, n25, nx_cl, nx_ok, nI_addn, qif_t, hr, hr3, e, true_and]
    by_cases e2 : (σ.2.2.1.2.2.2.1 c).1 = 3
    · rw [if_pos (by rw [e2]; rfl)]
      by_cases e3 : (σ.2.2.1.2.2.2.1 c).2.2 = 0
      · left
        rw [if_pos (by rw [e3]; rfl)]
        exact ⟨⟨e2, e3⟩, rfl⟩
      · right
        rw [if_neg (by rw [n0, nx_eq (by omega) (by omega)]; exact e3)]
        exact ⟨fun w => e3 w.2, rfl⟩
    · right
      rw [if_neg (by rw [n3, nx_eq (by omega) (by omega)]; exact e2)]
      exact ⟨fun w => e2 w.1, rfl⟩
  · right
    rw [if_neg e]
    exact ⟨fun w => e w.1, rfl⟩
theorem B_canAppeal {σ : Sta} {B : QA} {x : Int32} (h : SB σ (B 1001)) (k : SOK σ) : (apl σ x ∧ f_X2_canAppeal x B = some 1) ∨ (¬ apl σ x ∧ f_X2_canAppeal x B = some 0) := by
  unfold f_X2_canAppeal
  rw [B_isCase h k]
  by_cases e : qok x σ.1.1 = true
  · obtain ⟨c, hc, c31, rfl⟩ := qok_of e
    have k8 := k.1.1
    obtain ⟨hr, -, hr3⟩ := h.2.2.1.2.2.2.1 c (by omega)
    obtain ⟨kr, -, kr3, -⟩ := k.2.2.1.2.2.2.1 c
    unfold apl
    rw [nx_cl c31, if_pos e, n4, n6]
    simp (disch := omega) only [qb1_e, one0, if_false, get_e, e, true_and, show 20 + 7 * c + 4 = 24 + 7 * c by omega, show 20 + 7 * c + 6 = 26 + 7 * c by omega, hr, hr3]
    by_cases e2 : (σ.2.2.1.2.2.2.1 c).1 = 3
    · rw [if_pos (by rw [e2]; rfl)]
      by_cases e3 : (σ.2.2.1.2.2.2.1 c).2.2 = 0
      · left
        rw [if_pos (by rw [e3]; rfl)]
        exact ⟨⟨e2, e3⟩, rfl⟩
      · right
        rw [if_neg (by rw [n0, nx_eq (by omega) (by omega)]; exact e3)]
        exact ⟨fun w => e3 w.2, rfl⟩
    · right
      rw [if_neg (by rw [n3, nx_eq (by omega) (by omega)]; exact e2)]
      exact ⟨fun w => e2 w.1, rfl⟩
  · right
    rw [if_neg e]
    exact ⟨fun w => e w.1, rfl⟩
theorem va_up3 {f : Nat → Nat × Nat × Nat} {c : Nat} {x y : Nat × Nat × Nat} : va_up (va_up f c x) c y = va_up f c y := va_up_up
theorem P_appeal {σ : Sta} {A B : QA} (x : Int32) (h : SS σ A B) : ∃ σ' v A' B', f_X0_appeal x A = some (v, A') ∧ f_X2_appeal x B = some (v, B') ∧ SS σ' A' B' ∧ FA A A' ∧ FB B B' := by
  have kr := h.2.2.2.2.1
  have k8 : σ.1.1 ≤ 8 := h.2.2.1.1
  unfold f_X0_appeal f_X2_appeal
  rcases A_canAppeal (x := x) h.1 h.2.2 with ⟨w1, w2⟩ | ⟨w1, w2⟩
  · rcases B_canAppeal (x := x) h.2.1 h.2.2 with ⟨w3, w4⟩ | ⟨w3, w4⟩
    · rw [w2, w4]
      simp only [qb1_e, one0, if_false]
      obtain ⟨c, hcn, c31, rfl⟩ := qok_of w1.1
      have w1 := w1.2
      rw [nx_cl c31] at w1
      obtain ⟨A1, B1, g1, g2, g3, g4, g5⟩ := h.keep
      rw [g1, g2]
      unfold f_X0_appeals f_X2_appealNow
      simp (disch := omega) only [n9, n17, n25, n4, n5, n6, put_e, nx_lt, nx_le, nx_eq, nx_ok, nx_sub, nx_cl, nx_mul, nI_addn, qif_t, qlet_e, qb1_e, qb2_e, qb3_e]
      have r1 := ((g3.1.2.2.1.how (k := c) (x := 0) (i := 9 + c) (v := 0) (by omega) rfl rfl).sen (k := c) (x := 0) (i := 17 + c) (v := 0) (by omega) rfl rfl).app (k := c) (x := 1) (i := 25 + c) (v := 1) (by omega) rfl rfl
      have r2 := ((g3.2.1.2.2.1.how (k := c) (x := 0) (i := 20 + 7 * c + 4) (v := 0) (by omega) (by omega) rfl).sen (k := c) (x := 0) (i := 20 + 7 * c + 5) (v := 0) (by omega) (by omega) rfl).app (k := c) (x := 1) (i := 20 + 7 * c + 6) (v := 1) (by omega) (by omega) rfl
      simp only [va_up3, va_up_s] at r1 r2
      obtain ⟨z1, z2, z3⟩ := g3.row r1 (A' := qu (qu (qu A1 101 (9 + c) 0) 101 (17 + c) 0) 101 (25 + c) 1) (B' := qu (qu (qu B1 1001 (20 + 7 * c + 4) 0) 1001 (20 + 7 * c + 5) 0) 1001 (20 + 7 * c + 6) 1) (by rw [qu_s, qu_s, qu_s]) (fun l hl => by rw [qu_n hl, qu_n hl, qu_n hl]) r2 (by rw [qu_s, qu_s, qu_s]) (fun i e he => by rw [qu_s, va_up_n (by omega), va_up_n (by omega), qu_s, va_up_n (by omega), va_up_n (by omega), qu_s, va_up_n (by omega), va_up_n (by omega)]; exact g3.2.1.2.2.2.1 i e he) (fun i hi => by unfold bOth at hi; rw [qu_s, va_up_n (by omega), qu_s, va_up_n (by omega), qu_s, va_up_n (by omega)]) (fun l hl => by rw [qu_n hl, qu_n hl, qu_n hl]) (kr.ap k8 hcn w1.1 w1.2) List.prefix_rfl
      exact ⟨_, _, _, _, rfl, rfl, z1, g4.tr z2, g5.tr z3⟩
    · exact absurd w1 w3
  · rcases B_canAppeal (x := x) h.2.1 h.2.2 with ⟨w3, w4⟩ | ⟨w3, w4⟩
    · exact absurd w3 w1
    · rw [w2, w4]
      exact ⟨σ, _, A, B, rfl, rfl, h, FA.rf, FB.rf⟩
