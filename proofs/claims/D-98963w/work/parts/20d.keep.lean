/-! THE PURE LAW, 4: the model keeps steps -/
set_option maxRecDepth 100000
theorem get_e {B : QA} {c k : Nat} (hc : c < 8) (hk : k < 7) : f_X2_get (nI c) (nI k) B = some (B 1001 (20 + 7 * c + k)) := by
  unfold f_X2_get
  simp (disch := omega) only [n20, n7, nx_lt, nx_le, nx_eq, nx_ok, nx_sub, nx_cl, nx_mul, nI_addn, qif_t, qlet_e, qb1_e, qb2_e, qb3_e]
theorem put_e {B : QA} {c k : Nat} {v : Int32} (hc : c < 8) (hk : k < 7) : f_X2_put (nI c) (nI k) v B = some (qu B 1001 (20 + 7 * c + k) v) := by
  unfold f_X2_put
  simp (disch := omega) only [n20, n7, nx_lt, nx_le, nx_eq, nx_ok, nx_sub, nx_cl, nx_mul, nI_addn, qif_t, qlet_e, qb1_e, qb2_e, qb3_e]
theorem bkeep_13 : ∀ (n k : Nat) (B : QA), k ≤ 1015 → 1015 - k < n → ∃ B1, f_X2_keep_13 n (nI k) B = f_X2_keep_56 (qu B1 1001 3 (B1 1001 3 - nI 1)) ∧ (∀ j, k ≤ j → j < 1015 → B1 1001 (132 + j) = B 1001 (167 + j)) ∧ (∀ i, i < 132 + k ∨ 1147 ≤ i → B1 1001 i = B 1001 i) ∧ ∀ l, l ≠ 1001 → B1 l = B l := by
  intro n
  induction n with
  | zero => intro k B h1 h2; omega
  | succ n ih =>
    intro k B h1 h2
    rw [f_X2_keep_13]
    by_cases e : k = 1015
    · subst e
      rw [if_pos (show (1015 : Int32) ≤ nI 1015 from Int32.le_refl _)]
      exact ⟨B, rfl, fun j h4 h5 => by omega, fun i _ => rfl, fun l _ => rfl⟩
    · simp (disch := omega) only [n1015, n167, n132, n1, nx_lt, nx_le, nx_eq, nx_ok, nx_sub, nx_cl, nx_mul, nI_addn, qif_t, qlet_e, qb1_e, qb2_e, qb3_e]
      rw [if_neg (by omega)]
      obtain ⟨B1, g1, g2, g3, g4⟩ := ih (k + 1) _ (by omega) (by omega)
      refine ⟨B1, g1, fun j h4 h5 => ?_, fun i hi => ?_, fun l hl => ?_⟩
      · by_cases e2 : j = k
        · subst e2
          rw [g3 _ (by omega), qu_s, va_up_s]
        · rw [g2 j (by omega) h5, qu_s, va_up_n (by omega)]
      · rw [g3 i (by omega), qu_s, va_up_n (by omega)]
      · rw [g4 l hl, qu_n hl]
theorem bkeep_125 {k117 : Int32 → Int32 → QA → Option QA} {x c : Nat} (hx : 132 ≤ x) (hx2 : x ≤ 1147) (hc : c < 8) : ∀ (n k : Nat) (B : QA), k ≤ 3 → 3 - k < n → ∃ B1, f_X2_keep_125 k117 n (nI x) (nI c) (nI k) B = k117 (nI x) (nI (c + 1)) B1 ∧ (∀ j, k ≤ j → j < 3 → B1 1001 (x + 11 + 3 * c + j) = B 1001 (24 + 7 * c + j)) ∧ (∀ i, i < x + 11 + 3 * c + k ∨ x + 11 + 3 * c + 3 ≤ i → B1 1001 i = B 1001 i) ∧ ∀ l, l ≠ 1001 → B1 l = B l := by
  intro n
  induction n with
  | zero => intro k B h1 h2; omega
  | succ n ih =>
    intro k B h1 h2
    rw [f_X2_keep_125]
    by_cases e : k = 3
    · subst e
      rw [if_pos (show (3 : Int32) ≤ nI 3 from Int32.le_refl _)]
      simp only [n1, nI_addn, qlet_e]
      exact ⟨B, rfl, fun j h4 h5 => by omega, fun i _ => rfl, fun l _ => rfl⟩
    · simp (disch := omega) only [n11, n3, n4, n1, nx_lt, nx_le, nx_eq, nx_ok, nx_sub, nx_cl, nx_mul, nI_addn, qif_t, qlet_e, qb1_e, qb2_e, qb3_e, get_e]
      rw [if_neg (by omega)]
      obtain ⟨B1, g1, g2, g3, g4⟩ := ih (k + 1) _ (by omega) (by omega)
      refine ⟨B1, g1, fun j h4 h5 => ?_, fun i hi => ?_, fun l hl => ?_⟩
      · by_cases e2 : j = k
        · subst e2
          rw [g3 _ (by omega), qu_s, va_up_s]
          congr 1
          omega
        · rw [g2 j (by omega) h5, qu_s, va_up_n (by omega)]
      · rw [g3 i (by omega), qu_s, va_up_n (by omega)]
      · rw [g4 l hl, qu_n hl]
theorem bkeep_117 {x : Nat} (hx : 132 ≤ x) (hx2 : x ≤ 1147) : ∀ (n c : Nat) (B : QA), c ≤ 8 → 8 - c < n → ∃ B1, f_X2_keep_117 n (nI x) (nI c) B = some (qu B1 1001 3 (B1 1001 3 + nI 1)) ∧ (∀ d j, c ≤ d → d < 8 → j < 3 → B1 1001 (x + 11 + 3 * d + j) = B 1001 (24 + 7 * d + j)) ∧ (∀ i, i < x + 11 + 3 * c ∨ x + 35 ≤ i → B1 1001 i = B 1001 i) ∧ ∀ l, l ≠ 1001 → B1 l = B l := by
  intro n
  induction n with
  | zero => intro c B h1 h2; omega
  | succ n ih =>
    intro c B h1 h2
    rw [f_X2_keep_117]
    by_cases e : c = 8
    · subst e
      rw [if_pos (show (8 : Int32) ≤ nI 8 from Int32.le_refl _)]
      exact ⟨B, rfl, fun d j h4 h5 => by omega, fun i _ => rfl, fun l _ => rfl⟩
    · simp (disch := omega) only [n8, n0, nx_lt, nx_le, nx_eq, nx_ok, nx_sub, nx_cl, nx_mul, nI_addn, qif_t, qlet_e, qb1_e, qb2_e, qb3_e]
      rw [if_neg (by omega)]
      obtain ⟨B1, g1, g2, g3, g4⟩ := bkeep_125 (k117 := fun x1' x2' B' => f_X2_keep_117 n x1' x2' B') hx hx2 (c := c) (by omega) FU 0 B (by omega) (by unfold FU; omega)
      rw [g1]
      obtain ⟨B2, q1, q2, q3, q4⟩ := ih (c + 1) B1 (by omega) (by omega)
      refine ⟨B2, q1, fun d j h4 h5 h6 => ?_, fun i hi => ?_, fun l hl => ?_⟩
      · by_cases e2 : d = c
        · subst e2
          rw [q3 _ (by omega), g2 j (by omega) h6]
        · rw [q2 d j (by omega) h5 h6, g3 _ (by omega)]
      · rw [q3 i (by omega), g3 i (by omega)]
      · rw [q4 l hl, g4 l hl]
theorem bkeep_84 {x : Nat} (hx : 132 ≤ x) (hx2 : x ≤ 1147) : ∀ (n k : Nat) (B : QA), k ≤ 10 → 10 - k < n → ∃ B1, f_X2_keep_84 n (nI x) (nI k) B = f_X2_keep_117 FU (nI x) (nI 0) B1 ∧ (∀ j, k ≤ j → j < 10 → B1 1001 (x + 1 + j) = B 1001 (8 + j)) ∧ (∀ i, i < x + 1 + k ∨ x + 11 ≤ i → B1 1001 i = B 1001 i) ∧ ∀ l, l ≠ 1001 → B1 l = B l := by
  intro n
  induction n with
  | zero => intro k B h1 h2; omega
  | succ n ih =>
    intro k B h1 h2
    rw [f_X2_keep_84]
    by_cases e : k = 10
    · subst e
      rw [if_pos (show (10 : Int32) ≤ nI 10 from Int32.le_refl _)]
      exact ⟨B, rfl, fun j h4 h5 => by omega, fun i _ => rfl, fun l _ => rfl⟩
    · simp (disch := omega) only [n10, n8, n1, nx_lt, nx_le, nx_eq, nx_ok, nx_sub, nx_cl, nx_mul, nI_addn, qif_t, qlet_e, qb1_e, qb2_e, qb3_e]
      rw [if_neg (by omega)]
      obtain ⟨B1, g1, g2, g3, g4⟩ := ih (k + 1) _ (by omega) (by omega)
      refine ⟨B1, g1, fun j h4 h5 => ?_, fun i hi => ?_, fun l hl => ?_⟩
      · by_cases e2 : j = k
        · subst e2
          rw [g3 _ (by omega), qu_s, va_up_s]
        · rw [g2 j (by omega) h5, qu_s, va_up_n (by omega)]
      · rw [g3 i (by omega), qu_s, va_up_n (by omega)]
      · rw [g4 l hl, qu_n hl]
theorem SB.step {σ : Sta} {b : Nat → Int32} (h : SB σ b) {x : Nat} (hx : 132 ≤ x) {b' : Nat → Int32} (h0 : b' x = b 0) (h1 : ∀ j, j < 10 → b' (x + 1 + j) = b (8 + j)) (h2 : ∀ d j, d < 8 → j < 3 → b' (x + 11 + 3 * d + j) = b (24 + 7 * d + j)) : StepB x (σ.1.1, σ.2.2.1) b' := by
  obtain ⟨⟨g0, -⟩, -, ⟨⟨w0, w1, w2, w3, w4⟩, w5, ⟨w6, w7, w8⟩, wc, wn⟩, -⟩ := h
  refine ⟨h0.trans g0, ⟨(h1 0 (by omega)).trans w0, (h1 1 (by omega)).trans w1, (h1 2 (by omega)).trans w2, (h1 3 (by omega)).trans w3, (h1 4 (by omega)).trans w4⟩, (h1 5 (by omega)).trans w5, ⟨(h1 6 (by omega)).trans w6, (h1 7 (by omega)).trans w7, (h1 8 (by omega)).trans w8⟩, (h1 9 (by omega)).trans wn, fun c hc => ?_⟩
  obtain ⟨c1, c2, c3⟩ := wc c hc
  refine ⟨(h2 c 0 hc (by omega)).trans c1, (h2 c 1 hc (by omega)).trans ?_, (h2 c 2 hc (by omega)).trans ?_⟩
  · rw [← c2]; congr 1; omega
  · rw [← c3]; congr 1; omega
/-- cells that keeping writes into -/
theorem SB.kept {σ : Sta} {b b' : Nat → Int32} {sts : List (Nat × Row)} {sts0 : List (Nat × Row)} {v : Int32} (h : SB (σ.1, σ.2.1, σ.2.2.1, sts0, σ.2.2.2.2) b) (k : SOK σ) (hv : v = nI sts.length) (hf : ∀ i, i ≠ 3 → i < 132 ∨ 1182 ≤ i → b' i = b i) (h3 : b' 3 = v) (hs : ∀ i s, sts[i]? = some s → StepB (132 + 35 * i) s b') : SB (σ.1, σ.2.1, σ.2.2.1, sts, σ.2.2.2.2) b' := by
  obtain ⟨⟨g0, g1, g2, g3, g4, g5, g6⟩, h2, ⟨⟨w0, w1, w2, w3, w4⟩, w5, ⟨w6, w7, w8⟩, wc, wn⟩, hb, -, h5, h6, h7⟩ := h
  obtain ⟨⟨k0, -, -⟩, -, kr, -, ⟨k2, -⟩, ⟨k3, -⟩, ⟨k4, -⟩⟩ := k
  have z : ∀ i, i ≠ 3 → i < 132 → b' i = b i := fun i a c => hf i a (Or.inl c)
  refine ⟨⟨(z 0 (by omega) (by omega)).trans g0, (z 1 (by omega) (by omega)).trans g1, (z 2 (by omega) (by omega)).trans g2, h3.trans hv, (z 4 (by omega) (by omega)).trans g4, (z 5 (by omega) (by omega)).trans g5, (z 6 (by omega) (by omega)).trans g6⟩, fun c hc => ?_, ⟨⟨(z 8 (by omega) (by omega)).trans w0, (z 9 (by omega) (by omega)).trans w1, (z 10 (by omega) (by omega)).trans w2, (z 11 (by omega) (by omega)).trans w3, (z 12 (by omega) (by omega)).trans w4⟩, (z 13 (by omega) (by omega)).trans w5, ⟨(z 14 (by omega) (by omega)).trans w6, (z 15 (by omega) (by omega)).trans w7, (z 16 (by omega) (by omega)).trans w8⟩, fun c hc => ?_, (z 17 (by omega) (by omega)).trans wn⟩, fun i e he => ?_, hs, fun i r hi => ?_, fun i r hi => ?_, fun i r hi => ?_⟩
  · have hc : c < σ.1.1 := hc
    rw [z _ (by omega) (by omega), z _ (by omega) (by omega), z _ (by omega) (by omega), z _ (by omega) (by omega)]; exact h2 c hc
  · rw [z _ (by omega) (by omega), z _ (by omega) (by omega), z _ (by omega) (by omega)]; exact wc c hc
  · rw [hf _ (by omega) (Or.inr (by omega)), hf _ (by omega) (Or.inr (by omega))]; exact hb i e he
  · have hl : i < σ.2.2.2.2.1.length := (List.getElem?_eq_some_iff.mp hi).1
    rw [z _ (by omega) (by omega), z _ (by omega) (by omega), z _ (by omega) (by omega)]; exact h5 i r hi
  · have hl : i < σ.2.2.2.2.2.1.length := (List.getElem?_eq_some_iff.mp hi).1
    rw [z _ (by omega) (by omega), z _ (by omega) (by omega)]; exact h6 i r hi
  · have hl : i < σ.2.2.2.2.2.2.length := (List.getElem?_eq_some_iff.mp hi).1
    rw [z _ (by omega) (by omega), z _ (by omega) (by omega)]; exact h7 i r hi
theorem bkeep_end {σ : Sta} {B : QA} {sts : List (Nat × Row)} (h : SB (σ.1, σ.2.1, σ.2.2.1, sts, σ.2.2.2.2) (B 1001)) (k : SOK σ) (hl : sts.length < 30) : ∃ B', f_X2_keep_56 B = some B' ∧ SB (σ.1, σ.2.1, σ.2.2.1, sts ++ [(σ.1.1, σ.2.2.1)], σ.2.2.2.2) (B' 1001) ∧ ∀ l, l ≠ 1001 → B' l = B l := by
  have b3 : B 1001 3 = nI sts.length := h.1.2.2.2.1
  unfold f_X2_keep_56
  rw [b3]
  simp (disch := omega) only [n132, n35, n0, nx_lt, nx_le, nx_eq, nx_ok, nx_sub, nx_cl, nx_mul, nI_addn, qif_t, qlet_e, qb1_e, qb2_e, qb3_e]
  obtain ⟨B1, g1, g2, g3, g4⟩ := bkeep_84 (x := 132 + 35 * sts.length) (by omega) (by omega) FU 0 (qu B 1001 (132 + 35 * sts.length) (B 1001 0)) (by omega) (by unfold FU; omega)
  obtain ⟨B2, q1, q2, q3, q4⟩ := bkeep_117 (x := 132 + 35 * sts.length) (by omega) (by omega) FU 0 B1 (by omega) (by unfold FU; omega)
  rw [g1, q1]
  refine ⟨_, rfl, ?_, fun l hl => ?_⟩
  · rw [qu_s]
    have lo : ∀ i, i < 132 + 35 * sts.length ∨ 132 + 35 * sts.length + 35 ≤ i → B2 1001 i = B 1001 i := fun i hi => by
      rw [q3 i (by omega), g3 i (by omega), qu_s, va_up_n (by omega)]
    have hst := h.2.2.2.2.1
    have hst : ∀ i s, sts[i]? = some s → StepB (132 + 35 * i) s (B 1001) := hst
    have e3 : B2 1001 3 = nI sts.length := by rw [lo 3 (by omega)]; exact b3
    refine h.kept k (v := nI (sts.length + 1)) (by rw [List.length_append]; rfl) (fun i h1 h2 => ?_) ?_ (fun i s hs => ?_)
    · rw [va_up_n h1, lo i (by omega)]
    · rw [va_up_s, e3, nI_addn]
    · by_cases e : i = sts.length
      · subst e
        rw [List.getElem?_append_right (Nat.le_refl _), Nat.sub_self] at hs
        cases hs
        refine h.step (σ := (σ.1, σ.2.1, σ.2.2.1, sts, σ.2.2.2.2)) (by omega) ?_ (fun j hj => ?_) (fun d j hd hj => ?_)
        · rw [va_up_n (by omega), q3 _ (by omega), g3 _ (by omega), qu_s, va_up_s]
        · rw [va_up_n (by omega), q3 _ (by omega), g2 j (by omega) hj, qu_s, va_up_n (by omega)]
        · rw [va_up_n (by omega), q2 d j (by omega) hd hj, g3 _ (by omega), qu_s, va_up_n (by omega)]
      · have hil := (List.getElem?_eq_some_iff.mp hs).1
        simp only [List.length_append, List.length_singleton] at hil
        rw [List.getElem?_append_left (by omega)] at hs
        refine (hst i s hs).cong (fun j hj => ?_)
        rw [va_up_n (by omega), lo _ (by omega)]
  · rw [qu_n hl, q4 l hl, g4 l hl, qu_n hl]
theorem B_keep {σ : Sta} {B : QA} (h : SB σ (B 1001)) (k : SOK σ) : ∃ B', f_X2_keep B = some B' ∧ SB (kp σ) (B' 1001) ∧ ∀ l, l ≠ 1001 → B' l = B l := by
  unfold f_X2_keep
  have hb3 : B 1001 3 = nI σ.2.2.2.1.length := h.1.2.2.2.1
  have kl := k.2.2.2.1.1
  unfold kp
  by_cases e : σ.2.2.2.1.length = 30
  · rw [hb3, if_pos (by rw [e]; exact n30.symm), if_pos e]
    obtain ⟨B1, g1, g2, g3, g4⟩ := bkeep_13 FU 0 B (by omega) (by unfold FU; omega)
    rw [n0, g1]
    have hst : ∀ i s, σ.2.2.2.1[i]? = some s → StepB (132 + 35 * i) s (B 1001) := h.2.2.2.2.1
    have h1 : SB (σ.1, σ.2.1, σ.2.2.1, σ.2.2.2.1.tail, σ.2.2.2.2) (qu B1 1001 3 (B1 1001 3 - nI 1) 1001) := by
      rw [qu_s]
      refine SB.kept (sts0 := σ.2.2.2.1) (b := B 1001) h k (v := nI 29) (by rw [List.length_tail, e]) (fun i h1 h2 => ?_) ?_ (fun i s hs => ?_)
      · rw [va_up_n h1, g3 i (by omega)]
      · rw [va_up_s, g3 3 (by omega), hb3, e, nx_sub (by omega)]
      · rw [List.getElem?_tail] at hs
        have hl := (List.getElem?_eq_some_iff.mp hs).1
        refine (hst _ s hs).cong (fun j hj => ?_)
        rw [va_up_n (by omega), show 132 + 35 * i + j = 132 + (35 * i + j) by omega, g2 _ (by omega) (by omega)]
        congr 1
        omega
    obtain ⟨B', q1, q2, q3⟩ := bkeep_end h1 k (by rw [List.length_tail]; omega)
    refine ⟨B', q1, q2, fun l hl => ?_⟩
    rw [q3 l hl, qu_n hl, g4 l hl]
  · rw [hb3, if_neg (by rw [n30, nx_eq (by omega) (by omega)]; exact e), if_neg e]
    exact bkeep_end (sts := σ.2.2.2.1) h k (by omega)
