/-! THE PURE LAW, 5: undo -/
set_option maxRecDepth 100000
theorem SOK.undo {σ : Sta} {sts : List (Nat × Row)} {s : Nat × Row} (k : SOK σ) (e : σ.2.2.2.1 = sts ++ [s]) : SOK (σ.1, σ.2.1, s.2, sts, σ.2.2.2.2) := by
  obtain ⟨k1, k2, k3, ⟨k4, k5, k6⟩, k7⟩ := k
  rw [e] at k4 k5 k6
  rw [List.length_append, List.length_singleton] at k4
  obtain ⟨s1, s2, s3⟩ := k5 s (List.mem_append.mpr (Or.inr (List.mem_singleton.mpr rfl)))
  have hp := List.pairwise_append.mp k6
  refine ⟨k1, k2, ?_, ⟨show sts.length ≤ 30 by omega, fun q hq => ?_, hp.1⟩, k7⟩
  · obtain ⟨r1, r2, r3, r4, r5⟩ := s2
    refine ⟨r1, fun c hc => ?_, r3, fun c => ?_, r5⟩
    · obtain ⟨a, b, d⟩ := r2 c hc
      exact ⟨Nat.lt_of_lt_of_le a s1, b, d⟩
    · obtain ⟨a, b, d, f, g⟩ := r4 c
      exact ⟨a, b, d, f, fun h => g (Nat.le_trans s1 h)⟩
  · obtain ⟨q1, q2, q3⟩ := k5 q (List.mem_append.mpr (Or.inl hq))
    exact ⟨q1, q2, hp.2.2 q hq s (List.mem_singleton.mpr rfl)⟩
theorem A_undo {σ : Sta} {A : QA} {sts : List (Nat × Row)} {s : Nat × Row} (h : SA σ A 100) (k : SOK σ) (e : σ.2.2.2.1 = sts ++ [s]) : ∃ A', f_X0_undo A = some (nI sts.length, A') ∧ SA (σ.1, σ.2.1, s.2, sts, σ.2.2.2.2) A' 100 ∧ ∀ l, l < 100 ∨ 180 ≤ l → A' l = A l := by
  have kl := k.2.2.2.1.1
  have hsk := (k.2.2.2.1.2.1 s (by rw [e]; exact List.mem_append.mpr (Or.inr (List.mem_singleton.mpr rfl)))).2.1.bk
  rw [e, List.length_append, List.length_singleton] at kl
  obtain ⟨⟨k0, -, -⟩, -, kr, -, ⟨k2, -⟩, ⟨k3, -⟩, ⟨k4, -⟩⟩ := k
  obtain ⟨⟨a0, a1, a2, a3, a4, a5, a6⟩, h2, h3, h4, h5, h6, h7⟩ := h
  rw [e, List.length_append, List.length_singleton] at a3
  unfold f_X0_undo
  rw [if_neg (by rw [a3, n0, nx_eq (by omega) (by omega)]; omega), a3]
  simp (disch := omega) only [n1, nx_lt, nx_le, nx_eq, nx_ok, nx_sub, nx_cl, nx_mul, nI_addn, qif_t, qlet_e, qb1_e, qb2_e, qb3_e, Nat.add_sub_cancel, qu_s, va_up_s, qset_n]
  refine ⟨_, rfl, ⟨⟨?_, ?_, ?_, ?_, ?_, ?_, ?_⟩, fun c hc => ?_, ?_, fun i s' hs => ?_, fun i r hi => ?_, fun i r hi => ?_, fun i r hi => ?_⟩, fun l hl => ?_⟩
  · rw [qset_n (by omega), qu_s, va_up_n (by omega)]; exact a0
  · rw [qset_n (by omega), qu_s, va_up_n (by omega)]; exact a1
  · rw [qset_n (by omega), qu_s, va_up_n (by omega)]; exact a2
  · rw [qset_n (by omega), qu_s, va_up_s]
  · rw [qset_n (by omega), qu_s, va_up_n (by omega)]; exact a4
  · rw [qset_n (by omega), qu_s, va_up_n (by omega)]; exact a5
  · rw [qset_n (by omega), qu_s, va_up_n (by omega)]; exact a6
  · have hc : c < σ.1.1 := hc
    rw [qset_n (by omega), qu_n (by omega)]; exact h2 c hc
  · rw [qset_s, qu_n (by omega)]
    refine (h4 sts.length s ?_).cong (fun j hj => cpy_154 hj) (by omega)
    rw [e, List.getElem?_append_right (Nat.le_refl _), Nat.sub_self]; rfl
  · have hl : i < sts.length := (List.getElem?_eq_some_iff.mp hs).1
    rw [qset_n (by omega), qu_n (by omega)]
    refine h4 i s' ?_
    rw [e, List.getElem?_append_left hl]; exact hs
  · have hl : i < σ.2.2.2.2.1.length := (List.getElem?_eq_some_iff.mp hi).1
    rw [qset_n (by omega), qu_n (by omega)]; exact h5 i r hi
  · have hl : i < σ.2.2.2.2.2.1.length := (List.getElem?_eq_some_iff.mp hi).1
    rw [qset_n (by omega), qu_n (by omega)]; exact h6 i r hi
  · have hl : i < σ.2.2.2.2.2.2.length := (List.getElem?_eq_some_iff.mp hi).1
    rw [qset_n (by omega), qu_n (by omega)]; exact h7 i r hi
  · rw [qset_n (by omega), qu_n (by omega)]
theorem bundo_37 {x : Nat} (hx : 132 ≤ x) (hx2 : x ≤ 1147) : ∀ (n k : Nat) (B : QA), k ≤ 10 → 10 - k < n → ∃ B1, f_X2_undo_37 n (nI x) (nI k) B = f_X2_undo_70 FU (nI x) (nI 0) B1 ∧ (∀ j, k ≤ j → j < 10 → B1 1001 (8 + j) = B 1001 (x + 1 + j)) ∧ (∀ i, i < 8 + k ∨ 18 ≤ i → B1 1001 i = B 1001 i) ∧ ∀ l, l ≠ 1001 → B1 l = B l := by
  intro n
  induction n with
  | zero => intro k B h1 h2; omega
  | succ n ih =>
    intro k B h1 h2
    rw [f_X2_undo_37]
    by_cases e : k = 10
    · subst e
      rw [if_pos (show (10 : Int32) ≤ nI 10 from Int32.le_refl _)]
      exact ⟨B, rfl, fun j h4 h5 => by omega, fun i _ => rfl, fun l _ => rfl⟩
    · simp (disch := omega) only [n10, n8, n1, nx_lt, nx_le, nx_eq, nx_ok, nx_sub, nx_cl, nx_mul, nI_addn, qif_t, qlet_e, qb1_e, qb2_e, qb3_e]
      rw [if_neg (by omega)]
      obtain ⟨B1, g1, g2, g3, g4⟩ := ih (k + 1) _ (by omega) (by omega)
      refine ⟨B1, g1, fun j h4 h5 => ?_, fun i hi => ?_, fun l hl => ?_⟩
      · by_cases e2 : j = k
        · subst e2
          rw [g3 _ (by omega), qu_s, va_up_s]
        · rw [g2 j (by omega) h5, qu_s, va_up_n (by omega)]
      · rw [g3 i (by omega), qu_s, va_up_n (by omega)]
      · rw [g4 l hl, qu_n hl]
theorem bundo_82 {k70 : Int32 → Int32 → QA → Option (Int32 × QA)} {x c m : Nat} (hx : 132 ≤ x) (hx2 : x ≤ 1147) (hc : c < 8) (hm : m ≤ 8) : ∀ (n k : Nat) (B : QA), B 1001 x = nI m → k ≤ 3 → 3 - k < n → ∃ B1, f_X2_undo_82 k70 n (nI x) (nI c) (nI k) B = k70 (nI x) (nI (c + 1)) B1 ∧ (∀ j, k ≤ j → j < 3 → B1 1001 (24 + 7 * c + j) = if c < m then B 1001 (x + 11 + 3 * c + j) else nI 0) ∧ (∀ i, i < 24 + 7 * c + k ∨ 27 + 7 * c ≤ i → B1 1001 i = B 1001 i) ∧ ∀ l, l ≠ 1001 → B1 l = B l := by
  intro n
  induction n with
  | zero => intro k B hB h1 h2; omega
  | succ n ih =>
    intro k B hB h1 h2
    rw [f_X2_undo_82]
    by_cases e : k = 3
    · subst e
      rw [if_pos (show (3 : Int32) ≤ nI 3 from Int32.le_refl _)]
      simp only [n1, nI_addn, qlet_e]
      exact ⟨B, rfl, fun j h4 h5 => by omega, fun i _ => rfl, fun l _ => rfl⟩
    · unfold f_X2_undo_121
      simp (disch := omega) only [n11, n3, n4, n1, n0, hB, nx_lt, nx_le, nx_eq, nx_ok, nx_sub, nx_cl, nx_mul, nI_addn, qif_t, qlet_e, qb1_e, qb2_e, qb3_e, put_e]
      rw [if_neg (by omega)]
      by_cases e3 : m ≤ c
      · rw [if_pos e3]
        obtain ⟨B1, g1, g2, g3, g4⟩ := ih (k + 1) (qu B 1001 (20 + 7 * c + (4 + k)) (nI 0)) (by rw [qu_s, va_up_n (by omega)]; exact hB) (by omega) (by omega)
        refine ⟨B1, g1, fun j h4 h5 => ?_, fun i hi => ?_, fun l hl => ?_⟩
        · by_cases e2 : j = k
          · subst e2
            rw [g3 _ (by omega), qu_s, show 24 + 7 * c + j = 20 + 7 * c + (4 + j) by omega, va_up_s, if_neg (by omega)]
          · rw [g2 j (by omega) h5, if_neg (by omega), if_neg (by omega)]
        · rw [g3 i (by omega), qu_s, va_up_n (by omega)]
        · rw [g4 l hl, qu_n hl]
      · rw [if_neg e3]
        obtain ⟨B1, g1, g2, g3, g4⟩ := ih (k + 1) (qu B 1001 (20 + 7 * c + (4 + k)) (B 1001 (x + 11 + 3 * c + k))) (by rw [qu_s, va_up_n (by omega)]; exact hB) (by omega) (by omega)
        refine ⟨B1, g1, fun j h4 h5 => ?_, fun i hi => ?_, fun l hl => ?_⟩
        · by_cases e2 : j = k
          · subst e2
            rw [g3 _ (by omega), qu_s, show 24 + 7 * c + j = 20 + 7 * c + (4 + j) by omega, va_up_s, if_pos (by omega)]
          · rw [g2 j (by omega) h5, if_pos (by omega), if_pos (by omega), qu_s, va_up_n (by omega)]
        · rw [g3 i (by omega), qu_s, va_up_n (by omega)]
        · rw [g4 l hl, qu_n hl]
theorem bundo_70 {x m nc : Nat} (hx : 132 ≤ x) (hx2 : x ≤ 1147) (hm : m ≤ 8) (hnc : nc ≤ 8) : ∀ (n c : Nat) (B : QA), B 1001 x = nI m → B 1001 0 = nI nc → c ≤ nc → nc - c < n → ∃ B1, f_X2_undo_70 n (nI x) (nI c) B = some (B1 1001 3, B1) ∧ (∀ d j, c ≤ d → d < nc → j < 3 → B1 1001 (24 + 7 * d + j) = if d < m then B 1001 (x + 11 + 3 * d + j) else nI 0) ∧ (∀ i, i < 24 + 7 * c ∨ 24 + 7 * nc ≤ i → B1 1001 i = B 1001 i) ∧ (∀ i, i < 24 ∨ 76 ≤ i ∨ (i - 20) % 7 < 4 → B1 1001 i = B 1001 i) ∧ ∀ l, l ≠ 1001 → B1 l = B l := by
  intro n
  induction n with
  | zero => intro c B hB h0 h1 h2; omega
  | succ n ih =>
    intro c B hB h0 h1 h2
    rw [f_X2_undo_70]
    by_cases e : c = nc
    · subst e
      rw [if_pos (by rw [h0]; exact Int32.le_refl _)]
      exact ⟨B, rfl, fun d j h4 h5 => by omega, fun i _ => rfl, fun i _ => rfl, fun l _ => rfl⟩
    · simp (disch := omega) only [n0, h0, nx_lt, nx_le, nx_eq, nx_ok, nx_sub, nx_cl, nx_mul, nI_addn, qif_t, qlet_e, qb1_e, qb2_e, qb3_e]
      rw [if_neg (by omega)]
      obtain ⟨B1, g1, g2, g3, g4⟩ := bundo_82 (k70 := fun x1' x2' B' => f_X2_undo_70 n x1' x2' B') hx hx2 (c := c) (m := m) (by omega) hm FU 0 B hB (by omega) (by unfold FU; omega)
      rw [g1]
      obtain ⟨B2, q1, q2, q3, q5, q4⟩ := ih (c + 1) B1 (by rw [g3 _ (by omega)]; exact hB) (by rw [g3 _ (by omega)]; exact h0) (by omega) (by omega)
      refine ⟨B2, q1, fun d j h4 h5 h6 => ?_, fun i hi => ?_, fun i hi => ?_, fun l hl => ?_⟩
      · by_cases e2 : d = c
        · subst e2
          rw [q3 _ (by omega), g2 j (by omega) h6]
        · rw [q2 d j (by omega) h5 h6, g3 _ (by omega)]
      · rw [q3 i (by omega), g3 i (by omega)]
      · rw [q5 i hi, g3 i (by omega)]
      · rw [q4 l hl, g4 l hl]
theorem B_undo {σ : Sta} {B : QA} {sts : List (Nat × Row)} {s : Nat × Row} (h : SB σ (B 1001)) (k : SOK σ) (e : σ.2.2.2.1 = sts ++ [s]) : ∃ B', f_X2_undo B = some (nI sts.length, B') ∧ SB (σ.1, σ.2.1, s.2, sts, σ.2.2.2.2) (B' 1001) ∧ ∀ l, l ≠ 1001 → B' l = B l := by
  have kl := k.2.2.2.1.1
  obtain ⟨sn, sr, sp⟩ := k.2.2.2.1.2.1 s (by rw [e]; exact List.mem_append.mpr (Or.inr (List.mem_singleton.mpr rfl)))
  rw [e, List.length_append, List.length_singleton] at kl
  obtain ⟨⟨k0, -, -⟩, -, kr, -, ⟨k2, -⟩, ⟨k3, -⟩, ⟨k4, -⟩⟩ := k
  obtain ⟨⟨g0, g1, g2, g3, g4, g5, g6⟩, h2, ⟨-, -, -, hcs, -⟩, hb, hst, h5, h6, h7⟩ := h
  rw [e, List.length_append, List.length_singleton] at g3
  have hS : StepB (132 + 35 * sts.length) s (B 1001) := hst sts.length s (by rw [e, List.getElem?_append_right (Nat.le_refl _), Nat.sub_self]; rfl)
  obtain ⟨s0, ⟨w0, w1, w2, w3, w4⟩, w5, ⟨w6, w7, w8⟩, w9, wc⟩ := hS
  unfold f_X2_undo
  rw [if_neg (by rw [g3, n0, nx_eq (by omega) (by omega)]; omega), g3]
  simp (disch := omega) only [n1, n35, n132, n0, nx_lt, nx_le, nx_eq, nx_ok, nx_sub, nx_cl, nx_mul, nI_addn, qif_t, qlet_e, qb1_e, qb2_e, qb3_e, Nat.add_sub_cancel, qu_s, va_up_s]
  obtain ⟨B1, a1, a2, a3, a4⟩ := bundo_37 (x := 132 + 35 * sts.length) (by omega) (by omega) FU 0 (qu B 1001 3 (nI sts.length)) (by omega) (by unfold FU; omega)
  have q0 : B1 1001 0 = nI σ.1.1 := by rw [a3 _ (by omega), qu_s, va_up_n (by omega)]; exact g0
  have qx : B1 1001 (132 + 35 * sts.length) = nI s.1 := by rw [a3 _ (by omega), qu_s, va_up_n (by omega)]; exact s0
  obtain ⟨B2, b1, b2, b3, b5, b4⟩ := bundo_70 (x := 132 + 35 * sts.length) (m := s.1) (nc := σ.1.1) (by omega) (by omega) (by omega) k0 FU 0 B1 qx q0 (by omega) (by unfold FU; omega)
  rw [a1, b1]
  have lo : ∀ i, i ≠ 3 → i < 8 ∨ 76 ≤ i ∨ (20 ≤ i ∧ (i - 20) % 7 < 4) → B2 1001 i = B 1001 i := fun i hi h => by
    rw [b5 i (by omega), a3 i (by omega), qu_s, va_up_n hi]
  have l3 : B2 1001 3 = nI sts.length := by rw [b5 3 (by omega), a3 3 (by omega), qu_s, va_up_s]
  have w10 : ∀ j, j < 10 → B2 1001 (8 + j) = B 1001 (132 + 35 * sts.length + 1 + j) := fun j hj => by
    rw [b5 _ (by omega), a2 j (by omega) hj, qu_s, va_up_n (by omega)]
  rw [l3]
  refine ⟨B2, rfl, ⟨⟨?_, ?_, ?_, l3, ?_, ?_, ?_⟩, fun c hc => ?_, ⟨⟨(w10 0 (by omega)).trans w0, (w10 1 (by omega)).trans w1, (w10 2 (by omega)).trans w2, (w10 3 (by omega)).trans w3, (w10 4 (by omega)).trans w4⟩, (w10 5 (by omega)).trans w5, ⟨(w10 6 (by omega)).trans w6, (w10 7 (by omega)).trans w7, (w10 8 (by omega)).trans w8⟩, fun c hc => ?_, (w10 9 (by omega)).trans w9⟩, fun i e' he => ?_, fun i s' hs => ?_, fun i r hi => ?_, fun i r hi => ?_, fun i r hi => ?_⟩, fun l hl => ?_⟩
  · rw [lo 0 (by omega) (by omega)]; exact g0
  · rw [lo 1 (by omega) (by omega)]; exact g1
  · rw [lo 2 (by omega) (by omega)]; exact g2
  · rw [lo 4 (by omega) (by omega)]; exact g4
  · rw [lo 5 (by omega) (by omega)]; exact g5
  · rw [lo 6 (by omega) (by omega)]; exact g6
  · have hc : c < σ.1.1 := hc
    rw [lo _ (by omega) (by omega), lo _ (by omega) (by omega), lo _ (by omega) (by omega), lo _ (by omega) (by omega)]; exact h2 c hc
  · show B2 1001 (24 + 7 * c) = nI (s.2.2.2.2.1 c).1 ∧ B2 1001 (25 + 7 * c) = nI (s.2.2.2.2.1 c).2.1 ∧ B2 1001 (26 + 7 * c) = nI (s.2.2.2.2.1 c).2.2
    have zs : s.1 ≤ c → s.2.2.2.2.1 c = (0, 0, 0) := (sr.2.2.2.1 c).2.2.2.2
    have zr : σ.1.1 ≤ c → σ.2.2.1.2.2.2.1 c = (0, 0, 0) := (kr.2.2.2.1 c).2.2.2.2
    by_cases e1 : c < σ.1.1
    · rw [show 24 + 7 * c = 24 + 7 * c + 0 by omega, show 25 + 7 * c = 24 + 7 * c + 1 by omega, show 26 + 7 * c = 24 + 7 * c + 2 by omega, b2 c 0 (by omega) e1 (by omega), b2 c 1 (by omega) e1 (by omega), b2 c 2 (by omega) e1 (by omega)]
      by_cases e2 : c < s.1
      · rw [if_pos e2, if_pos e2, if_pos e2, a3 _ (by omega), a3 _ (by omega), a3 _ (by omega), qu_s, va_up_n (by omega), va_up_n (by omega), va_up_n (by omega)]
        exact wc c hc
      · rw [if_neg e2, if_neg e2, if_neg e2, zs (by omega)]
        exact ⟨rfl, rfl, rfl⟩
    · have hz := hcs c hc
      rw [zr (by omega)] at hz
      rw [zs (by omega), b3 _ (by omega), b3 _ (by omega), b3 _ (by omega), a3 _ (by omega), a3 _ (by omega), a3 _ (by omega), qu_s, va_up_n (by omega), va_up_n (by omega), va_up_n (by omega)]
      exact hz
  · rw [lo _ (by omega) (by omega), lo _ (by omega) (by omega)]
    have he : s.2.2.2.2.2[i]? = some e' := he
    refine hb i e' ?_
    obtain ⟨tl, htl⟩ := sp
    rw [← htl, List.getElem?_append_left (List.getElem?_eq_some_iff.mp he).1]
    exact he
  · have hl : i < sts.length := (List.getElem?_eq_some_iff.mp hs).1
    refine (hst i s' ?_).cong (fun j hj => ?_)
    · rw [e, List.getElem?_append_left hl]; exact hs
    · rw [lo _ (by omega) (by omega)]
  · have hl : i < σ.2.2.2.2.1.length := (List.getElem?_eq_some_iff.mp hi).1
    rw [lo _ (by omega) (by omega), lo _ (by omega) (by omega), lo _ (by omega) (by omega)]; exact h5 i r hi
  · have hl : i < σ.2.2.2.2.2.1.length := (List.getElem?_eq_some_iff.mp hi).1
    rw [lo _ (by omega) (by omega), lo _ (by omega) (by omega)]; exact h6 i r hi
  · have hl : i < σ.2.2.2.2.2.2.length := (List.getElem?_eq_some_iff.mp hi).1
    rw [lo _ (by omega) (by omega), lo _ (by omega) (by omega)]; exact h7 i r hi
  · rw [b4 l hl, a4 l hl, qu_n hl]
