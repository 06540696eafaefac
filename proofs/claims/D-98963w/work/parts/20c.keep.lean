/-! THE PURE LAW, 3: steps are kept -/
set_option maxRecDepth 100000
theorem qif_t {β : Type} {o : Option β} : qif true o = o := Eq.trans rfl rfl
theorem qlet_e {α β : Type} {v : α} {k : α → Option β} : qlet v k = k v := Eq.trans rfl rfl
theorem qb1_e {α γ : Type} {a : α} {k : α → Option γ} : qb1 (some a) k = k a := Eq.trans rfl rfl
theorem qb2_e {α β γ : Type} {a : α} {b : β} {k : α → β → Option γ} : qb2 (some (a, b)) k = k a b := Eq.trans rfl rfl
theorem qb3_e {α β δ γ : Type} {a : α} {b : β} {d : δ} {k : α → β → δ → Option γ} : qb3 (some (a, b, d)) k = k a b d := Eq.trans rfl rfl
theorem n0 : (0 : Int32) = nI 0 := Eq.trans rfl rfl
theorem n1 : (1 : Int32) = nI 1 := Eq.trans rfl rfl
theorem n2 : (2 : Int32) = nI 2 := Eq.trans rfl rfl
theorem n3 : (3 : Int32) = nI 3 := Eq.trans rfl rfl
theorem n7 : (7 : Int32) = nI 7 := Eq.trans rfl rfl
theorem n8 : (8 : Int32) = nI 8 := Eq.trans rfl rfl
theorem n9 : (9 : Int32) = nI 9 := Eq.trans rfl rfl
theorem n10 : (10 : Int32) = nI 10 := Eq.trans rfl rfl
theorem n11 : (11 : Int32) = nI 11 := Eq.trans rfl rfl
theorem n17 : (17 : Int32) = nI 17 := Eq.trans rfl rfl
theorem n20 : (20 : Int32) = nI 20 := Eq.trans rfl rfl
theorem n25 : (25 : Int32) = nI 25 := Eq.trans rfl rfl
theorem n30 : (30 : Int32) = nI 30 := Eq.trans rfl rfl
theorem n35 : (35 : Int32) = nI 35 := Eq.trans rfl rfl
theorem n4 : (4 : Int32) = nI 4 := Eq.trans rfl rfl
theorem n5 : (5 : Int32) = nI 5 := Eq.trans rfl rfl
theorem n6 : (6 : Int32) = nI 6 := Eq.trans rfl rfl
theorem n132 : (132 : Int32) = nI 132 := Eq.trans rfl rfl
theorem n167 : (167 : Int32) = nI 167 := Eq.trans rfl rfl
theorem n1015 : (1015 : Int32) = nI 1015 := Eq.trans rfl rfl
theorem cpy_154 {a g : Nat → Int32} {j : Nat} (h : j < 154) : va_cpy a g 0 0 154 j = a j := by
  unfold va_cpy
  rw [if_pos (by omega)]
  congr 1
  omega
theorem RowAt.cong {ρ : Row} {a a' : Nat → Int32} (h : RowAt ρ a) (hf : ∀ j, j < 154 → a' j = a j) (hl : ρ.2.2.2.2.length ≤ 30) : RowAt ρ a' := by
  obtain ⟨⟨h0, h1, h2, h3, h4⟩, h5, ⟨h6, h7, h8⟩, hc, hn, hb⟩ := h
  refine ⟨⟨(hf _ (by omega)).trans h0, (hf _ (by omega)).trans h1, (hf _ (by omega)).trans h2, (hf _ (by omega)).trans h3, (hf _ (by omega)).trans h4⟩, (hf _ (by omega)).trans h5, ⟨(hf _ (by omega)).trans h6, (hf _ (by omega)).trans h7, (hf _ (by omega)).trans h8⟩, fun c hk => ?_, (hf _ (by omega)).trans hn, fun i e he => ?_⟩
  · rw [hf _ (by omega), hf _ (by omega), hf _ (by omega)]; exact hc c hk
  · have := (List.getElem?_eq_some_iff.mp he).1
    rw [hf _ (by omega), hf _ (by omega), hf _ (by omega), hf _ (by omega)]; exact hb i e he
theorem keeps_loop : ∀ (n k : Nat) (A : QA), 1 ≤ k → k ≤ 30 → 30 - k < n → ∃ A1, f_X1_keeps_13 n (nI k) A = f_X1_keeps_52 (qu A1 100 3 (A1 100 3 - nI 1)) ∧ (∀ j, k ≤ j + 1 → j < 29 → ∀ i, i < 154 → A1 (150 + j) i = A (150 + j + 1) i) ∧ ∀ l, l + 1 < 150 + k ∨ 179 ≤ l → A1 l = A l := by
  intro n
  induction n with
  | zero => intro k A h1 h2 h3; omega
  | succ n ih =>
    intro k A h1 h2 h3
    rw [f_X1_keeps_13]
    by_cases e : k = 30
    · subst e
      rw [if_pos (show (30 : Int32) ≤ nI 30 from Int32.le_refl _)]
      exact ⟨A, rfl, fun j h4 h5 => by omega, fun l _ => rfl⟩
    · simp (disch := omega) only [n30, n1, nx_le, nx_ok, nx_sub, nx_cl, nI_addn, qif_t, qlet_e]
      rw [if_neg (by omega)]
      obtain ⟨A1, g1, g2, g3⟩ := ih (k + 1) _ (by omega) (by omega) (by omega)
      refine ⟨A1, g1, fun j h4 h5 i hi => ?_, fun l hl => ?_⟩
      · by_cases e2 : j + 1 = k
        · rw [g3 _ (by omega), show 150 + j = 150 + (k - 1) by omega, qset_s, cpy_154 hi]
          congr 1
          omega
        · rw [g2 j (by omega) h5 i hi, qset_n (by omega)]
      · rw [g3 l (by omega), qset_n (by omega)]
def kp (σ : Sta) : Sta := (σ.1, σ.2.1, σ.2.2.1, (if σ.2.2.2.1.length = 30 then σ.2.2.2.1.tail else σ.2.2.2.1) ++ [(σ.1.1, σ.2.2.1)], σ.2.2.2.2)
theorem ROK.bk {n : Nat} {tr : Tri} {ρ : Row} (h : ROK n tr ρ) : ρ.2.2.2.2.length ≤ 16 := by
  obtain ⟨-, -, -, h4, h5, -⟩ := h
  rw [h5]
  have w : ∀ c, wrO (ρ.2.2.2.1 c) ≤ 2 := fun c => by
    unfold wrO
    have := (h4 c).2.2.1
    split <;> omega
  unfold wrS
  have := w 0; have := w 1; have := w 2; have := w 3; have := w 4; have := w 5; have := w 6; have := w 7
  omega
theorem kp_len {σ : Sta} (k : SOK σ) : (kp σ).2.2.2.1.length = (if σ.2.2.2.1.length = 30 then 30 else σ.2.2.2.1.length + 1) := by
  have := k.2.2.2.1.1
  unfold kp
  dsimp only
  rw [List.length_append]
  split
  · rw [List.length_tail]; simp only [List.length_singleton]; omega
  · rfl
theorem SOK.kp {σ : Sta} (k : SOK σ) : SOK (kp σ) := by
  have hlen := kp_len k
  obtain ⟨k1, k2, k3, ⟨k4, k5, k6⟩, k7⟩ := k
  refine ⟨k1, k2, k3, ⟨?_, ?_, ?_⟩, k7⟩
  · rw [hlen]; split <;> omega
  · intro s hs
    rcases List.mem_append.mp hs with h | h
    · refine k5 s ?_
      split at h
      · exact List.mem_of_mem_tail h
      · exact h
    · rw [List.mem_singleton.mp h]
      exact ⟨Nat.le_refl _, k3, List.prefix_rfl⟩
  · have hp : (if σ.2.2.2.1.length = 30 then σ.2.2.2.1.tail else σ.2.2.2.1).Pairwise (fun s s' => s.2.2.2.2.2 <+: s'.2.2.2.2.2) := by
      split
      · exact k6.tail
      · exact k6
    refine List.pairwise_append.mpr ⟨hp, List.pairwise_singleton _ _, fun s hs s' hs' => ?_⟩
    rw [List.mem_singleton.mp hs']
    refine (k5 s ?_).2.2
    split at hs
    · exact List.mem_of_mem_tail hs
    · exact hs
theorem keeps_end {σ : Sta} {A : QA} {sts : List (Nat × Row)} (h : SA (σ.1, σ.2.1, σ.2.2.1, sts, σ.2.2.2.2) A 100) (k : SOK σ) (hl : sts.length < 30) : ∃ A', f_X1_keeps_52 A = some A' ∧ SA (σ.1, σ.2.1, σ.2.2.1, sts ++ [(σ.1.1, σ.2.2.1)], σ.2.2.2.2) A' 100 ∧ ∀ l, l < 100 ∨ 180 ≤ l → A' l = A l := by
  obtain ⟨⟨a0, a1, a2, a3, a4, a5, a6⟩, h2, h3, h4, h5, h6, h7⟩ := h
  dsimp only at a0 a1 a2 a3 a4 a5 a6 h2 h3 h4 h5 h6 h7
  obtain ⟨⟨k0, -, -⟩, -, kr, -, ⟨k2, -⟩, ⟨k3, -⟩, ⟨k4, -⟩⟩ := k
  unfold f_X1_keeps_52
  rw [a3]
  simp (disch := omega) only [nx_ok, nx_cl, qif_t, qlet_e]
  rw [qset_n (show 100 ≠ 150 + sts.length by omega), a3, n1, nI_addn]
  refine ⟨_, rfl, ⟨⟨?_, ?_, ?_, ?_, ?_, ?_, ?_⟩, fun c hc => ?_, ?_, fun i s hs => ?_, fun i r hi => ?_, fun i r hi => ?_, fun i r hi => ?_⟩, fun l hl => ?_⟩
  · rw [qu_s, va_up_n (by omega), qset_n (by omega)]; exact a0
  · rw [qu_s, va_up_n (by omega), qset_n (by omega)]; exact a1
  · rw [qu_s, va_up_n (by omega), qset_n (by omega)]; exact a2
  · rw [qu_s, va_up_s]; simp only [List.length_append, List.length_singleton]
  · rw [qu_s, va_up_n (by omega), qset_n (by omega)]; exact a4
  · rw [qu_s, va_up_n (by omega), qset_n (by omega)]; exact a5
  · rw [qu_s, va_up_n (by omega), qset_n (by omega)]; exact a6
  · have hc : c < σ.1.1 := hc
    rw [qu_n (by omega), qset_n (by omega)]; exact h2 c hc
  · rw [qu_n (by omega), qset_n (by omega)]; exact h3
  · rw [qu_n (by omega)]
    have hs : (sts ++ [(σ.1.1, σ.2.2.1)])[i]? = some s := hs
    have hil := (List.getElem?_eq_some_iff.mp hs).1
    simp only [List.length_append, List.length_singleton] at hil
    by_cases e : i = sts.length
    · subst e
      rw [List.getElem?_append_right (Nat.le_refl _), Nat.sub_self] at hs
      cases hs
      rw [qset_s]
      exact h3.cong (fun j hj => cpy_154 hj) (by have := kr.bk; omega)
    · rw [List.getElem?_append_left (by omega)] at hs
      rw [qset_n (by omega)]
      exact h4 i s hs
  · have hl : i < σ.2.2.2.2.1.length := (List.getElem?_eq_some_iff.mp hi).1
    rw [qu_n (by omega), qset_n (by omega)]; exact h5 i r hi
  · have hl : i < σ.2.2.2.2.2.1.length := (List.getElem?_eq_some_iff.mp hi).1
    rw [qu_n (by omega), qset_n (by omega)]; exact h6 i r hi
  · have hl : i < σ.2.2.2.2.2.2.length := (List.getElem?_eq_some_iff.mp hi).1
    rw [qu_n (by omega), qset_n (by omega)]; exact h7 i r hi
  · rw [qu_n (by omega), qset_n (by omega)]
theorem A_keep {σ : Sta} {A : QA} (h : SA σ A 100) (k : SOK σ) : ∃ A', f_X1_keeps A = some A' ∧ SA (kp σ) A' 100 ∧ ∀ l, l < 100 ∨ 180 ≤ l → A' l = A l := by
  unfold f_X1_keeps
  have ha3 := h.1.2.2.2.1
  have kl := k.2.2.2.1.1
  unfold kp
  by_cases e : σ.2.2.2.1.length = 30
  · rw [ha3, if_pos (by rw [e]; rfl), if_pos e]
    obtain ⟨A1, g1, g2, g3⟩ := keeps_loop FU 1 A (Nat.le_refl 1) (by omega) (by unfold FU; omega)
    rw [n1, g1]
    have h1 : SA (σ.1, σ.2.1, σ.2.2.1, σ.2.2.2.1.tail, σ.2.2.2.2) (qu A1 100 3 (A1 100 3 - nI 1)) 100 := by
      obtain ⟨⟨a0, a1, a2, a3, a4, a5, a6⟩, h2, h3, h4, h5, h6, h7⟩ := h
      obtain ⟨⟨k0, -, -⟩, -, kr, ⟨-, ks, -⟩, ⟨k2, -⟩, ⟨k3, -⟩, ⟨k4, -⟩⟩ := k
      refine ⟨⟨?_, ?_, ?_, ?_, ?_, ?_, ?_⟩, fun c hc => ?_, ?_, fun i s hs => ?_, fun i r hi => ?_, fun i r hi => ?_, fun i r hi => ?_⟩
      · rw [qu_s, va_up_n (by omega), g3 100 (by omega)]; exact a0
      · rw [qu_s, va_up_n (by omega), g3 100 (by omega)]; exact a1
      · rw [qu_s, va_up_n (by omega), g3 100 (by omega)]; exact a2
      · rw [qu_s, va_up_s, g3 100 (by omega), a3, nx_sub (by omega)]; simp only [List.length_tail]
      · rw [qu_s, va_up_n (by omega), g3 100 (by omega)]; exact a4
      · rw [qu_s, va_up_n (by omega), g3 100 (by omega)]; exact a5
      · rw [qu_s, va_up_n (by omega), g3 100 (by omega)]; exact a6
      · have hc : c < σ.1.1 := hc
        rw [qu_n (by omega), g3 _ (by omega)]; exact h2 c hc
      · rw [qu_n (by omega), g3 _ (by omega)]; exact h3
      · have hs : σ.2.2.2.1.tail[i]? = some s := hs
        rw [List.getElem?_tail] at hs
        have hl := (List.getElem?_eq_some_iff.mp hs).1
        rw [qu_n (by omega)]
        refine (h4 _ s hs).cong (fun j hj => g2 i (by omega) (by omega) j hj) ?_
        have := (ks s (List.mem_of_getElem? hs)).2.1.bk
        omega
      · have hl : i < σ.2.2.2.2.1.length := (List.getElem?_eq_some_iff.mp hi).1
        rw [qu_n (by omega), g3 _ (by omega)]; exact h5 i r hi
      · have hl : i < σ.2.2.2.2.2.1.length := (List.getElem?_eq_some_iff.mp hi).1
        rw [qu_n (by omega), g3 _ (by omega)]; exact h6 i r hi
      · have hl : i < σ.2.2.2.2.2.2.length := (List.getElem?_eq_some_iff.mp hi).1
        rw [qu_n (by omega), g3 _ (by omega)]; exact h7 i r hi
    obtain ⟨A', q1, q2, q3⟩ := keeps_end h1 k (by rw [List.length_tail]; omega)
    refine ⟨A', q1, q2, fun l hl => ?_⟩
    rw [q3 l hl, qu_n (by omega), g3 l (by omega)]
  · rw [ha3, if_neg (by rw [n30, nx_eq (by omega) (by omega)]; exact e), if_neg e]
    exact keeps_end h k (by omega)
