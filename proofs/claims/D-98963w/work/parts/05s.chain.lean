/-! Chain: add, itself -/
set_option maxRecDepth 100000
theorem kd_J14_valueOf : yJ14_valueOf.cls ≠ "java/lang/invoke/MethodHandle" ∧ yJ14_valueOf.cls ≠ "java/lang/invoke/VarHandle" ∧ (parseMethodDescriptor yJ14_valueOf.desc).map (fun d => d.parameters.length) = some 1 := by decide +kernel
theorem kd_J2_add : yJ2_add.cls ≠ "java/lang/invoke/MethodHandle" ∧ yJ2_add.cls ≠ "java/lang/invoke/VarHandle" ∧ (parseMethodDescriptor yJ2_add.desc).map (fun d => d.parameters.length) = some 1 := by decide +kernel
theorem LM.keep {K : QK} {ea : Nat} {M M' : QM} {a ed : Nat} {xs : List Nat} (h : LM K ea M a ed xs) (h1 : M' a = M a) (h2 : xs ≠ [] → M' ed = M ed) : LM K ea M' a ed xs := by
  obtain ⟨mo, q1, q2⟩ := h
  refine ⟨mo, by rw [h1]; exact q1, ?_⟩
  rcases q2 with q2 | ⟨q2, f, q3, q4⟩
  · exact Or.inl q2
  · exact Or.inr ⟨q2, f, by rw [h2 q2]; exact q3, q4⟩
theorem ElO.keep {K : QK} {M M' : QM} {x : Nat} (h : ElO K M x) (hk : ∀ b ci fs, M b = some (.inr (ci, fs)) → ∃ fs', M' b = some (.inr (ci, fs'))) : ElO K M' x := by
  obtain ⟨ci, N, C, T, fs, g1, g2, g3⟩ := h
  rcases g2 with g2 | g2
  · obtain ⟨fs', h1⟩ := hk x ci fs g2
    exact ⟨ci, N, C, T, fs', g1, Or.inl h1, g3⟩
  · exact ⟨ci, N, C, T, fs, g1, Or.inr g2, g3⟩
set_option maxHeartbeats 8000000 in
/-- one more of a chain: a sign (by its number k), a sum at x -/
theorem m_X9_add (l : Launch) {K : QK} {G : State → Prop} (hG : QG G) {ea mi ic : Nat} {ib : Nat → Nat} (hLs : QLs K G ea mi) (hI : QIc K G ic ib) {A B : QA} {L : QL} {X : QX} {M : QM} {q b qm em qs es k x : Nat} {xs vs : List Nat} (hq : M q = some (.inr (9, [.ref b, .ref qm, .ref qs]))) (hm : LM K ea M qm em xs) (hs : LM K ea M qs es vs) (hmq : qm ≠ qs) (hme : xs ≠ [] → em ≠ es) (hk : k < 128) (hxl : xs.length < 200) (hvl : vs.length = xs.length) (hex : ∀ z ∈ xs, ElO K M z) (hev : ∀ z ∈ vs, ElO K M z) (hx9 : ElO K M x) :
    MC l K G yX9_add (ws_ yX9_add cX9_add 3 none) 9 420 (addCost xs.length + addCost xs.length) (12 * addCost xs.length + 12 * addCost xs.length) [.ref q, .int (nI k), .ref x] (A, B, L, X, M) (fun v w' => ∃ (em' es' : Nat) (M' : QM), v = none ∧ w' = (A, B, L, X, M') ∧ M' q = some (.inr (9, [.ref b, .ref qm, .ref qs])) ∧ LM K ea M' qm em' (xs ++ [x]) ∧ LM K ea M' qs es' (vs ++ [ib (k + 128)]) ∧ em' ≠ es' ∧ (em' = em ∧ xs ≠ [] ∨ M em' = none) ∧ (es' = es ∧ xs ≠ [] ∨ M es' = none) ∧ ∀ z e, z ≠ qm → z ≠ qs → z ≠ em' → z ≠ es' → M z = some e → M' z = some e) := by
  refine MC.of (by decide) (Nat.le_of_ble_eq_true rfl) (lv := [(0, .ref q), (1, .int (nI k)), (2, .ref x)]) rfl (fun p e s m below meth c ls E hr hl hw => ?_)
  have hx := E.1
  have hb := E.2.1
  have hown := E.2.2.1
  have hts := E.2.2.2.2.1
  obtain ⟨mom, hqm, hdm⟩ := id hm
  obtain ⟨mos, hqs, hds⟩ := id hs
  have hne1 : q ≠ qs := fun e9 => by rw [e9, hqs] at hq; cases hq
  have hne2 : q ≠ qm := fun e9 => by rw [e9, hqm] at hq; cases hq
  refine lv_aload_n hx hb dX9_add_0 rfl (lv_at hl 0 rfl) ?_
  refine r_get (v := .ref qs) E hw (QAt.dyn hq) (T := TX9) (N := 3) rfl in_X9 2 (by decide) q749 rfl dX9_add_1 ?_
  refine lv_iload_n hx hb dX9_add_4 rfl (lv_at hl 1 rfl) ?_
  refine d_S (As := [.int (nI k)]) (v0 := some (.ref (ib (k + 128)))) hG E hw hl (m_J14_valueOf l hI hk) (va_cwS 1 hts (lw_S q761 q762 q165 q763) rfl rfl rfl kd_J14_valueOf ⟨Nat.le_of_ble_eq_true rfl, Nat.le_of_ble_eq_true rfl⟩) rfl (rest := [.ref qs]) (st1 := [.ref (ib (k + 128)), .ref qs]) rfl rfl rfl dX9_add_5 ⟨Nat.zero_le _, Nat.zero_le _⟩ (fun H locs hw => ?_)
  have hib : ElO K M (ib (k + 128)) := ⟨18, 1, RJ14, TJ14, _, rfl, hI.el hk, q2041⟩
  refine c_V (As := [.ref (ib (k + 128))]) (rest := []) hG E hw (m_J2_add l hG hLs hs (by omega) hev hib) (QAt.dyn hqs) rfl (cwV 1 hts (lw_V q781 q613 q614 q145 q615) rfl rfl rfl ⟨rfl, kd_J2_add⟩ ⟨Nat.le_of_ble_eq_true rfl, Nat.le_of_ble_eq_true rfl⟩) hl rfl rfl (Nat.le_of_ble_eq_true rfl) dX9_add_8 ⟨(show 0 + addCost vs.length ≤ addCost xs.length + addCost xs.length by rw [hvl]; omega), (show 0 + 12 * addCost vs.length ≤ 12 * addCost xs.length + 12 * addCost xs.length by rw [hvl]; omega)⟩ (fun v w' H1 locs1 hP hw => ?_)
  obtain ⟨es', M1, rfl, rfl, hs1, hes, hk1⟩ := hP
  have hob : ∀ b9 e9, M b9 = some (.inr e9) → b9 ≠ es' := by
    intro b9 e9 h9 e8
    rcases hes with ⟨h1, -, e7, h2⟩ | h1
    · rw [e8, h1, h2] at h9; cases h9
    · rw [e8, h1] at h9; cases h9
  have hq1 : M1 q = _ := hk1 q _ hne1 (hob q _ hq) hq
  have hqm1 : M1 qm = _ := hk1 qm _ hmq (hob qm _ hqm) hqm
  have hem : xs ≠ [] → em ≠ qs ∧ em ≠ es' ∧ ∃ e9, M em = some (.inl e9) := by
    intro h9
    obtain ⟨-, f, h1, h2⟩ := hdm.resolve_left (fun z => h9 z.1)
    refine ⟨fun e9 => (by rw [e9, hqs] at h1; cases h1), fun e9 => ?_, _, h1⟩
    rcases hes with ⟨h3, -⟩ | h3
    · exact hme h9 (e9.trans h3)
    · rw [e9, h3] at h1; cases h1
  have hm1 : LM K ea M1 qm em xs := hm.keep (by rw [hqm1, hqm]) (fun h9 => by
    obtain ⟨h1, h2, e9, h3⟩ := hem h9
    rw [h3]
    exact hk1 em _ h1 h2 h3)
  have hel : ∀ z, ElO K M z → ElO K M1 z := fun z hz => hz.keep (fun b9 ci fs h9 => by
    by_cases h8 : b9 = qs
    · subst h8
      rw [hqs] at h9
      cases h9
      obtain ⟨mo1, g1, -⟩ := hs1
      exact ⟨_, g1⟩
    · exact ⟨fs, hk1 b9 _ h8 (hob b9 _ h9) h9⟩)
  refine lv_pop hx hb dX9_add_11 rfl ?_
  refine lv_aload_n hx hb dX9_add_12 rfl (lv_at hl 0 rfl) ?_
  refine r_get (v := .ref qm) E hw (QAt.dyn hq1) (T := TX9) (N := 3) rfl in_X9 1 (by decide) q748 rfl dX9_add_13 ?_
  refine lv_aload_n hx hb dX9_add_16 rfl (lv_at hl 2 rfl) ?_
  refine c_V (As := [.ref x]) (rest := []) hG E hw (m_J2_add l hG hLs hm1 hxl (fun z hz => hel z (hex z hz)) (hel x hx9)) (QAt.dyn hqm1) rfl (cwV 1 hts (lw_V q781 q613 q614 q145 q615) rfl rfl rfl ⟨rfl, kd_J2_add⟩ ⟨Nat.le_of_ble_eq_true rfl, Nat.le_of_ble_eq_true rfl⟩) hl rfl rfl (Nat.le_of_ble_eq_true rfl) dX9_add_17 ⟨(show 0 + addCost vs.length + addCost xs.length ≤ addCost xs.length + addCost xs.length by rw [hvl]; omega), (show 0 + 12 * addCost vs.length + 12 * addCost xs.length ≤ 12 * addCost xs.length + 12 * addCost xs.length by rw [hvl]; omega)⟩ (fun v w' H1 locs1 hP hw => ?_)
  obtain ⟨em', M2, rfl, rfl, hm2, hem2, hk2⟩ := hP
  refine lv_pop hx hb dX9_add_20 rfl ?_
  obtain ⟨mo1, hqs1, hds1⟩ := id hs1
  obtain ⟨-, fs1, hes1, -⟩ := hds1.resolve_left (fun z => by simp at z)
  have hob2 : ∀ b9 e9, M1 b9 = some (.inr e9) → b9 ≠ em' := by
    intro b9 e9 h9 e8
    rcases hem2 with ⟨h1, -, e7, h2⟩ | h1
    · rw [e8, h1, h2] at h9; cases h9
    · rw [e8, h1] at h9; cases h9
  have hne3 : em' ≠ es' := by
    intro e9
    rcases hem2 with ⟨h1, h2, -⟩ | h1
    · have h3 : xs ≠ [] := fun z => by rw [z] at h2; simp at h2
      exact (hem h3).2.1 (h1.symm.trans e9)
    · rw [e9, hes1] at h1; cases h1
  have hqmes : es' ≠ qm := fun e9 => by rw [e9, hqm1] at hes1; cases hes1
  refine r_ret E hr ⟨em', es', M2, rfl, rfl, hk2 q _ hne2 (hob2 q _ hq1) hq1, hm2, hs1.keep ?_ (fun _ => ?_), hne3, ?_, ?_, ?_⟩ hw (show 0 + addCost vs.length + addCost xs.length ≤ _ by rw [hvl]; omega) (show 0 + 12 * addCost vs.length + 12 * addCost xs.length ≤ _ by rw [hvl]; omega) dX9_add_21
  · rw [hqs1]; exact hk2 qs _ (Ne.symm hmq) (hob2 qs _ hqs1) hqs1
  · rw [hes1]; exact hk2 es' _ hqmes (Ne.symm hne3) hes1
  · rcases hem2 with ⟨h1, h0, -⟩ | h1
    · exact Or.inl ⟨h1, fun z => by rw [z] at h0; simp at h0⟩
    · refine Or.inr ?_
      cases h9 : M em' with
      | none => rfl
      | some e9 =>
        by_cases h8 : em' = qs
        · rw [h8, hqs1] at h1; cases h1
        · rw [hk1 em' e9 h8 hne3 h9] at h1; cases h1
  · rcases hes with ⟨h1, h0, -⟩ | h1
    · refine Or.inl ⟨h1, fun z => ?_⟩
      rw [List.length_append, hvl, z] at h0
      simp at h0
    · exact Or.inr h1
  · intro z e9 h1 h2 h3 h4 h5
    exact hk2 z e9 h1 h3 (hk1 z e9 h2 h4 h5)
