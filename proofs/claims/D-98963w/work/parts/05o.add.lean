/-! grow, add -/
set_option maxRecDepth 100000
theorem kd_J11_newLength : yJ11_newLength.cls ≠ "java/lang/invoke/MethodHandle" ∧ yJ11_newLength.cls ≠ "java/lang/invoke/VarHandle" ∧ (parseMethodDescriptor yJ11_newLength.desc).map (fun d => d.parameters.length) = some 3 := by decide +kernel
theorem kd_J12_copyOf : yJ12_copyOf.cls ≠ "java/lang/invoke/MethodHandle" ∧ yJ12_copyOf.cls ≠ "java/lang/invoke/VarHandle" ∧ (parseMethodDescriptor yJ12_copyOf.desc).map (fun d => d.parameters.length) = some 2 := by decide +kernel
set_option maxHeartbeats 4000000 in
theorem m_J2_grow_2 (l : Launch) {K : QK} {G : State → Prop} (hG : QG G) {ea mi : Nat} (hLs : QLs K G ea mi) {A B : QA} {L : QL} {X : QX} {M : QM} {a ed : Nat} {mo : Int32} {xs : List Nat} (hM : M a = some (.inr (17, [.int mo, .ref ed, .int (nI xs.length)]))) (hd : (xs = [] ∧ ed = ea) ∨ (xs ≠ [] ∧ ∃ f : Nat → Option Nat, M ed = some (.inl (K.2.2.2.2 7, capOf xs.length, .inr (.inr (.inr (.inr f))))) ∧ ∀ i x, xs[i]? = some x → f i = some x)) (hfull : xs = [] ∨ xs.length = capOf xs.length) (hlen : xs.length < 200) (hel : ∀ x ∈ xs, ElO K M x) :
    MC l K G yJ2_grow_2 (ws_ yJ2_grow_2 cJ2_grow_2 4 (some (.array (.object "java/lang/Object")))) 5 240 (addCost xs.length) (12 * addCost xs.length) [.ref a, .int (nI (xs.length + 1))] (A, B, L, X, M) (fun v w' => ∃ (q : Nat) (f : Nat → Option Nat), v = some (.ref q) ∧ M q = none ∧ w' = (A, B, L, X, va_up (va_up M q (some (.inl (K.2.2.2.2 7, capOf (xs.length + 1), .inr (.inr (.inr (.inr f)))))) ) a (some (.inr (17, [.int mo, .ref q, .int (nI xs.length)])))) ∧ ∀ i x, xs[i]? = some x → f i = some x) := by
  refine MC.of (by decide) (Nat.le_of_ble_eq_true rfl) (lv := [(0, .ref a), (1, .int (nI (xs.length + 1)))]) rfl (fun p e s m below meth c ls E hr hl hw => ?_)
  have hx := E.1
  have hb := E.2.1
  have hown := E.2.2.1
  have hts := E.2.2.2.2.1
  have hGs := E.2.2.2.2.2.1
  have ne : ∀ q, M q = none → a ≠ q := by
    intro q hq e9
    subst e9
    rw [hM] at hq
    cases hq
  rcases hd with ⟨rfl, rfl⟩ | ⟨hne, f, hf, hfx⟩
  · refine lv_aload_n hx hb dJ2_grow_2_0 rfl (lv_at hl 0 rfl) ?_
    refine r_get (v := .ref ed) E hw (QAt.dyn hM) (T := TJ2) (N := 3) rfl in_J2 1 (by decide) q364 rfl dJ2_grow_2_1 ?_
    refine r_olen (v := 0) E hw (hLs.2.1 s hGs) rfl dJ2_grow_2_4 ?_
    refine lv_istore_n (lv' := [(2, .int 0), (0, .ref a), (1, .int (nI 1))]) hx hb dJ2_grow_2_5 rfl hl (by decide) rfl (fun ls hl => ?_)
    refine lv_iload_n hx hb dJ2_grow_2_6 rfl (lv_at hl 0 rfl) ?_
    refine lv_if_gt (tgt := 20) hx hb dJ2_grow_2_7 (by decide) (fun c => ?_) (fun c => ?_)
    · exact absurd c (by decide)
    refine lv_aload_n hx hb dJ2_grow_2_10 rfl (lv_at hl 1 rfl) ?_
    refine r_get (v := .ref ed) E hw (QAt.dyn hM) (T := TJ2) (N := 3) rfl in_J2 1 (by decide) q364 rfl dJ2_grow_2_11 ?_
    refine r_gets E hw (hLs.1 s hGs) q362 dJ2_grow_2_14 ?_
    refine lv_acmp_eq (rx := some ed) (ry := some ed) (tgt := 45) hx hb dJ2_grow_2_17 (by decide) (fun _ => ?_) (fun c => absurd rfl c)
    refine lv_aload_n hx hb dJ2_grow_2_45 rfl (lv_at hl 1 rfl) ?_
    refine lv_bipush (v := (10:Int32)) hx hb dJ2_grow_2_46 (by decide) ?_
    refine lv_iload_n hx hb dJ2_grow_2_48 rfl (lv_at hl 2 rfl) ?_
    refine r_mmax E hl q672 q632 q150 q633 (Nat.le_of_ble_eq_true rfl) (Nat.le_of_ble_eq_true rfl) (Nat.zero_le _) (Nat.zero_le _) dJ2_grow_2_49 ?_
    rw [if_neg (show ¬ (10 : Int32) < nI 1 by decide)]
    refine r_newQ (t := 7) (N := 10) E hw rfl q673 (hLs.2.2.2 s hGs).1 rfl (by omega) (Nat.le_refl _) (show 0 + 10 ≤ 12 by omega) dJ2_grow_2_52 (fun q H1 hw hq hql => ?_)
    refine lv_dup_x1 hx hb dJ2_grow_2_55 rfl rfl ?_
    refine r_putD E hw (show (va_up M q _) a = _ from (va_up_n (ne q hq)).trans hM) (T := TJ2) (N := 3) rfl in_J2 tyJ2 tyJ2_ok nmJ2 1 (by decide) q364 rfl rfl rfl (show 1 < 3 by decide) dJ2_grow_2_56 (fun H locs hw => ?_)
    exact r_aret E hr (Or.inr ⟨_, rfl⟩) (Or.inr ⟨_, rfl⟩) ⟨q, _, rfl, hq, rfl, fun i x hx => by cases hx⟩ hw (Nat.le_refl _) (show 0 + 10 ≤ 12 by omega) dJ2_grow_2_59
  · have hfl : xs.length = capOf xs.length := hfull.resolve_left hne
    have h0 : xs.length ≠ 0 := fun z => hne (List.length_eq_zero_iff.mp z)
    have h10 : 10 ≤ xs.length := by have := (cap_le hlen).2.1; omega
    have hcap : capOf (xs.length + 1) = xs.length + xs.length / 2 := by
      rcases cap_full hfl hlen with e | e | e | e | e | e | e | e <;> rw [e] <;> decide
    have hcost : addCost xs.length = xs.length / 8 + 1 := by unfold addCost; rw [if_neg h0, if_pos hfl]
    have hroom : xs.length + xs.length / 2 ≤ 12 * addCost xs.length := by rw [hcost]; omega
    have hc1 : 1 ≤ addCost xs.length := by rw [hcost]; omega
    rw [← hfl] at hf
    refine lv_aload_n hx hb dJ2_grow_2_0 rfl (lv_at hl 0 rfl) ?_
    refine r_get (v := .ref ed) E hw (QAt.dyn hM) (T := TJ2) (N := 3) rfl in_J2 1 (by decide) q364 rfl dJ2_grow_2_1 ?_
    refine r_alen (t := 7) (v := nI xs.length) E hw rfl (QAt.dyn hf) rfl dJ2_grow_2_4 ?_
    refine lv_istore_n (lv' := [(2, .int (nI xs.length)), (0, .ref a), (1, .int (nI (xs.length + 1)))]) hx hb dJ2_grow_2_5 rfl hl (by decide) rfl (fun ls hl => ?_)
    refine lv_iload_n hx hb dJ2_grow_2_6 rfl (lv_at hl 0 rfl) ?_
    refine lv_if_gt (tgt := 20) hx hb dJ2_grow_2_7 (by decide) (fun _ => ?_) (fun c => absurd (nI_lt (a := 0) (show 0 < xs.length by omega) (by omega)) c)
    refine lv_iload_n hx hb dJ2_grow_2_20 rfl (lv_at hl 0 rfl) ?_
    refine lv_iload_n hx hb dJ2_grow_2_21 rfl (lv_at hl 2 rfl) ?_
    refine lv_iload_n hx hb dJ2_grow_2_22 rfl (lv_at hl 0 rfl) ?_
    refine lv_isub hx hb dJ2_grow_2_23 ?_
    rw [show nI (xs.length + 1) - nI xs.length = 1 by rw [nI_succ, Int32.add_comm, Int32.add_sub_cancel]]
    refine lv_iload_n hx hb dJ2_grow_2_24 rfl (lv_at hl 0 rfl) ?_
    refine lv_iconst (v := (1:Int32)) hx hb dJ2_grow_2_25 (by decide) ?_
    refine lv_ishr hx hb dJ2_grow_2_26 ?_
    have hsh : nI xs.length >>> ((1 : Int32) &&& 31) = nI (xs.length / 2) := by
      rcases cap_full hfl hlen with e | e | e | e | e | e | e | e <;> rw [e] <;> decide
    rw [hsh]
    refine d_S (As := [.int (nI xs.length), .int 1, .int (nI (xs.length / 2))]) (v0 := some (.int (nI (xs.length + xs.length / 2)))) hG E hw hl (m_J11_newLength l h10 hlen) (va_cwS 3 hts (lw_S q628 q629 q157 q630) rfl rfl rfl kd_J11_newLength ⟨Nat.le_of_ble_eq_true rfl, Nat.le_of_ble_eq_true rfl⟩) rfl (rest := []) (st1 := [.int (nI (xs.length + xs.length / 2))]) rfl rfl rfl dJ2_grow_2_27 ⟨Nat.zero_le _, Nat.zero_le _⟩ (fun H locs hw => ?_)
    refine lv_istore_n (lv' := [(3, .int (nI (xs.length + xs.length / 2))), (2, .int (nI xs.length)), (0, .ref a), (1, .int (nI (xs.length + 1)))]) hx hb dJ2_grow_2_30 rfl hl (by decide) rfl (fun ls hl => ?_)
    refine lv_aload_n hx hb dJ2_grow_2_31 rfl (lv_at hl 2 rfl) ?_
    refine lv_aload_n hx hb dJ2_grow_2_32 rfl (lv_at hl 2 rfl) ?_
    refine r_get (v := .ref ed) E hw (QAt.dyn hM) (T := TJ2) (N := 3) rfl in_J2 1 (by decide) q364 rfl dJ2_grow_2_33 ?_
    refine lv_iload_n hx hb dJ2_grow_2_36 rfl (lv_at hl 0 rfl) ?_
    refine c_S (As := [.ref ed, .int (nI (xs.length + xs.length / 2))]) (rest := [.ref a]) hG E hw (m_J12_copyOf l hG hLs hf (by omega) (by omega) (fun i hi y hy => ?_)) (va_cwS 2 hts (lw_S q638 q639 q158 q640) rfl rfl rfl kd_J12_copyOf ⟨Nat.le_of_ble_eq_true rfl, Nat.le_of_ble_eq_true rfl⟩) hl rfl rfl (Nat.le_of_ble_eq_true rfl) dJ2_grow_2_37 ⟨(show 0 + 1 ≤ addCost xs.length by omega), (show 0 + (xs.length + xs.length / 2) ≤ 12 * addCost xs.length by omega)⟩ (fun v w' H1 locs1 hP hw => ?_)
    · have h9 : xs[i]? = some (xs[i]) := List.getElem?_eq_getElem hi
      have h8 := hfx i _ h9
      rw [hy] at h8
      cases h8
      exact hel _ (List.getElem_mem hi)
    obtain ⟨q, rfl, hq, rfl⟩ := hP
    refine lv_dup_x1 hx hb dJ2_grow_2_40 rfl rfl ?_
    refine r_putD E hw (show (va_up M q _) a = _ from (va_up_n (ne q hq)).trans hM) (T := TJ2) (N := 3) rfl in_J2 tyJ2 tyJ2_ok nmJ2 1 (by decide) q364 rfl rfl rfl (show 1 < 3 by decide) dJ2_grow_2_41 (fun H locs hw => ?_)
    refine r_aret E hr (Or.inr ⟨_, rfl⟩) (Or.inr ⟨_, rfl⟩) ⟨q, va_cpy f (fun _ => none) 0 0 xs.length, rfl, hq, by rw [hcap]; rfl, fun i x hx => ?_⟩ hw (show 0 + 1 ≤ addCost xs.length by omega) (show 0 + (xs.length + xs.length / 2) ≤ 12 * addCost xs.length by omega) dJ2_grow_2_44
    have hil := (List.getElem?_eq_some_iff.mp hx).1
    show (if 0 ≤ i ∧ i < 0 + xs.length then f (0 + (i - 0)) else none) = some x
    rw [if_pos (by omega), Nat.zero_add, Nat.sub_zero]
    exact hfx i x hx
