/-! add -/
set_option maxRecDepth 100000
theorem kd_J2_add_2 : yJ2_add_2.cls ≠ "java/lang/invoke/MethodHandle" ∧ yJ2_add_2.cls ≠ "java/lang/invoke/VarHandle" ∧ (parseMethodDescriptor yJ2_add_2.desc).map (fun d => d.parameters.length) = some 3 := by decide +kernel
theorem kd_J2_grow : yJ2_grow.cls ≠ "java/lang/invoke/MethodHandle" ∧ yJ2_grow.cls ≠ "java/lang/invoke/VarHandle" ∧ (parseMethodDescriptor yJ2_grow.desc).map (fun d => d.parameters.length) = some 0 := by decide +kernel
theorem kd_J2_grow_2 : yJ2_grow_2.cls ≠ "java/lang/invoke/MethodHandle" ∧ yJ2_grow_2.cls ≠ "java/lang/invoke/VarHandle" ∧ (parseMethodDescriptor yJ2_grow_2.desc).map (fun d => d.parameters.length) = some 1 := by decide +kernel
set_option maxHeartbeats 4000000 in
theorem m_J2_grow (l : Launch) {K : QK} {G : State → Prop} (hG : QG G) {ea mi : Nat} (hLs : QLs K G ea mi) {A B : QA} {L : QL} {X : QX} {M : QM} {a ed : Nat} {mo : Int32} {xs : List Nat} (hM : M a = some (.inr (17, [.int mo, .ref ed, .int (nI xs.length)]))) (hd : (xs = [] ∧ ed = ea) ∨ (xs ≠ [] ∧ ∃ f : Nat → Option Nat, M ed = some (.inl (K.2.2.2.2 7, capOf xs.length, .inr (.inr (.inr (.inr f))))) ∧ ∀ i x, xs[i]? = some x → f i = some x)) (hfull : xs = [] ∨ xs.length = capOf xs.length) (hlen : xs.length < 200) (hel : ∀ x ∈ xs, ElO K M x) :
    MC l K G yJ2_grow (ws_ yJ2_grow cJ2_grow 1 (some (.array (.object "java/lang/Object")))) 6 280 (addCost xs.length) (12 * addCost xs.length) [.ref a] (A, B, L, X, M) (fun v w' => ∃ (q : Nat) (f : Nat → Option Nat), v = some (.ref q) ∧ M q = none ∧ w' = (A, B, L, X, va_up (va_up M q (some (.inl (K.2.2.2.2 7, capOf (xs.length + 1), .inr (.inr (.inr (.inr f)))))) ) a (some (.inr (17, [.int mo, .ref q, .int (nI xs.length)])))) ∧ ∀ i x, xs[i]? = some x → f i = some x) := by
  refine MC.of (by decide) (Nat.le_of_ble_eq_true rfl) (lv := [(0, .ref a)]) rfl (fun p e s m below meth c ls E hr hl hw => ?_)
  have hx := E.1
  have hb := E.2.1
  have hown := E.2.2.1
  have hts := E.2.2.2.2.1
  refine lv_aload_n hx hb dJ2_grow_0 rfl (lv_at hl 0 rfl) ?_
  refine lv_aload_n hx hb dJ2_grow_1 rfl (lv_at hl 0 rfl) ?_
  refine r_get (v := .int (nI xs.length)) E hw (QAt.dyn hM) (T := TJ2) (N := 3) rfl in_J2 2 (by decide) q365 rfl dJ2_grow_2 ?_
  refine lv_iconst (v := (1:Int32)) hx hb dJ2_grow_5 (by decide) ?_
  refine lv_iadd hx hb dJ2_grow_6 ?_
  rw [nI_sc]
  refine c_V (As := [.int (nI (xs.length + 1))]) (rest := []) hG E hw (m_J2_grow_2 l hG hLs hM hd hfull hlen hel) (QAt.dyn hM) rfl (cwV 1 hts (lw_V q624 q626 qs18 q145 q627) rfl rfl rfl ⟨rfl, kd_J2_grow_2⟩ ⟨Nat.le_of_ble_eq_true rfl, Nat.le_of_ble_eq_true rfl⟩) hl rfl rfl (Nat.le_of_ble_eq_true rfl) dJ2_grow_7 ⟨(show 0 + addCost xs.length ≤ addCost xs.length by omega), (show 0 + 12 * addCost xs.length ≤ 12 * addCost xs.length by omega)⟩ (fun v w' H1 locs1 hP hw => ?_)
  obtain ⟨q, f, rfl, hq, rfl, hf⟩ := hP
  exact r_aret E hr (Or.inr ⟨_, rfl⟩) (Or.inr ⟨_, rfl⟩) ⟨q, f, rfl, hq, rfl, hf⟩ hw (show 0 + addCost xs.length ≤ addCost xs.length by omega) (show 0 + 12 * addCost xs.length ≤ 12 * addCost xs.length by omega) dJ2_grow_10
theorem ElO.up17 {K : QK} {M : QM} {x a : Nat} {fs : List Value} (h : ElO K M x) : ElO K (va_up M a (some (.inr (17, fs)))) x := by
  by_cases hx : x = a
  · subst hx
    exact ⟨17, 3, RJ2, TJ2, fs, rfl, Or.inl va_up_s, q2032⟩
  · obtain ⟨ci, N, C, T, fs, g1, g2, g3⟩ := h
    refine ⟨ci, N, C, T, fs, g1, ?_, g3⟩
    rcases g2 with g2 | g2
    · exact Or.inl ((va_up_n hx).trans g2)
    · exact Or.inr g2
theorem cap_244 {n : Nat} : capOf n ≤ 244 := by
  unfold capOf
  repeat' split
  all_goals omega
/-- what adding leaves behind -/
def AddQ (K : QK) (ea : Nat) (A B : QA) (L : QL) (X : QX) (M : QM) (a ed : Nat) (ys : List Nat) (v0 : Option Value) : Option Value → QW → Prop := fun v w' => ∃ (ed' : Nat) (M' : QM), v = v0 ∧ w' = (A, B, L, X, M') ∧ LM K ea M' a ed' ys ∧ (ed' = ed ∧ 2 ≤ ys.length ∧ (∃ e, M ed = some (.inl e)) ∨ M ed' = none) ∧ ∀ b e, b ≠ a → b ≠ ed' → M b = some e → M' b = some e
set_option maxHeartbeats 8000000 in
theorem m_J2_add_2 (l : Launch) {K : QK} {G : State → Prop} (hG : QG G) {ea mi : Nat} (hLs : QLs K G ea mi) {A B : QA} {L : QL} {X : QX} {M : QM} {a ed x : Nat} {mo : Int32} {xs : List Nat} (hM : M a = some (.inr (17, [.int mo, .ref ed, .int (nI xs.length)]))) (hd : (xs = [] ∧ ed = ea) ∨ (xs ≠ [] ∧ ∃ f : Nat → Option Nat, M ed = some (.inl (K.2.2.2.2 7, capOf xs.length, .inr (.inr (.inr (.inr f))))) ∧ ∀ i x, xs[i]? = some x → f i = some x)) (hlen : xs.length < 200) (hel : ∀ x ∈ xs, ElO K M x) (hx9 : ElO K M x) :
    MC l K G yJ2_add_2 (ws_ yJ2_add_2 cJ2_add_2 4 none) 7 340 (addCost xs.length) (12 * addCost xs.length) [.ref a, .ref x, .ref ed, .int (nI xs.length)] (A, B, L, X, M) (AddQ K ea A B L X M a ed (xs ++ [x]) none) := by
  refine MC.of (by decide) (Nat.le_of_ble_eq_true rfl) (lv := [(0, .ref a), (1, .ref x), (2, .ref ed), (3, .int (nI xs.length))]) rfl (fun p e s m below meth c ls E hr hl hw => ?_)
  have hx := E.1
  have hb := E.2.1
  have hown := E.2.2.1
  have hts := E.2.2.2.2.1
  have hGs := E.2.2.2.2.2.1
  have hcl := cap_le hlen
  have tail : ∀ (M2 : QM) (ed' cap : Nat) (f : Nat → Option Nat), M2 a = some (.inr (17, [.int mo, .ref ed', .int (nI xs.length)])) → M2 ed' = some (.inl (K.2.2.2.2 7, capOf (xs.length + 1), .inr (.inr (.inr (.inr f))))) → xs.length < capOf (xs.length + 1) → (∀ i x, xs[i]? = some x → f i = some x) → ElO K M2 x → (ed' = ed ∧ 2 ≤ (xs ++ [x]).length ∧ (∃ e, M ed = some (.inl e)) ∨ M ed' = none) → (∀ b e, b ≠ a → M b = some e → M2 b = some e) →
      ∀ {H : Heap} {locs : List Loc} {ls : Array Slot} {cells slots : Nat}, cells ≤ addCost xs.length → slots ≤ 12 * addCost xs.length → WP K (A, B, L, X, M2) H locs → lv_has ls 4 [(2, .ref ed'), (0, .ref a), (1, .ref x), (3, .int (nI xs.length))] →
      W p l e (qrm 7 340 (addCost xs.length) (12 * addCost xs.length)) s m #[.ref a, .ref x, .ref ed, .int (nI xs.length)] below meth c H locs cells slots (MQ below (QE K (AddQ K ea A B L X M a ed (xs ++ [x]) none)) #[.ref a, .ref x, .ref ed, .int (nI xs.length)] s (addCost xs.length) (12 * addCost xs.length) (qA K)) (F0 m 11 ls []) := by
    intro M2 ed' cap f h1 h2 h3 h4 h5 h6 h7 H locs ls cells slots hc hs hw hl
    have hne : a ≠ ed' := by
      intro e9
      subst e9
      rw [h1] at h2
      cases h2
    refine lv_aload_n hx hb dJ2_add_2_11 rfl (lv_at hl 0 rfl) ?_
    refine lv_iload_n hx hb dJ2_add_2_12 rfl (lv_at hl 3 rfl) ?_
    refine lv_aload_n hx hb dJ2_add_2_13 rfl (lv_at hl 2 rfl) ?_
    obtain ⟨C, cell, g1, g2, g3, g4⟩ := el_cell hG E hw h5
    refine r_astO (t := 7) (j := xs.length) E hw rfl h2 ⟨cell, g1, g2, g3⟩ g4 (vp_in_nI h3 (by have := cap_244 (n := xs.length + 1); omega)) (nI_clamp (by omega)) dJ2_add_2_14 (fun H1 locs1 hw => ?_)
    refine lv_aload_n hx hb dJ2_add_2_15 rfl (lv_at hl 1 rfl) ?_
    refine lv_iload_n hx hb dJ2_add_2_16 rfl (lv_at hl 3 rfl) ?_
    refine lv_iconst (v := (1:Int32)) hx hb dJ2_add_2_17 (by decide) ?_
    refine lv_iadd hx hb dJ2_add_2_18 ?_
    rw [nI_sc]
    refine r_putD E hw (show (va_up M2 ed' _) a = _ from (va_up_n hne).trans h1) (T := TJ2) (N := 3) rfl in_J2 tyJ2 tyJ2_ok nmJ2 2 (by decide) q365 rfl rfl rfl (show 2 < 3 by decide) dJ2_add_2_19 (fun H locs hw => ?_)
    refine r_ret E hr ⟨ed', _, rfl, rfl, ⟨mo, ?_, Or.inr ⟨by simp, va_up f xs.length (some x), ?_, ?_⟩⟩, h6, ?_⟩ hw hc hs dJ2_add_2_22
    · rw [List.length_append]
      exact va_up_s
    · rw [List.length_append]
      exact (va_up_n (Ne.symm hne)).trans va_up_s
    · intro i y hy
      by_cases hi : i < xs.length
      · rw [va_up_n (by omega)]
        rw [List.getElem?_append_left hi] at hy
        exact h4 i y hy
      · rw [List.getElem?_append_right (by omega)] at hy
        by_cases hi2 : i = xs.length
        · subst hi2
          rw [Nat.sub_self] at hy
          cases hy
          exact va_up_s
        · have : 1 ≤ i - xs.length := by omega
          rw [List.getElem?_eq_none (by simpa using this)] at hy
          cases hy
    · intro b e9 hb1 hb2 hb3
      show va_up (va_up M2 ed' _) a _ b = _
      rw [va_up_n hb1, va_up_n hb2]
      exact h7 b e9 hb1 hb3
  by_cases hfull : xs = [] ∨ xs.length = capOf xs.length
  · have hg : ∀ {H : Heap} {locs : List Loc}, WP K (A, B, L, X, M) H locs → W p l e (qrm 7 340 (addCost xs.length) (12 * addCost xs.length)) s m #[.ref a, .ref x, .ref ed, .int (nI xs.length)] below meth c H locs 0 0 (MQ below (QE K (AddQ K ea A B L X M a ed (xs ++ [x]) none)) #[.ref a, .ref x, .ref ed, .int (nI xs.length)] s (addCost xs.length) (12 * addCost xs.length) (qA K)) (F0 m 6 ls []) := by
      intro H locs hw
      refine lv_aload_n hx hb dJ2_add_2_6 rfl (lv_at hl 0 rfl) ?_
      refine c_V (As := []) (rest := []) hG E hw (m_J2_grow l hG hLs hM hd hfull hlen hel) (QAt.dyn hM) rfl (cwV 0 hts (lw_V q620 q622 qs17 q145 q623) rfl rfl rfl ⟨rfl, kd_J2_grow⟩ ⟨Nat.le_of_ble_eq_true rfl, Nat.le_of_ble_eq_true rfl⟩) hl rfl rfl (Nat.le_of_ble_eq_true rfl) dJ2_add_2_7 ⟨(show 0 + addCost xs.length ≤ addCost xs.length by omega), (show 0 + 12 * addCost xs.length ≤ 12 * addCost xs.length by omega)⟩ (fun v w' H1 locs1 hP hw => ?_)
      obtain ⟨q, f, rfl, hq, rfl, hf⟩ := hP
      have hqa : q ≠ a := by
        intro e9
        subst e9
        rw [hM] at hq
        cases hq
      refine lv_astore_n (lv' := [(2, .ref q), (0, .ref a), (1, .ref x), (3, .int (nI xs.length))]) hx hb dJ2_add_2_10 rfl hl (by decide) rfl (fun ls hl => ?_)
      have hx2 : QExt M (va_up M q (some (.inl (K.2.2.2.2 7, capOf (xs.length + 1), .inr (.inr (.inr (.inr f))))))) := QExt.up hq
      refine tail _ q 0 f va_up_s ((va_up_n hqa).trans va_up_s) ?_ hf ?_ (Or.inr hq) ?_ (by omega) (by omega) hw hl
      · rcases hfull with e9 | e9
        · rw [e9]; decide
        · rcases cap_full e9 hlen with e | e | e | e | e | e | e | e <;> rw [e] <;> decide
      · exact (hx9.ext hx2).up17
      · intro b e9 h1 h3
        rw [va_up_n h1]
        exact hx2 b e9 h3
    refine lv_iload_n hx hb dJ2_add_2_0 rfl (lv_at hl 3 rfl) ?_
    refine lv_aload_n hx hb dJ2_add_2_1 rfl (lv_at hl 2 rfl) ?_
    rcases id hd with ⟨h1, h2⟩ | ⟨h1, f, h2, h3⟩
    · subst h2
      refine r_olen (v := 0) E hw (hLs.2.1 s hGs) rfl dJ2_add_2_2 ?_
      refine lv_icmp_ne (tgt := 11) hx hb dJ2_add_2_3 (by decide) (fun c => ?_) (fun c => ?_)
      · exact absurd (show nI xs.length = 0 by rw [h1]; rfl) c
      · exact hg hw
    · refine r_alen (t := 7) (v := nI (capOf xs.length)) E hw rfl (QAt.dyn h2) rfl dJ2_add_2_2 ?_
      refine lv_icmp_ne (tgt := 11) hx hb dJ2_add_2_3 (by decide) (fun c => ?_) (fun c => ?_)
      · exact absurd (show nI xs.length = nI (capOf xs.length) by rw [← hfull.resolve_left h1]) c
      · exact hg hw
  · have hne : xs ≠ [] := fun q => hfull (Or.inl q)
    have hnf : xs.length ≠ capOf xs.length := fun q => hfull (Or.inr q)
    have h0 : xs.length ≠ 0 := fun z => hne (List.length_eq_zero_iff.mp z)
    obtain ⟨-, f, h2, h3⟩ := hd.resolve_left (fun q => hne q.1)
    have hcs := cap_same hlen hnf h0
    refine lv_iload_n hx hb dJ2_add_2_0 rfl (lv_at hl 3 rfl) ?_
    refine lv_aload_n hx hb dJ2_add_2_1 rfl (lv_at hl 2 rfl) ?_
    refine r_alen (t := 7) (v := nI (capOf xs.length)) E hw rfl (QAt.dyn h2) rfl dJ2_add_2_2 ?_
    refine lv_icmp_ne (tgt := 11) hx hb dJ2_add_2_3 (by decide) (fun c => ?_) (fun c => ?_)
    · exact tail M ed 0 f hM (by rw [hcs]; exact h2) (by rw [hcs]; omega) h3 hx9 (Or.inl ⟨rfl, by rw [List.length_append]; show 2 ≤ xs.length + 1; omega, _, h2⟩) (fun b e9 _ h => h) (Nat.zero_le _) (Nat.zero_le _) hw (lv_sub hl [2, 0, 1, 3] rfl)
    · exact absurd (nI_inj c (by omega) (by omega)) hnf
section MSF
variable {p : Program} {l : Launch} {e : Env} {R : Room} {s : State} {m : MethodId} {args : Array Value} {below : List Frame} {meth : Method} {c : Code} {H : Heap} {locs : List Loc} {cells slots : Nat} {Q : State → Prop}
variable {cc : ByteArray} {pc : Nat} {ls : Array Slot} {rest : List Value} {a : Nat} {own : String} {nL : Nat}
variable {K : QK} {G : State → Prop} {w : QW}
/-- an inherited field, by the name of the class below -/
theorem r_getU {ci N : Nat} {C ref : String} {T : u_T} {fs : List Value} (E : EV K G p s m args meth c cc own nL) (hw : WP K w H locs) (hq : w.2.2.2.2 a = some (.inr (ci, fs))) (hc : vcl[ci]? = some (C, T, N)) (hin : ∀ w ∈ u_ws C T N, w ∈ lw_all) (k : Nat) (hk : k < N) {index : Nat} (hlink : Cond.fieldLink own index ref (T k).2.1 (T k).2.2.1 ∈ lw_all) (hsf : Cond.sameField ref (T k).1 (T k).2.1 (T k).2.2.1 ∈ lw_all) {v : Value} (hv : fs[k]? = some v) (hdg : decode cc pc = .ok (.getfield index, 3))
    (kk : W p l e R s m args below meth c H locs cells slots Q (F0 m (pc + 3) ls (v :: rest))) : W p l e R s m args below meth c H locs cells slots Q (F0 m pc ls (.ref a :: rest)) := by
  obtain ⟨ws, i, hP, hi⟩ := hw.own (Or.inr hq)
  exact va_get E.1 E.2.1 E.2.2.2.2.1 hin E.2.2.1 E.2.2.2.1 hP i hi hc k hk (E.2.2.2.2.1 _ hlink) (u_same (E.2.2.2.2.1 _ hsf)) hv hdg kk
theorem r_putDU {ci N : Nat} {C ref : String} {T : u_T} {fs : List Value} (E : EV K G p s m args meth c cc own nL) (hw : WP K w H locs) (hq : w.2.2.2.2 a = some (.inr (ci, fs))) (hc : vcl[ci]? = some (C, T, N)) (hin : ∀ w ∈ u_ws C T N, w ∈ lw_all) (ty0 : Nat → FieldType) (hty : ∀ k, k < N → parseFieldDescriptor (T k).2.2.1 = some (ty0 k)) (hnm : ∀ a, a < N → ∀ b, b < N → a ≠ b → (T a).2.1 ≠ (T b).2.1) (k : Nat) (hk : k < N) {index : Nat} (hlink : Cond.fieldLink own index ref (T k).2.1 (T k).2.2.1 ∈ lw_all) (hsf : Cond.sameField ref (T k).1 (T k).2.1 (T k).2.2.1 ∈ lw_all) (hfin : (T k).2.2.2 = false) {v : Value} (hn : narrow (ty0 k) v = v) (hfit : fits (ty0 k) v = true) (hlen : k < fs.length) (hdg : decode cc pc = .ok (.putfield index, 3))
    (kk : ∀ (H1 : Heap) (locs1 : List Loc), WP K (w.1, w.2.1, w.2.2.1, w.2.2.2.1, va_up w.2.2.2.2 a (some (.inr (ci, fs.set k v)))) H1 locs1 → W p l e R s m args below meth c H1 locs1 cells slots Q (F0 m (pc + 3) ls rest)) : W p l e R s m args below meth c H locs cells slots Q (F0 m pc ls (v :: .ref a :: rest)) := by
  obtain ⟨ws, i, hP, hD, hS, hi, back⟩ := hw.dyn hq
  refine va_put E.1 E.2.1 E.2.2.2.2.1 hin ty0 hty hnm E.2.2.1 E.2.2.2.1 hP hD hS i hi hc k hk (E.2.2.2.2.1 _ hlink) (u_same (E.2.2.2.2.1 _ hsf)) hfin (hty k hk) hn hfit hlen hdg (fun H1 locs1 p1 d1 s1 => ?_)
  exact kk H1 locs1 (back _ H1 locs1 p1 d1 s1)
end MSF
set_option maxHeartbeats 4000000 in
theorem m_J2_add (l : Launch) {K : QK} {G : State → Prop} (hG : QG G) {ea mi : Nat} (hLs : QLs K G ea mi) {A B : QA} {L : QL} {X : QX} {M : QM} {a ed x : Nat} {xs : List Nat} (hLM : LM K ea M a ed xs) (hlen : xs.length < 200) (hel : ∀ x ∈ xs, ElO K M x) (hx9 : ElO K M x) :
    MC l K G yJ2_add (ws_ yJ2_add cJ2_add 2 (some .boolean)) 8 380 (addCost xs.length) (12 * addCost xs.length) [.ref a, .ref x] (A, B, L, X, M) (AddQ K ea A B L X M a ed (xs ++ [x]) (some (.int 1))) := by
  refine MC.of (by decide) (Nat.le_of_ble_eq_true rfl) (lv := [(0, .ref a), (1, .ref x)]) rfl (fun p e s m below meth c ls E hr hl hw => ?_)
  have hx := E.1
  have hb := E.2.1
  have hown := E.2.2.1
  have hts := E.2.2.2.2.1
  obtain ⟨mo, hM, hd⟩ := hLM
  refine lv_aload_n hx hb dJ2_add_0 rfl (lv_at hl 0 rfl) ?_
  refine lv_dup hx hb dJ2_add_1 rfl ?_
  refine r_getU (v := .int mo) E hw (show (A, B, L, X, M).2.2.2.2 a = _ from hM) (T := TJ2) (N := 3) rfl in_J2 0 (by decide) q367 q368 rfl dJ2_add_2 ?_
  refine lv_iconst (v := (1:Int32)) hx hb dJ2_add_5 (by decide) ?_
  refine lv_iadd hx hb dJ2_add_6 ?_
  refine r_putDU E hw (show (A, B, L, X, M).2.2.2.2 a = _ from hM) (T := TJ2) (N := 3) rfl in_J2 tyJ2 tyJ2_ok nmJ2 0 (by decide) q367 q368 rfl rfl rfl (show 0 < 3 by decide) dJ2_add_7 (fun H locs hw => ?_)
  have hw : WP K (A, B, L, X, va_up M a (some (.inr (17, [.int (mo + 1), .ref ed, .int (nI xs.length)])))) H locs := hw
  have hM1 : (va_up M a (some (.inr (17, [.int (mo + 1), .ref ed, .int (nI xs.length)])))) a = some (.inr (17, [.int (mo + 1), .ref ed, .int (nI xs.length)])) := va_up_s
  have hd1 : (xs = [] ∧ ed = ea) ∨ (xs ≠ [] ∧ ∃ f : Nat → Option Nat, (va_up M a (some (.inr (17, [.int (mo + 1), .ref ed, .int (nI xs.length)])))) ed = some (.inl (K.2.2.2.2 7, capOf xs.length, .inr (.inr (.inr (.inr f))))) ∧ ∀ i x, xs[i]? = some x → f i = some x) := by
    rcases hd with h | ⟨h1, f, h2, h3⟩
    · exact Or.inl h
    · refine Or.inr ⟨h1, f, ?_, h3⟩
      rw [va_up_n (fun e => by rw [e, hM] at h2; cases h2)]
      exact h2
  refine lv_aload_n hx hb dJ2_add_10 rfl (lv_at hl 0 rfl) ?_
  refine lv_aload_n hx hb dJ2_add_11 rfl (lv_at hl 1 rfl) ?_
  refine lv_aload_n hx hb dJ2_add_12 rfl (lv_at hl 0 rfl) ?_
  refine r_get (v := .ref ed) E hw (QAt.dyn hM1) (T := TJ2) (N := 3) rfl in_J2 1 (by decide) q364 rfl dJ2_add_13 ?_
  refine lv_aload_n hx hb dJ2_add_16 rfl (lv_at hl 0 rfl) ?_
  refine r_get (v := .int (nI xs.length)) E hw (QAt.dyn hM1) (T := TJ2) (N := 3) rfl in_J2 2 (by decide) q365 rfl dJ2_add_17 ?_
  refine c_V (As := [.ref x, .ref ed, .int (nI xs.length)]) (rest := []) hG E hw (m_J2_add_2 l hG hLs hM1 hd1 hlen (fun y hy => (hel y hy).up17) hx9.up17) (QAt.dyn hM1) rfl (cwV 3 hts (lw_V q616 q618 qs16 q145 q619) rfl rfl rfl ⟨rfl, kd_J2_add_2⟩ ⟨Nat.le_of_ble_eq_true rfl, Nat.le_of_ble_eq_true rfl⟩) hl rfl rfl (Nat.le_of_ble_eq_true rfl) dJ2_add_20 ⟨(show 0 + addCost xs.length ≤ addCost xs.length by omega), (show 0 + 12 * addCost xs.length ≤ 12 * addCost xs.length by omega)⟩ (fun v w' H1 locs1 hP hw => ?_)
  obtain ⟨ed', M', rfl, rfl, hLM', hed, hk⟩ := hP
  refine lv_iconst (v := (1:Int32)) hx hb dJ2_add_23 (by decide) ?_
  refine r_iret E hr rfl ⟨ed', M', rfl, rfl, hLM', ?_, ?_⟩ hw (show 0 + addCost xs.length ≤ addCost xs.length by omega) (show 0 + 12 * addCost xs.length ≤ 12 * addCost xs.length by omega) dJ2_add_24
  · rcases hed with ⟨h1, h0, e, h2⟩ | h
    · refine Or.inl ⟨h1, h0, e, ?_⟩
      by_cases h3 : ed = a
      · rw [h3, va_up_s] at h2; cases h2
      · rw [va_up_n h3] at h2; exact h2
    · refine Or.inr ?_
      by_cases h3 : ed' = a
      · rw [h3, va_up_s] at h; cases h
      · rw [va_up_n h3] at h; exact h
  · intro b e h1 h2 h3
    exact hk b e h1 h2 (by rw [va_up_n h1]; exact h3)
