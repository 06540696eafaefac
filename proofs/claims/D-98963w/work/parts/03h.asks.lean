/-! the contracts of a tree's methods: what is asked -/
set_option maxRecDepth 100000
abbrev b2i (b : Bool) : Int32 := if b = true then 1 else 0
theorem b2i_nar (b : Bool) : narrow .boolean (.int (b2i b)) = .int (b2i b) := by cases b <;> rfl
theorem sCount_cons (nm : Nat → Int32) (it : QJt) (its : List QJt) : sCount nm (it :: its) = sCount nm its + (if it.2.2 nm = true then 1 else 0) := by
  unfold sCount
  rw [List.filter_cons]
  split <;> simp
theorem sCount_le (nm : Nat → Int32) (its : List QJt) : sCount nm its ≤ its.length := List.length_filter_le _ _
set_option maxHeartbeats 4000000 in
theorem w_count8 {p : Program} {l : Launch} {e : Env} {s : State} {m : MethodId} {args : Array Value} {below : List Frame} {meth : Method} {c : Code} {K : QK} {G : State → Prop} {A B : QA} {L : QL} {X : QX} {M : QM} {n a lm : Nat} {its : List QJt} {Q : State → Prop} (hG : QG G) (hC : QCl K) (E : EV K G p s m args meth c cX8_is "VaneCourt$Most" 4) (h1 : DAt K M a (.inr (8, [.ref lm]))) (h3 : LstAt K M lm (its.map (fun it => it.1))) (ih : ∀ it ∈ its, OfC l K G xAsk .boolean (tF n) (tL n) it.1 [.ref (K.2.1 4)] (A, B, L, X, M) (.int (b2i (it.2.2 (A 4)))))
    (kk : ∀ {H : Heap} {locs : List Loc} {ls : Array Slot}, WP K (A, B, L, X, M) H locs → lv_has ls 4 [(0, .ref a), (1, .ref (K.2.1 4)), (2, .int (nI (sCount (A 4) its)))] → W p l e (qrm (tF (n + 1)) (tL (n + 1)) 0 0) s m args below meth c H locs 0 0 Q (F0 m 49 ls [])) :
    ∀ (r : List QJt) (k cnt : Nat), its.drop k = r → k ≤ its.length → cnt + sCount (A 4) r = sCount (A 4) its → ∀ {H : Heap} {locs : List Loc} {ls : Array Slot}, WP K (A, B, L, X, M) H locs → lv_has ls 4 [(0, .ref a), (1, .ref (K.2.1 4)), (2, .int (nI cnt)), (3, .int (nI k))] → W p l e (qrm (tF (n + 1)) (tL (n + 1)) 0 0) s m args below meth c H locs 0 0 Q (F0 m 4 ls []) := by
  have hx := E.1
  have hb := E.2.1
  have hown := E.2.2.1
  have hts := E.2.2.2.2.1
  obtain ⟨mo, ed, cap, g, u1, u2, u3, u4, u5⟩ := id h3
  have ulen : (its.map (fun it => it.1)).length = its.length := List.length_map _
  rw [ulen] at u1 u3
  intro r
  induction r with
  | nil =>
    intro k cnt hd hk hcnt H locs ls hw hl
    have hk2 : k = its.length := Nat.le_antisymm hk (drop_end hd)
    have hc2 : cnt = sCount (A 4) its := hcnt
    refine lv_iload_n hx hb dX8_is_4 rfl (lv_at hl 3 rfl) ?_
    refine lv_aload_n hx hb dX8_is_5 rfl (lv_at hl 0 rfl) ?_
    refine r_get (v := .ref lm) E hw h1.q (T := TX8) (N := 1) rfl in_X8 0 (by decide) q684 rfl dX8_is_6 ?_
    refine d_V (As := []) (v0 := some (.int (nI its.length))) hG E hw hl (m_J2_size l u1.q) u1.q rfl (cwV 0 hts (lw_V q1010 q675 q676 q145 q677) rfl rfl rfl ⟨rfl, kd_J2_size⟩ ⟨(show 1 + 1 ≤ n + 1 + 6 by omega), (show 8 + (1 + 11) + 40 ≤ (n + 1) * 60 + 400 by omega)⟩) rfl (rest := [.int (nI k)]) (st1 := [.int (nI its.length), .int (nI k)]) rfl rfl rfl dX8_is_9 ⟨Nat.zero_le _, Nat.zero_le _⟩ (fun H locs hw => ?_)
    refine lv_icmp_ge (tgt := 49) hx hb dX8_is_12 (by decide) (fun c => ?_) (fun c => ?_)
    · rw [hc2] at hl
      exact kk hw (lv_sub hl [0, 1, 2] rfl)
    · exact absurd (nI_le (by omega) (by omega)) c
  | cons it r ihr =>
    intro k cnt hd hk hcnt H locs ls hw hl
    obtain ⟨hkl, hkk, hd2⟩ := drop_get hd
    have hO := ih it (List.mem_of_getElem? hkk)
    have hgx : (its.map (fun it => it.1))[k]? = some it.1 := by rw [List.getElem?_map, hkk]; rfl
    rw [sCount_cons] at hcnt
    have next : ∀ (d : Nat) {H : Heap} {locs : List Loc} {ls : Array Slot}, cnt + d + sCount (A 4) r = sCount (A 4) its → WP K (A, B, L, X, M) H locs → lv_has ls 4 [(0, .ref a), (1, .ref (K.2.1 4)), (2, .int (nI cnt)), (3, .int (nI k))] → W p l e (qrm (tF (n + 1)) (tL (n + 1)) 0 0) s m args below meth c H locs 0 0 Q (F0 m 41 ls [.int (nI d), .int (nI cnt)]) := by
      intro d H locs ls hd3 hw hl
      refine lv_iadd hx hb dX8_is_41 ?_
      refine r_nm (y := nI (cnt + d)) (nI_add cnt d).symm ?_
      refine lv_istore_n (lv' := [(2, .int (nI (cnt + d))), (0, .ref a), (1, .ref (K.2.1 4)), (3, .int (nI k))]) hx hb dX8_is_42 rfl hl (by decide) rfl (fun ls hl => ?_)
      refine lv_iinc (v := nI (k + 1)) (lv' := [(3, .int (nI (k + 1))), (2, .int (nI (cnt + d))), (0, .ref a), (1, .ref (K.2.1 4))]) (k := 3) hx hb dX8_is_43 hl rfl (by rw [nI_succ]; rfl) (by decide) rfl (fun ls hl => ?_)
      refine lv_goto (tgt := 4) hx hb dX8_is_46 (by decide) ?_
      exact ihr (k + 1) (cnt + d) hd2 (by omega) hd3 hw (lv_sub hl [2, 3, 1, 0] rfl)
    refine lv_iload_n hx hb dX8_is_4 rfl (lv_at hl 3 rfl) ?_
    refine lv_aload_n hx hb dX8_is_5 rfl (lv_at hl 0 rfl) ?_
    refine r_get (v := .ref lm) E hw h1.q (T := TX8) (N := 1) rfl in_X8 0 (by decide) q684 rfl dX8_is_6 ?_
    refine d_V (As := []) (v0 := some (.int (nI its.length))) hG E hw hl (m_J2_size l u1.q) u1.q rfl (cwV 0 hts (lw_V q1010 q675 q676 q145 q677) rfl rfl rfl ⟨rfl, kd_J2_size⟩ ⟨(show 1 + 1 ≤ n + 1 + 6 by omega), (show 8 + (1 + 11) + 40 ≤ (n + 1) * 60 + 400 by omega)⟩) rfl (rest := [.int (nI k)]) (st1 := [.int (nI its.length), .int (nI k)]) rfl rfl rfl dX8_is_9 ⟨Nat.zero_le _, Nat.zero_le _⟩ (fun H locs hw => ?_)
    refine lv_icmp_ge (tgt := 49) hx hb dX8_is_12 (by decide) (fun c => ?_) (fun c => ?_)
    · exact absurd c (nI_ge hkl (by omega))
    refine lv_iload_n hx hb dX8_is_15 rfl (lv_at hl 2 rfl) ?_
    refine lv_aload_n hx hb dX8_is_16 rfl (lv_at hl 0 rfl) ?_
    refine r_get (v := .ref lm) E hw h1.q (T := TX8) (N := 1) rfl in_X8 0 (by decide) q684 rfl dX8_is_17 ?_
    refine lv_iload_n hx hb dX8_is_20 rfl (lv_at hl 3 rfl) ?_
    refine d_V (As := [.int (nI k)]) (v0 := some (.ref it.1)) hG E hw hl (m_J2_get l hG h3 hgx) u1.q rfl (cwV 1 hts (lw_V q1011 q807 q808 q145 q809) rfl rfl rfl ⟨rfl, kd_J2_get⟩ ⟨(show 3 + 1 ≤ n + 1 + 6 by omega), (show 8 + (2 + 11) + 120 ≤ (n + 1) * 60 + 400 by omega)⟩) rfl (rest := [.int (nI cnt)]) (st1 := [.ref it.1, .int (nI cnt)]) rfl rfl rfl dX8_is_21 ⟨Nat.zero_le _, Nat.zero_le _⟩ (fun H locs hw => ?_)
    refine r_castO E hw hO (nm := "VaneCourt$Asked") rfl q1012 dX8_is_24 ?_
    refine lv_aload_n hx hb dX8_is_27 rfl (lv_at hl 1 rfl) ?_
    refine r_F hG E hw hl hO q1014 kd_xAsk ⟨(show n + 6 + 1 ≤ n + 1 + 6 by omega), (show 8 + (10 + 11) + (n * 60 + 400) ≤ (n + 1) * 60 + 400 by omega)⟩ rfl (rest := [.int (nI cnt)]) (st1 := [.int (b2i (it.2.2 (A 4))), .int (nI cnt)]) rfl rfl rfl dX8_is_28 ⟨Nat.zero_le _, Nat.zero_le _⟩ (fun H locs hw => ?_)
    cases hv : it.2.2 (A 4) with
    | true =>
      rw [hv] at hcnt
      refine lv_if_eq (tgt := 40) hx hb dX8_is_33 (by decide) (fun c => ?_) (fun c => ?_)
      · exact absurd c (by decide)
      refine lv_iconst (v := nI 1) hx hb dX8_is_36 (by decide) ?_
      refine lv_goto (tgt := 41) hx hb dX8_is_37 (by decide) ?_
      exact next 1 (by simp at hcnt; omega) hw hl
    | false =>
      rw [hv] at hcnt
      refine lv_if_eq (tgt := 40) hx hb dX8_is_33 (by decide) (fun c => ?_) (fun c => ?_)
      · refine lv_iconst (v := nI 0) hx hb dX8_is_40 (by decide) ?_
        exact next 0 (by simp at hcnt; omega) hw hl
      · exact absurd rfl c
set_option maxHeartbeats 4000000 in
theorem w_count14 {p : Program} {l : Launch} {e : Env} {s : State} {m : MethodId} {args : Array Value} {below : List Frame} {meth : Method} {c : Code} {K : QK} {G : State → Prop} {A B : QA} {L : QL} {X : QX} {M : QM} {n a lm : Nat} {z : Int32} {its : List QJt} {Q : State → Prop} (hG : QG G) (hC : QCl K) (E : EV K G p s m args meth c cX14_is "VaneCourt$All" 4) (h1 : DAt K M a (.inr (14, [.int z, .ref lm]))) (h3 : LstAt K M lm (its.map (fun it => it.1))) (ih : ∀ it ∈ its, OfC l K G xAsk .boolean (tF n) (tL n) it.1 [.ref (K.2.1 4)] (A, B, L, X, M) (.int (b2i (it.2.2 (A 4)))))
    (kk : ∀ {H : Heap} {locs : List Loc} {ls : Array Slot}, WP K (A, B, L, X, M) H locs → lv_has ls 4 [(0, .ref a), (1, .ref (K.2.1 4)), (2, .int (nI (sCount (A 4) its)))] → W p l e (qrm (tF (n + 1)) (tL (n + 1)) 0 0) s m args below meth c H locs 0 0 Q (F0 m 49 ls [])) :
    ∀ (r : List QJt) (k cnt : Nat), its.drop k = r → k ≤ its.length → cnt + sCount (A 4) r = sCount (A 4) its → ∀ {H : Heap} {locs : List Loc} {ls : Array Slot}, WP K (A, B, L, X, M) H locs → lv_has ls 4 [(0, .ref a), (1, .ref (K.2.1 4)), (2, .int (nI cnt)), (3, .int (nI k))] → W p l e (qrm (tF (n + 1)) (tL (n + 1)) 0 0) s m args below meth c H locs 0 0 Q (F0 m 4 ls []) := by
  have hx := E.1
  have hb := E.2.1
  have hown := E.2.2.1
  have hts := E.2.2.2.2.1
  obtain ⟨mo, ed, cap, g, u1, u2, u3, u4, u5⟩ := id h3
  have ulen : (its.map (fun it => it.1)).length = its.length := List.length_map _
  rw [ulen] at u1 u3
  intro r
  induction r with
  | nil =>
    intro k cnt hd hk hcnt H locs ls hw hl
    have hk2 : k = its.length := Nat.le_antisymm hk (drop_end hd)
    have hc2 : cnt = sCount (A 4) its := hcnt
    refine lv_iload_n hx hb dX14_is_4 rfl (lv_at hl 3 rfl) ?_
    refine lv_aload_n hx hb dX14_is_5 rfl (lv_at hl 0 rfl) ?_
    refine r_get (v := .ref lm) E hw h1.q (T := TX14) (N := 2) rfl in_X14 1 (by decide) q826 rfl dX14_is_6 ?_
    refine d_V (As := []) (v0 := some (.int (nI its.length))) hG E hw hl (m_J2_size l u1.q) u1.q rfl (cwV 0 hts (lw_V q938 q675 q676 q145 q677) rfl rfl rfl ⟨rfl, kd_J2_size⟩ ⟨(show 1 + 1 ≤ n + 1 + 6 by omega), (show 8 + (1 + 11) + 40 ≤ (n + 1) * 60 + 400 by omega)⟩) rfl (rest := [.int (nI k)]) (st1 := [.int (nI its.length), .int (nI k)]) rfl rfl rfl dX14_is_9 ⟨Nat.zero_le _, Nat.zero_le _⟩ (fun H locs hw => ?_)
    refine lv_icmp_ge (tgt := 49) hx hb dX14_is_12 (by decide) (fun c => ?_) (fun c => ?_)
    · rw [hc2] at hl
      exact kk hw (lv_sub hl [0, 1, 2] rfl)
    · exact absurd (nI_le (by omega) (by omega)) c
  | cons it r ihr =>
    intro k cnt hd hk hcnt H locs ls hw hl
    obtain ⟨hkl, hkk, hd2⟩ := drop_get hd
    have hO := ih it (List.mem_of_getElem? hkk)
    have hgx : (its.map (fun it => it.1))[k]? = some it.1 := by rw [List.getElem?_map, hkk]; rfl
    rw [sCount_cons] at hcnt
    have next : ∀ (d : Nat) {H : Heap} {locs : List Loc} {ls : Array Slot}, cnt + d + sCount (A 4) r = sCount (A 4) its → WP K (A, B, L, X, M) H locs → lv_has ls 4 [(0, .ref a), (1, .ref (K.2.1 4)), (2, .int (nI cnt)), (3, .int (nI k))] → W p l e (qrm (tF (n + 1)) (tL (n + 1)) 0 0) s m args below meth c H locs 0 0 Q (F0 m 41 ls [.int (nI d), .int (nI cnt)]) := by
      intro d H locs ls hd3 hw hl
      refine lv_iadd hx hb dX14_is_41 ?_
      refine r_nm (y := nI (cnt + d)) (nI_add cnt d).symm ?_
      refine lv_istore_n (lv' := [(2, .int (nI (cnt + d))), (0, .ref a), (1, .ref (K.2.1 4)), (3, .int (nI k))]) hx hb dX14_is_42 rfl hl (by decide) rfl (fun ls hl => ?_)
      refine lv_iinc (v := nI (k + 1)) (lv' := [(3, .int (nI (k + 1))), (2, .int (nI (cnt + d))), (0, .ref a), (1, .ref (K.2.1 4))]) (k := 3) hx hb dX14_is_43 hl rfl (by rw [nI_succ]; rfl) (by decide) rfl (fun ls hl => ?_)
      refine lv_goto (tgt := 4) hx hb dX14_is_46 (by decide) ?_
      exact ihr (k + 1) (cnt + d) hd2 (by omega) hd3 hw (lv_sub hl [2, 3, 1, 0] rfl)
    refine lv_iload_n hx hb dX14_is_4 rfl (lv_at hl 3 rfl) ?_
    refine lv_aload_n hx hb dX14_is_5 rfl (lv_at hl 0 rfl) ?_
    refine r_get (v := .ref lm) E hw h1.q (T := TX14) (N := 2) rfl in_X14 1 (by decide) q826 rfl dX14_is_6 ?_
    refine d_V (As := []) (v0 := some (.int (nI its.length))) hG E hw hl (m_J2_size l u1.q) u1.q rfl (cwV 0 hts (lw_V q938 q675 q676 q145 q677) rfl rfl rfl ⟨rfl, kd_J2_size⟩ ⟨(show 1 + 1 ≤ n + 1 + 6 by omega), (show 8 + (1 + 11) + 40 ≤ (n + 1) * 60 + 400 by omega)⟩) rfl (rest := [.int (nI k)]) (st1 := [.int (nI its.length), .int (nI k)]) rfl rfl rfl dX14_is_9 ⟨Nat.zero_le _, Nat.zero_le _⟩ (fun H locs hw => ?_)
    refine lv_icmp_ge (tgt := 49) hx hb dX14_is_12 (by decide) (fun c => ?_) (fun c => ?_)
    · exact absurd c (nI_ge hkl (by omega))
    refine lv_iload_n hx hb dX14_is_15 rfl (lv_at hl 2 rfl) ?_
    refine lv_aload_n hx hb dX14_is_16 rfl (lv_at hl 0 rfl) ?_
    refine r_get (v := .ref lm) E hw h1.q (T := TX14) (N := 2) rfl in_X14 1 (by decide) q826 rfl dX14_is_17 ?_
    refine lv_iload_n hx hb dX14_is_20 rfl (lv_at hl 3 rfl) ?_
    refine d_V (As := [.int (nI k)]) (v0 := some (.ref it.1)) hG E hw hl (m_J2_get l hG h3 hgx) u1.q rfl (cwV 1 hts (lw_V q939 q807 q808 q145 q809) rfl rfl rfl ⟨rfl, kd_J2_get⟩ ⟨(show 3 + 1 ≤ n + 1 + 6 by omega), (show 8 + (2 + 11) + 120 ≤ (n + 1) * 60 + 400 by omega)⟩) rfl (rest := [.int (nI cnt)]) (st1 := [.ref it.1, .int (nI cnt)]) rfl rfl rfl dX14_is_21 ⟨Nat.zero_le _, Nat.zero_le _⟩ (fun H locs hw => ?_)
    refine r_castO E hw hO (nm := "VaneCourt$Asked") rfl q940 dX14_is_24 ?_
    refine lv_aload_n hx hb dX14_is_27 rfl (lv_at hl 1 rfl) ?_
    refine r_F hG E hw hl hO q942 kd_xAsk ⟨(show n + 6 + 1 ≤ n + 1 + 6 by omega), (show 8 + (10 + 11) + (n * 60 + 400) ≤ (n + 1) * 60 + 400 by omega)⟩ rfl (rest := [.int (nI cnt)]) (st1 := [.int (b2i (it.2.2 (A 4))), .int (nI cnt)]) rfl rfl rfl dX14_is_28 ⟨Nat.zero_le _, Nat.zero_le _⟩ (fun H locs hw => ?_)
    cases hv : it.2.2 (A 4) with
    | true =>
      rw [hv] at hcnt
      refine lv_if_eq (tgt := 40) hx hb dX14_is_33 (by decide) (fun c => ?_) (fun c => ?_)
      · exact absurd c (by decide)
      refine lv_iconst (v := nI 1) hx hb dX14_is_36 (by decide) ?_
      refine lv_goto (tgt := 41) hx hb dX14_is_37 (by decide) ?_
      exact next 1 (by simp at hcnt; omega) hw hl
    | false =>
      rw [hv] at hcnt
      refine lv_if_eq (tgt := 40) hx hb dX14_is_33 (by decide) (fun c => ?_) (fun c => ?_)
      · refine lv_iconst (v := nI 0) hx hb dX14_is_40 (by decide) ?_
        exact next 0 (by simp at hcnt; omega) hw hl
      · exact absurd rfl c
set_option maxHeartbeats 4000000 in
/-- whatever is asked answers its truth of the names, and changes nothing -/
theorem m_ask (l : Launch) {K : QK} {G : State → Prop} (hG : QG G) (hF : QF G) (hC : QCl K) {A B : QA} {L : QL} {X : QX} {M : QM} : ∀ (n a : Nat) (c : QC) (ψ : QB), AskAt K M n a c ψ → OfC l K G xAsk .boolean (tF n) (tL n) a [.ref (K.2.1 4)] (A, B, L, X, M) (.int (b2i (ψ (A 4)))) := by
  intro n
  induction n with
  | zero => intro a c ψ h; exact h.elim
  | succ n ih =>
    intro a c ψ h
    rcases h with ⟨b, c1, ψ1, h1, h2, h3, h4⟩ | ⟨k, h1, h0, h2, h4⟩ | ⟨lm, its, h1, h2, h3, h5, h6, h4⟩ | ⟨g, a1, b1, c1, c2, φ1, φ2, h1, h2, h3, h5, h6, h4⟩ | ⟨z, lm, it0, its, h1, hz, h2, h3, h6, h4⟩ | ⟨a1, b1, c1, c2, ψ1, ψ2, h1, h2, h3, h6, h4⟩
    · subst h4
      refine ⟨6, 1, RX6, TX6, _, yX6_is, cX6_is, 2, rfl, h1.q, ?_, hF.at 4 rfl, q1016, q1018, q155, q1020, by decide⟩
      refine MC.of (by decide) (Nat.le_of_ble_eq_true rfl) (lv := [(0, .ref a), (1, .ref (K.2.1 4))]) rfl (fun p e s m below meth c ls E hr hl hw => ?_)
      have hx := E.1
      have hb := E.2.1
      have hown := E.2.2.1
      have hts := E.2.2.2.2.1
      refine lv_aload_n hx hb dX6_is_0 rfl (lv_at hl 0 rfl) ?_
      refine r_get (v := .ref b) E hw h1.q (T := TX6) (N := 1) rfl in_X6 0 (by decide) q590 rfl dX6_is_1 ?_
      refine lv_aload_n hx hb dX6_is_4 rfl (lv_at hl 1 rfl) ?_
      refine r_F hG E hw hl (ih b c1 ψ1 h2) q1022 kd_xAsk ⟨(show n + 6 + 1 ≤ n + 1 + 6 by omega), (show 8 + (10 + 11) + (n * 60 + 400) ≤ (n + 1) * 60 + 400 by omega)⟩ rfl (rest := []) (st1 := [.int (b2i (ψ1 (A 4)))]) rfl rfl rfl dX6_is_5 ⟨Nat.zero_le _, Nat.zero_le _⟩ (fun H locs hw => ?_)
      cases hv : ψ1 (A 4) with
      | true =>
        refine lv_if_ne (tgt := 17) hx hb dX6_is_10 (by decide) (fun c => ?_) (fun c => ?_)
        · refine lv_iconst (v := (0:Int32)) hx hb dX6_is_17 (by decide) ?_
          exact d_iret E hr rfl hw (by simp [hv]) rfl dX6_is_18
        · exact absurd c (by decide)
      | false =>
        refine lv_if_ne (tgt := 17) hx hb dX6_is_10 (by decide) (fun c => ?_) (fun c => ?_)
        · exact absurd rfl c
        · refine lv_iconst (v := (1:Int32)) hx hb dX6_is_13 (by decide) ?_
          refine lv_goto (tgt := 18) hx hb dX6_is_14 (by decide) ?_
          exact d_iret E hr rfl hw (by simp [hv]) rfl dX6_is_18
    · subst h4
      refine ⟨7, 1, RX7, TX7, _, yX7_is, cX7_is, 2, rfl, h1.q, ?_, hF.at 5 rfl, q998, q1000, q156, q1002, by decide⟩
      refine MC.of (by decide) (Nat.le_of_ble_eq_true rfl) (lv := [(0, .ref a), (1, .ref (K.2.1 4))]) rfl (fun p e s m below meth c ls E hr hl hw => ?_)
      have hx := E.1
      have hb := E.2.1
      have hown := E.2.2.1
      have hts := E.2.2.2.2.1
      refine lv_aload_n hx hb dX7_is_0 rfl (lv_at hl 1 rfl) ?_
      refine lv_bipush (v := (8:Int32)) hx hb dX7_is_1 (by decide) ?_
      refine r_iald (j := 8) E hw (qi_4 hC).at (q_lit (k := 8) (n := 9) rfl rfl) (q_clamp (k := 8) rfl) dX7_is_3 ?_
      refine lv_aload_n hx hb dX7_is_4 rfl (lv_at hl 0 rfl) ?_
      refine r_get (v := .int k) E hw h1.q (T := TX7) (N := 1) rfl in_X7 0 (by decide) q604 rfl dX7_is_5 ?_
      have hh : f_X0_has (A 4 8) k = some (b2i (sHas (A 4 8) k)) := by
        unfold f_X0_has sHas b2i
        by_cases q : ((A 4 8 >>> (k &&& 31)) &&& 1) = 1
        · rw [if_pos q]; simp [q]
        · rw [if_neg q]; simp [q]
      refine d_SN (As := [.int (A 4 8), .int k]) (v0 := some (.int (b2i (sHas (A 4 8) k)))) hG E hw hl (m_X0_has l hG hC hh) ⟨va_cnB 2 hts (lw_meth q909) rfl rfl rfl (hG.2.2 s _ E.2.2.2.2.2.1 q1003 rfl) (hts _ q137) kd_X0_has ⟨(show 1 + 1 ≤ n + 1 + 6 by omega), (show 8 + (2 + 11) + 40 ≤ (n + 1) * 60 + 400 by omega)⟩, hts _ q908, trivial⟩ rfl (rest := []) (st1 := [.int (b2i (sHas (A 4 8) k))]) rfl rfl rfl dX7_is_8 ⟨Nat.zero_le _, Nat.zero_le _⟩ (fun H locs hw => ?_)
      exact d_iret E hr (b2i_nar _) hw rfl rfl dX7_is_11
    · subst h4
      refine ⟨8, 1, RX8, TX8, _, yX8_is, cX8_is, 4, rfl, h1.q, ?_, hF.at 6 rfl, q1005, q1007, q159, q1009, by decide⟩
      refine MC.of (by decide) (Nat.le_of_ble_eq_true rfl) (lv := [(0, .ref a), (1, .ref (K.2.1 4))]) rfl (fun p e s m below meth c ls E hr hl hw => ?_)
      have hx := E.1
      have hb := E.2.1
      have hown := E.2.2.1
      have hts := E.2.2.2.2.1
      refine lv_iconst (v := nI 0) hx hb dX8_is_0 (by decide) ?_
      refine lv_istore_n (lv' := [(2, .int (nI 0)), (0, .ref a), (1, .ref (K.2.1 4))]) hx hb dX8_is_1 rfl hl (by decide) rfl (fun ls hl => ?_)
      refine lv_iconst (v := nI 0) hx hb dX8_is_2 (by decide) ?_
      refine lv_istore_n (lv' := [(3, .int (nI 0)), (2, .int (nI 0)), (0, .ref a), (1, .ref (K.2.1 4))]) hx hb dX8_is_3 rfl hl (by decide) rfl (fun ls hl => ?_)
      refine w_count8 hG hC E h1 h2 (fun it q => ih _ _ _ (h3 it q)) (fun {H locs ls} hw hl => ?_) its 0 0 rfl (Nat.zero_le _) (by omega) hw (lv_sub hl [2, 3, 1, 0] rfl)
      have hcl := sCount_le (A 4) its
      obtain ⟨mo, ed, cap, g, u1, u2, u3, u4, u5⟩ := id h2
      have ulen : (its.map (fun it => it.1)).length = its.length := List.length_map _
      rw [ulen] at u1
      refine lv_iconst (v := nI 2) hx hb dX8_is_49 (by decide) ?_
      refine lv_iload_n hx hb dX8_is_50 rfl (lv_at hl 2 rfl) ?_
      refine lv_imul hx hb dX8_is_51 ?_
      refine r_nm (y := nI (2 * sCount (A 4) its)) (pk_mul _ _).symm ?_
      refine lv_aload_n hx hb dX8_is_52 rfl (lv_at hl 0 rfl) ?_
      refine r_get (v := .ref lm) E hw h1.q (T := TX8) (N := 1) rfl in_X8 0 (by decide) q684 rfl dX8_is_53 ?_
      refine d_V (As := []) (v0 := some (.int (nI its.length))) hG E hw hl (m_J2_size l u1.q) u1.q rfl (cwV 0 hts (lw_V q1010 q675 q676 q145 q677) rfl rfl rfl ⟨rfl, kd_J2_size⟩ ⟨(show 1 + 1 ≤ n + 1 + 6 by omega), (show 8 + (1 + 11) + 40 ≤ (n + 1) * 60 + 400 by omega)⟩) rfl (rest := [.int (nI (2 * sCount (A 4) its))]) (st1 := [.int (nI its.length), .int (nI (2 * sCount (A 4) its))]) rfl rfl rfl dX8_is_56 ⟨Nat.zero_le _, Nat.zero_le _⟩ (fun H locs hw => ?_)
      refine lv_icmp_le (tgt := 66) hx hb dX8_is_59 (by decide) (fun c => ?_) (fun c => ?_)
      · have c2 : 2 * sCount (A 4) its ≤ its.length := (nI_leI (by omega) (by omega)).mp c
        refine lv_iconst (v := (0:Int32)) hx hb dX8_is_66 (by decide) ?_
        exact d_iret E hr rfl hw (by simp; omega) rfl dX8_is_67
      · have c2 : ¬ 2 * sCount (A 4) its ≤ its.length := fun z => c ((nI_leI (by omega) (by omega)).mpr z)
        refine lv_iconst (v := (1:Int32)) hx hb dX8_is_62 (by decide) ?_
        refine lv_goto (tgt := 67) hx hb dX8_is_63 (by decide) ?_
        exact d_iret E hr rfl hw (by simp; omega) rfl dX8_is_67
    · subst h4
      refine ⟨13, 3, RX13, TX13, _, yX13_is, cX13_is, 4, rfl, h1.q, ?_, hF.at 7 rfl, q944, q946, q167, q948, by decide⟩
      refine MC.of (by decide) (Nat.le_of_ble_eq_true rfl) (lv := [(0, .ref a), (1, .ref (K.2.1 4))]) rfl (fun p e s m below meth c ls E hr hl hw => ?_)
      have hx := E.1
      have hb := E.2.1
      have hown := E.2.2.1
      have hts := E.2.2.2.2.1
      refine lv_aload_n hx hb dX13_is_0 rfl (lv_at hl 0 rfl) ?_
      refine r_get (v := .ref a1) E hw h1.q (T := TX13) (N := 3) rfl in_X13 1 (by decide) q797 rfl dX13_is_1 ?_
      refine lv_aload_n hx hb dX13_is_4 rfl (lv_at hl 1 rfl) ?_
      refine r_F hG E hw hl (m_sum l hG hF hC n a1 c1 φ1 h2) q950 kd_xSum ⟨(show n + 6 + 1 ≤ n + 1 + 6 by omega), (show 8 + (10 + 11) + (n * 60 + 400) ≤ (n + 1) * 60 + 400 by omega)⟩ rfl (rest := []) (st1 := [.long (φ1 (A 4))]) rfl rfl rfl dX13_is_5 ⟨Nat.zero_le _, Nat.zero_le _⟩ (fun H locs hw => ?_)
      refine lv_aload_n hx hb dX13_is_10 rfl (lv_at hl 0 rfl) ?_
      refine r_get (v := .ref b1) E hw h1.q (T := TX13) (N := 3) rfl in_X13 2 (by decide) q798 rfl dX13_is_11 ?_
      refine lv_aload_n hx hb dX13_is_14 rfl (lv_at hl 1 rfl) ?_
      refine r_F hG E hw hl (m_sum l hG hF hC n b1 c2 φ2 h3) q950 kd_xSum ⟨(show n + 6 + 1 ≤ n + 1 + 6 by omega), (show 8 + (10 + 11) + (n * 60 + 400) ≤ (n + 1) * 60 + 400 by omega)⟩ rfl (rest := [.long (φ1 (A 4))]) (st1 := [.long (φ2 (A 4)), .long (φ1 (A 4))]) rfl rfl rfl dX13_is_15 ⟨Nat.zero_le _, Nat.zero_le _⟩ (fun H locs hw => ?_)
      refine lv_lsub hx hb dX13_is_20 ?_
      generalize hdv : φ1 (A 4) - φ2 (A 4) = dv
      refine lv_lstore_n (lv' := [(2, .long dv), (0, .ref a), (1, .ref (K.2.1 4))]) hx hb dX13_is_21 rfl hl (by decide) rfl (fun ls hl => ?_)
      refine lv_aload_n hx hb dX13_is_22 rfl (lv_at hl 1 rfl) ?_
      refine r_get (v := .int g) E hw h1.q (T := TX13) (N := 3) rfl in_X13 0 (by decide) q796 rfl dX13_is_23 ?_
      rcases h5 with rfl | rfl | rfl | rfl | rfl | rfl
      · refine lv_lookup (off := 50) (tgt := 76) hx hb dX13_is_26 (by decide) (by decide) (by decide) ?_
        refine lv_lload_n hx hb dX13_is_76 rfl (lv_at hl 0 rfl) ?_
        refine lv_lconst (v := (0:Int64)) hx hb dX13_is_77 (by decide) ?_
        refine W.lcmp hx hb dX13_is_78 ?_
        refine lv_if_ge (tgt := 86) hx hb dX13_is_79 (by decide) (fun c => ?_) (fun c => ?_)
        · have c2 : (0:Int64) ≤ dv := (lg_cmp_ge _ _).mp c
          refine lv_iconst (v := (0:Int32)) hx hb dX13_is_86 (by decide) ?_
          exact d_iret E hr rfl hw (by simp [sCmp, hdv, c2, Int64.not_lt, Int64.not_le]) rfl dX13_is_87
        · have c2 : ¬ (0:Int64) ≤ dv := fun q => c ((lg_cmp_ge _ _).mpr q)
          refine lv_iconst (v := (1:Int32)) hx hb dX13_is_82 (by decide) ?_
          refine lv_goto (tgt := 87) hx hb dX13_is_83 (by decide) ?_
          exact d_iret E hr rfl hw (by simp [sCmp, hdv, c2, Int64.not_lt, Int64.not_le]) rfl dX13_is_87
      · refine lv_lookup (off := 62) (tgt := 88) hx hb dX13_is_26 (by decide) (by decide) (by decide) ?_
        refine lv_lload_n hx hb dX13_is_88 rfl (lv_at hl 0 rfl) ?_
        refine lv_lconst (v := (0:Int64)) hx hb dX13_is_89 (by decide) ?_
        refine W.lcmp hx hb dX13_is_90 ?_
        refine lv_if_le (tgt := 98) hx hb dX13_is_91 (by decide) (fun c => ?_) (fun c => ?_)
        · have c2 : dv ≤ (0:Int64) := (lg_cmp_le _ _).mp c
          refine lv_iconst (v := (0:Int32)) hx hb dX13_is_98 (by decide) ?_
          exact d_iret E hr rfl hw (by simp [sCmp, hdv, c2, Int64.not_lt, Int64.not_le]) rfl dX13_is_99
        · have c2 : ¬ dv ≤ (0:Int64) := fun q => c ((lg_cmp_le _ _).mpr q)
          refine lv_iconst (v := (1:Int32)) hx hb dX13_is_94 (by decide) ?_
          refine lv_goto (tgt := 99) hx hb dX13_is_95 (by decide) ?_
          exact d_iret E hr rfl hw (by simp [sCmp, hdv, c2, Int64.not_lt, Int64.not_le]) rfl dX13_is_99
      · refine lv_lookup (off := 74) (tgt := 100) hx hb dX13_is_26 (by decide) (by decide) (by decide) ?_
        refine lv_lload_n hx hb dX13_is_100 rfl (lv_at hl 0 rfl) ?_
        refine lv_lconst (v := (0:Int64)) hx hb dX13_is_101 (by decide) ?_
        refine W.lcmp hx hb dX13_is_102 ?_
        refine lv_if_ne (tgt := 110) hx hb dX13_is_103 (by decide) (fun c => ?_) (fun c => ?_)
        · have c2 : ¬ dv = 0 := fun q => c ((lg_cmp_eq _ _).mpr q)
          refine lv_iconst (v := (0:Int32)) hx hb dX13_is_110 (by decide) ?_
          exact d_iret E hr rfl hw (by simp [sCmp, hdv, c2, Int64.not_lt, Int64.not_le]) rfl dX13_is_111
        · have c2 : dv = 0 := (lg_cmp_eq _ _).mp c
          refine lv_iconst (v := (1:Int32)) hx hb dX13_is_106 (by decide) ?_
          refine lv_goto (tgt := 111) hx hb dX13_is_107 (by decide) ?_
          exact d_iret E hr rfl hw (by simp [sCmp, hdv, c2, Int64.not_lt, Int64.not_le]) rfl dX13_is_111
      · refine lv_lookup (off := 86) (tgt := 112) hx hb dX13_is_26 (by decide) (by decide) (by decide) ?_
        refine lv_lload_n hx hb dX13_is_112 rfl (lv_at hl 0 rfl) ?_
        refine lv_lconst (v := (0:Int64)) hx hb dX13_is_113 (by decide) ?_
        refine W.lcmp hx hb dX13_is_114 ?_
        refine lv_if_eq (tgt := 122) hx hb dX13_is_115 (by decide) (fun c => ?_) (fun c => ?_)
        · have c2 : dv = 0 := (lg_cmp_eq _ _).mp c
          refine lv_iconst (v := (0:Int32)) hx hb dX13_is_122 (by decide) ?_
          exact d_iret E hr rfl hw (by simp [sCmp, hdv, c2, Int64.not_lt, Int64.not_le]) rfl dX13_is_123
        · have c2 : ¬ dv = 0 := fun q => c ((lg_cmp_eq _ _).mpr q)
          refine lv_iconst (v := (1:Int32)) hx hb dX13_is_118 (by decide) ?_
          refine lv_goto (tgt := 123) hx hb dX13_is_119 (by decide) ?_
          exact d_iret E hr rfl hw (by simp [sCmp, hdv, c2, Int64.not_lt, Int64.not_le]) rfl dX13_is_123
      · refine lv_lookup (off := 98) (tgt := 124) hx hb dX13_is_26 (by decide) (by decide) (by decide) ?_
        refine lv_lload_n hx hb dX13_is_124 rfl (lv_at hl 0 rfl) ?_
        refine lv_lconst (v := (0:Int64)) hx hb dX13_is_125 (by decide) ?_
        refine W.lcmp hx hb dX13_is_126 ?_
        refine lv_if_gt (tgt := 134) hx hb dX13_is_127 (by decide) (fun c => ?_) (fun c => ?_)
        · have c2 : (0:Int64) < dv := (lg_cmp_gt _ _).mp c
          refine lv_iconst (v := (0:Int32)) hx hb dX13_is_134 (by decide) ?_
          exact d_iret E hr rfl hw (by simp [sCmp, hdv, c2, Int64.not_lt, Int64.not_le]) rfl dX13_is_135
        · have c2 : ¬ (0:Int64) < dv := fun q => c ((lg_cmp_gt _ _).mpr q)
          refine lv_iconst (v := (1:Int32)) hx hb dX13_is_130 (by decide) ?_
          refine lv_goto (tgt := 135) hx hb dX13_is_131 (by decide) ?_
          exact d_iret E hr rfl hw (by simp [sCmp, hdv, c2, Int64.not_lt, Int64.not_le]) rfl dX13_is_135
      · refine lv_lookup (off := 110) (tgt := 136) hx hb dX13_is_26 (by decide) (by decide) (by decide) ?_
        refine lv_lload_n hx hb dX13_is_136 rfl (lv_at hl 0 rfl) ?_
        refine lv_lconst (v := (0:Int64)) hx hb dX13_is_137 (by decide) ?_
        refine W.lcmp hx hb dX13_is_138 ?_
        refine lv_if_lt (tgt := 146) hx hb dX13_is_139 (by decide) (fun c => ?_) (fun c => ?_)
        · have c2 : dv < (0:Int64) := (lg_cmp_lt _ _).mp c
          refine lv_iconst (v := (0:Int32)) hx hb dX13_is_146 (by decide) ?_
          exact d_iret E hr rfl hw (by simp [sCmp, hdv, c2, Int64.not_lt, Int64.not_le]) rfl dX13_is_147
        · have c2 : ¬ dv < (0:Int64) := fun q => c ((lg_cmp_lt _ _).mpr q)
          refine lv_iconst (v := (1:Int32)) hx hb dX13_is_142 (by decide) ?_
          refine lv_goto (tgt := 147) hx hb dX13_is_143 (by decide) ?_
          exact d_iret E hr rfl hw (by simp [sCmp, hdv, c2, Int64.not_lt, Int64.not_le]) rfl dX13_is_147
    · subst h4
      have hlen : (it0 :: its).length = its.length + 1 := rfl
      refine ⟨14, 2, RX14, TX14, _, yX14_is, cX14_is, 4, rfl, h1.q, ?_, hF.at 8 rfl, q933, q935, q169, q937, by decide⟩
      refine MC.of (by decide) (Nat.le_of_ble_eq_true rfl) (lv := [(0, .ref a), (1, .ref (K.2.1 4))]) rfl (fun p e s m below meth c ls E hr hl hw => ?_)
      have hx := E.1
      have hb := E.2.1
      have hown := E.2.2.1
      have hts := E.2.2.2.2.1
      refine lv_iconst (v := nI 0) hx hb dX14_is_0 (by decide) ?_
      refine lv_istore_n (lv' := [(2, .int (nI 0)), (0, .ref a), (1, .ref (K.2.1 4))]) hx hb dX14_is_1 rfl hl (by decide) rfl (fun ls hl => ?_)
      refine lv_iconst (v := nI 0) hx hb dX14_is_2 (by decide) ?_
      refine lv_istore_n (lv' := [(3, .int (nI 0)), (2, .int (nI 0)), (0, .ref a), (1, .ref (K.2.1 4))]) hx hb dX14_is_3 rfl hl (by decide) rfl (fun ls hl => ?_)
      refine w_count14 hG hC E h1 h2 (fun it q => ih _ _ _ (h3 it q)) (fun {H locs ls} hw hl => ?_) (it0 :: its) 0 0 rfl (Nat.zero_le _) (by omega) hw (lv_sub hl [2, 3, 1, 0] rfl)
      have hcl := sCount_le (A 4) (it0 :: its)
      obtain ⟨mo, ed, cap, g, u1, u2, u3, u4, u5⟩ := id h2
      have ulen : ((it0 :: its).map (fun it => it.1)).length = (it0 :: its).length := List.length_map _
      rw [ulen] at u1 u3
      refine lv_aload_n hx hb dX14_is_49 rfl (lv_at hl 0 rfl) ?_
      refine r_get (v := .int z) E hw h1.q (T := TX14) (N := 2) rfl in_X14 0 (by decide) q825 rfl dX14_is_50 ?_
      refine lv_if_eq (tgt := 75) hx hb dX14_is_53 (by decide) (fun c => ?_) (fun c => ?_)
      · subst c
        refine lv_iload_n hx hb dX14_is_75 rfl (lv_at hl 2 rfl) ?_
        refine lv_if_le (tgt := 83) hx hb dX14_is_76 (by decide) (fun c => ?_) (fun c => ?_)
        · have c2 : sCount (A 4) (it0 :: its) ≤ 0 := (nI_leI (b := 0) (by omega) (by decide)).mp c
          refine lv_iconst (v := (0:Int32)) hx hb dX14_is_83 (by decide) ?_
          exact d_iret E hr rfl hw (by simp; omega) rfl dX14_is_84
        · have c2 : ¬ sCount (A 4) (it0 :: its) ≤ 0 := fun q => c ((nI_leI (b := 0) (by omega) (by decide)).mpr q)
          refine lv_iconst (v := (1:Int32)) hx hb dX14_is_79 (by decide) ?_
          refine lv_goto (tgt := 84) hx hb dX14_is_80 (by decide) ?_
          exact d_iret E hr rfl hw (by simp; omega) rfl dX14_is_84
      · have hz1 : z = 1 := hz.resolve_left c
        subst hz1
        refine lv_iload_n hx hb dX14_is_56 rfl (lv_at hl 2 rfl) ?_
        refine lv_aload_n hx hb dX14_is_57 rfl (lv_at hl 0 rfl) ?_
        refine r_get (v := .ref lm) E hw h1.q (T := TX14) (N := 2) rfl in_X14 1 (by decide) q826 rfl dX14_is_58 ?_
        refine d_V (As := []) (v0 := some (.int (nI (it0 :: its).length))) hG E hw hl (m_J2_size l u1.q) u1.q rfl (cwV 0 hts (lw_V q938 q675 q676 q145 q677) rfl rfl rfl ⟨rfl, kd_J2_size⟩ ⟨(show 1 + 1 ≤ n + 1 + 6 by omega), (show 8 + (1 + 11) + 40 ≤ (n + 1) * 60 + 400 by omega)⟩) rfl (rest := [.int (nI (sCount (A 4) (it0 :: its)))]) (st1 := [.int (nI (it0 :: its).length), .int (nI (sCount (A 4) (it0 :: its)))]) rfl rfl rfl dX14_is_61 ⟨Nat.zero_le _, Nat.zero_le _⟩ (fun H locs hw => ?_)
        refine lv_icmp_ne (tgt := 71) hx hb dX14_is_64 (by decide) (fun c => ?_) (fun c => ?_)
        · have c2 : ¬ sCount (A 4) (it0 :: its) = (it0 :: its).length := fun q => c (by rw [q])
          refine lv_iconst (v := (0:Int32)) hx hb dX14_is_71 (by decide) ?_
          refine lv_goto (tgt := 84) hx hb dX14_is_72 (by decide) ?_
          exact d_iret E hr rfl hw (show (0:Int32) = b2i (if (1:Int32) = 1 then decide (sCount (A 4) (it0 :: its) = (it0 :: its).length) else decide (0 < sCount (A 4) (it0 :: its))) by rw [if_pos rfl, decide_eq_false c2]; rfl) rfl dX14_is_84
        · have c2 : sCount (A 4) (it0 :: its) = (it0 :: its).length := (nI_eq (by omega) (by omega)).mp c
          refine lv_iconst (v := (1:Int32)) hx hb dX14_is_67 (by decide) ?_
          refine lv_goto (tgt := 84) hx hb dX14_is_68 (by decide) ?_
          exact d_iret E hr rfl hw (show (1:Int32) = b2i (if (1:Int32) = 1 then decide (sCount (A 4) (it0 :: its) = (it0 :: its).length) else decide (0 < sCount (A 4) (it0 :: its))) by rw [if_pos rfl, decide_eq_true c2]; rfl) rfl dX14_is_84
    · subst h4
      refine ⟨15, 2, RX15, TX15, _, yX15_is, cX15_is, 4, rfl, h1.q, ?_, hF.at 9 rfl, q1024, q1026, q170, q1028, by decide⟩
      refine MC.of (by decide) (Nat.le_of_ble_eq_true rfl) (lv := [(0, .ref a), (1, .ref (K.2.1 4))]) rfl (fun p e s m below meth c ls E hr hl hw => ?_)
      have hx := E.1
      have hb := E.2.1
      have hown := E.2.2.1
      have hts := E.2.2.2.2.1
      refine lv_aload_n hx hb dX15_is_0 rfl (lv_at hl 0 rfl) ?_
      refine r_get (v := .ref a1) E hw h1.q (T := TX15) (N := 2) rfl in_X15 0 (by decide) q838 rfl dX15_is_1 ?_
      refine lv_aload_n hx hb dX15_is_4 rfl (lv_at hl 1 rfl) ?_
      refine r_F hG E hw hl (ih a1 c1 ψ1 h2) q1030 kd_xAsk ⟨(show n + 6 + 1 ≤ n + 1 + 6 by omega), (show 8 + (10 + 11) + (n * 60 + 400) ≤ (n + 1) * 60 + 400 by omega)⟩ rfl (rest := []) (st1 := [.int (b2i (ψ1 (A 4)))]) rfl rfl rfl dX15_is_5 ⟨Nat.zero_le _, Nat.zero_le _⟩ (fun H locs hw => ?_)
      refine lv_istore_n (lv' := [(2, .int (b2i (ψ1 (A 4)))), (0, .ref a), (1, .ref (K.2.1 4))]) hx hb dX15_is_10 rfl hl (by decide) rfl (fun ls hl => ?_)
      refine lv_aload_n hx hb dX15_is_11 rfl (lv_at hl 1 rfl) ?_
      refine r_get (v := .ref b1) E hw h1.q (T := TX15) (N := 2) rfl in_X15 1 (by decide) q839 rfl dX15_is_12 ?_
      refine lv_aload_n hx hb dX15_is_15 rfl (lv_at hl 2 rfl) ?_
      refine r_F hG E hw hl (ih b1 c2 ψ2 h3) q1030 kd_xAsk ⟨(show n + 6 + 1 ≤ n + 1 + 6 by omega), (show 8 + (10 + 11) + (n * 60 + 400) ≤ (n + 1) * 60 + 400 by omega)⟩ rfl (rest := []) (st1 := [.int (b2i (ψ2 (A 4)))]) rfl rfl rfl dX15_is_16 ⟨Nat.zero_le _, Nat.zero_le _⟩ (fun H locs hw => ?_)
      refine lv_istore_n (lv' := [(3, .int (b2i (ψ2 (A 4)))), (2, .int (b2i (ψ1 (A 4)))), (0, .ref a), (1, .ref (K.2.1 4))]) hx hb dX15_is_21 rfl hl (by decide) rfl (fun ls hl => ?_)
      refine lv_iload_n hx hb dX15_is_22 rfl (lv_at hl 1 rfl) ?_
      refine lv_if_eq (tgt := 34) hx hb dX15_is_23 (by decide) (fun c => ?_) (fun c => ?_)
      · have c1 : ψ1 (A 4) = false := by
          cases hv : ψ1 (A 4) with
          | false => rfl
          | true => rw [hv] at c; exact absurd c (by decide)
        refine lv_iconst (v := (0:Int32)) hx hb dX15_is_34 (by decide) ?_
        exact d_iret E hr rfl hw (by simp [c1]) rfl dX15_is_35
      · have c1 : ψ1 (A 4) = true := by
          cases hv : ψ1 (A 4) with
          | true => rfl
          | false => rw [hv] at c; exact absurd rfl c
        refine lv_iload_n hx hb dX15_is_26 rfl (lv_at hl 0 rfl) ?_
        refine lv_if_ne (tgt := 34) hx hb dX15_is_27 (by decide) (fun c => ?_) (fun c => ?_)
        · have c2 : ψ2 (A 4) = true := by
            cases hv : ψ2 (A 4) with
            | true => rfl
            | false => rw [hv] at c; exact absurd rfl c
          refine lv_iconst (v := (0:Int32)) hx hb dX15_is_34 (by decide) ?_
          exact d_iret E hr rfl hw (by simp [c1, c2]) rfl dX15_is_35
        · have c2 : ψ2 (A 4) = false := by
            cases hv : ψ2 (A 4) with
            | false => rfl
            | true => rw [hv] at c; exact absurd c (by decide)
          refine lv_iconst (v := (1:Int32)) hx hb dX15_is_30 (by decide) ?_
          refine lv_goto (tgt := 35) hx hb dX15_is_31 (by decide) ?_
          exact d_iret E hr rfl hw (by simp [c1, c2]) rfl dX15_is_35
