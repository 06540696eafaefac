/-! clause, read: walks (printed) -/
set_option maxRecDepth 100000
theorem kd_X3_clause : yX3_clause.cls ≠ "java/lang/invoke/MethodHandle" ∧ yX3_clause.cls ≠ "java/lang/invoke/VarHandle" ∧ (parseMethodDescriptor yX3_clause.desc).map (fun d => d.parameters.length) = some 1 := by decide +kernel
theorem kd_X3_code : yX3_code.cls ≠ "java/lang/invoke/MethodHandle" ∧ yX3_code.cls ≠ "java/lang/invoke/VarHandle" ∧ (parseMethodDescriptor yX3_code.desc).map (fun d => d.parameters.length) = some 1 := by decide +kernel
theorem kd_X3_doing : yX3_doing.cls ≠ "java/lang/invoke/MethodHandle" ∧ yX3_doing.cls ≠ "java/lang/invoke/VarHandle" ∧ (parseMethodDescriptor yX3_doing.desc).map (fun d => d.parameters.length) = some 1 := by decide +kernel
theorem kd_X4_init : yX4_init.cls ≠ "java/lang/invoke/MethodHandle" ∧ yX4_init.cls ≠ "java/lang/invoke/VarHandle" ∧ (parseMethodDescriptor yX4_init.desc).map (fun d => d.parameters.length) = some 0 := by decide +kernel
/-- an answer: a text's cell -/
def VT (K : QK) (G : State → Prop) (M : QM) : QM → QT → Option Value → Prop := fun M' tt v => ∃ a, v = some (.ref a) ∧ TextAt K G M' a tt ∧ M a = none ∧ ∃ fs, M' a = some (.inr (4, fs))
set_option maxHeartbeats 16000000 in
theorem m_X3_clause (l : Launch) {K : QK} {G : State → Prop} {A B : QA} {L : QL} {X : QX} {M M0 F : QM} {n : Nat} {y : QY} {t : QTS} {ea mi ic : Nat} {ib : Nat → Nat} {a ca da ed k : Nat} {tt : QT} {r : PR QT} (hG : QG G) (hC : QCl K) (h13 : ql K 13) (hS : QSt K G y) (hWr : QWr K G) (hlst : l.stackTraces = false) (hn : n ≤ 300) (hLs : QLs K G ea mi) (hI : QIc K G ic ib) (hrd : RdS K ea M0 F M a ca da ed tt k) (hds : tt.2.2.2.2.2.length < 24) (ht : t.1 ≤ n) (ho : t.2.2.2.2.1 ≤ 8) (h : sClause (A 3) n tt k t = some r) :
    MPw l K G yX3_clause (ws_ yX3_clause cX3_clause 2 none) 86 3660 [.ref (K.2.1 13), .ref a] A B L X M M0 n t r (VR K ea M0 a ca da k) := by
  refine MX.of (by decide) (Nat.le_of_ble_eq_true rfl) (lv := [(0, .ref (K.2.1 13)), (1, .ref a)]) rfl (fun p e s m below meth c ls E hr hnt hl hw => ?_)
  have hx := E.1
  have hb := E.2.1
  have hown := E.2.2.1
  have hts := E.2.2.2.2.1
  unfold sClause at h
  obtain ⟨cf, ve, bl, se, fo, xs, hrd⟩ := hrd
  refine lv_aload_n hx hb dX3_clause_0 rfl (lv_at hl 0 rfl) ?_
  refine r_gKind E hw hC h13 q320 dX3_clause_1 ?_
  have hz0 : r = padd 0 r := padd_0.symm
  have tab : ∀ (v : Int32) (off : Int) (tgt : Nat), t.2.2.2.2.2 = v → ¬ v.toInt < 200 → ¬ 204 < v.toInt → (#[36, 44, 55, 66, 77] : Array Int)[(v.toInt - 200).toNat]? = some off → ((4 : Nat) : Int) + off = (tgt : Int) → W p l e (pR 86 3660 r) s m #[.ref (K.2.1 13), .ref a] below meth c s.heap [] 0 0 (PQ below K A B L X n M0 (VR K ea M0 a ca da k) #[.ref (K.2.1 13), .ref a] s r) (F0 m tgt ls []) → W p l e (pR 86 3660 r) s m #[.ref (K.2.1 13), .ref a] below meth c s.heap [] 0 0 (PQ below K A B L X n M0 (VR K ea M0 a ca da k) #[.ref (K.2.1 13), .ref a] s r) (F0 m 4 ls [.int t.2.2.2.2.2]) := by
    intro v off tgt hv h1 h2 h3 h4 kk
    rw [hv]
    exact lv_tableIn hx hb dX3_clause_4 h1 h2 h3 h4 kk
  by_cases c1 : t.2.2.2.2.2 = 200
  · rw [if_pos c1] at h
    refine tab 200 36 40 c1 (by decide) (by decide) rfl (by decide) ?_
    refine lv_aload_n hx hb dX3_clause_40 rfl (lv_at hl 0 rfl) ?_
    refine lv_aload_n hx hb dX3_clause_41 rfl (lv_at hl 1 rfl) ?_
    refine c_Bw (c0 := 0) (M1 := M0) (k := fun a t => some (.inr (a, t, 0))) (z := r) (As := [.ref a]) (rest := []) (V1 := VR K ea M0 a ca da k) hG E hnt hw h13 QExt.refl (pbo_id h) hz0 (Nat.le_refl _) (Nat.le_refl _) (fun r1 h1 => m_X3_code l hG hC h13 hS hWr hlst hn hLs hI ⟨cf, ve, bl, se, fo, xs, hrd⟩ ht ho h1) (fun r1 => (cwV 1 hts (lw_V q547 q549 qs6 q141 q550) rfl rfl rfl ⟨rfl, kd_X3_code⟩ ⟨Nat.le_of_ble_eq_true rfl, Nat.le_of_ble_eq_true rfl⟩)) hl rfl rfl rfl dX3_clause_42 (fun u t1 cst v M1 H locs y1 ho1 h hz hc hs hx1 hV hw => ?_)
    have hV9 := hV
    obtain ⟨rfl, F1, ed1, cf1, ve1, bl1, se1, fo1, xs1, hrd1⟩ := hV
    refine W.eq (g2 := F0 m 45 ls []) rfl ?_
    have h := Option.some.inj h
    subst h
    refine lv_goto (tgt := 108) hx hb dX3_clause_45 (by decide) ?_
    exact p_ret (c0 := 0 + cst) (c1 := 0) E hr hz (by omega) (by omega) hrd1.1.1 hV9 hw dX3_clause_108
  rw [if_neg c1] at h
  by_cases c2 : t.2.2.2.2.2 = 201
  · rw [if_pos c2] at h
    refine tab 201 44 48 c2 (by decide) (by decide) rfl (by decide) ?_
    refine lv_aload_n hx hb dX3_clause_48 rfl (lv_at hl 1 rfl) ?_
    refine lv_aload_n hx hb dX3_clause_49 rfl (lv_at hl 0 rfl) ?_
    refine c_B (c0 := 0) (As := []) (rest := [.ref a]) (V1 := VS K 20 M) hG E hnt hw h13 hrd.1.1 h hz0 (Nat.le_refl _) (Nat.le_refl _) (fun r1 h1 => m_X3_sum l hG hC h13 hS hWr hlst hn hLs hI ht ho h1) (fun r1 => (cwV 0 hts (lw_V q688 q690 qs19 q141 q691) rfl rfl rfl ⟨rfl, kd_X3_sum⟩ ⟨Nat.le_of_ble_eq_true rfl, Nat.le_of_ble_eq_true rfl⟩)) hl rfl rfl rfl dX3_clause_50 (fun u t1 cst v M1 H locs y1 ho1 h hz hc hs hx1 hV hw => ?_)
    obtain ⟨x, rfl, hT⟩ := hV
    refine W.eq (g2 := F0 m 53 ls [.ref x, .ref a]) rfl ?_
    have h := Option.some.inj h
    subst h
    have hrd1 := hrd.call hx1
    have hTF := SumAt.ext (qfr_new (F := F)) _ _ _ _ hT
    refine r_putDN hG E hw hrd1.2.1 (T := TX4) (N := 7) rfl in_X4 tyX4 tyX4_ok nmX4 1 (by decide) q379 rfl rfl rfl (show 1 < 7 by decide) dX3_clause_53 (fun H locs hw => ?_)
    have hw : WP K (tw A n t1, B, L, X, va_up M1 a (some (.inr (4, [.ref ca, .ref x, bl, se, fo, .int (nI k), .ref da])))) H locs := hw
    refine lv_goto (tgt := 108) hx hb dX3_clause_56 (by decide) ?_
    have hrd2 := hrd1.obj (tt' := (tt.1, some u, tt.2.2)) (ve' := .ref x) (bl' := bl) (se' := se) (fo' := fo) (k' := k) rfl rfl (Or.inr ⟨x, u, rfl, rfl, hTF.le (show 20 ≤ tD by decide)⟩) hrd1.2.2.2.2.2.1.2.2.1 hrd1.2.2.2.2.2.1.2.2.2.1 hrd1.2.2.2.2.2.1.2.2.2.2 hrd.2.2.2.2.2.2.2.2.2
    exact p_ret (c0 := 0 + cst) (c1 := 0) E hr hz (by omega) (by omega) hrd2.1.1 ⟨rfl, _, ed, cf, _, _, _, _, xs, hrd2⟩ hw dX3_clause_108
  rw [if_neg c2] at h
  by_cases c3 : t.2.2.2.2.2 = 202
  · rw [if_pos c3] at h
    refine tab 202 55 59 c3 (by decide) (by decide) rfl (by decide) ?_
    refine lv_aload_n hx hb dX3_clause_59 rfl (lv_at hl 1 rfl) ?_
    refine lv_aload_n hx hb dX3_clause_60 rfl (lv_at hl 0 rfl) ?_
    refine c_B (c0 := 0) (As := []) (rest := [.ref a]) (V1 := VS K 20 M) hG E hnt hw h13 hrd.1.1 h hz0 (Nat.le_refl _) (Nat.le_refl _) (fun r1 h1 => m_X3_sum l hG hC h13 hS hWr hlst hn hLs hI ht ho h1) (fun r1 => (cwV 0 hts (lw_V q688 q690 qs19 q141 q691) rfl rfl rfl ⟨rfl, kd_X3_sum⟩ ⟨Nat.le_of_ble_eq_true rfl, Nat.le_of_ble_eq_true rfl⟩)) hl rfl rfl rfl dX3_clause_61 (fun u t1 cst v M1 H locs y1 ho1 h hz hc hs hx1 hV hw => ?_)
    obtain ⟨x, rfl, hT⟩ := hV
    refine W.eq (g2 := F0 m 64 ls [.ref x, .ref a]) rfl ?_
    have h := Option.some.inj h
    subst h
    have hrd1 := hrd.call hx1
    have hTF := SumAt.ext (qfr_new (F := F)) _ _ _ _ hT
    refine r_putDN hG E hw hrd1.2.1 (T := TX4) (N := 7) rfl in_X4 tyX4 tyX4_ok nmX4 2 (by decide) q381 rfl rfl rfl (show 2 < 7 by decide) dX3_clause_64 (fun H locs hw => ?_)
    have hw : WP K (tw A n t1, B, L, X, va_up M1 a (some (.inr (4, [.ref ca, ve, .ref x, se, fo, .int (nI k), .ref da])))) H locs := hw
    refine lv_goto (tgt := 108) hx hb dX3_clause_67 (by decide) ?_
    have hrd2 := hrd1.obj (tt' := (tt.1, tt.2.1, some u, tt.2.2.2)) (ve' := ve) (bl' := .ref x) (se' := se) (fo' := fo) (k' := k) rfl rfl hrd1.2.2.2.2.2.1.2.1 (Or.inr ⟨x, u, rfl, rfl, hTF.le (show 20 ≤ tD by decide)⟩) hrd1.2.2.2.2.2.1.2.2.2.1 hrd1.2.2.2.2.2.1.2.2.2.2 hrd.2.2.2.2.2.2.2.2.2
    exact p_ret (c0 := 0 + cst) (c1 := 0) E hr hz (by omega) (by omega) hrd2.1.1 ⟨rfl, _, ed, cf, _, _, _, _, xs, hrd2⟩ hw dX3_clause_108
  rw [if_neg c3] at h
  by_cases c4 : t.2.2.2.2.2 = 203
  · rw [if_pos c4] at h
    refine tab 203 66 70 c4 (by decide) (by decide) rfl (by decide) ?_
    refine lv_aload_n hx hb dX3_clause_70 rfl (lv_at hl 1 rfl) ?_
    refine lv_aload_n hx hb dX3_clause_71 rfl (lv_at hl 0 rfl) ?_
    refine c_B (c0 := 0) (As := []) (rest := [.ref a]) (V1 := VA K 50 M) hG E hnt hw h13 hrd.1.1 h hz0 (Nat.le_refl _) (Nat.le_refl _) (fun r1 h1 => m_X3_whole l hG hC h13 hS hWr hlst hn hLs hI ht ho h1) (fun r1 => (cwV 0 hts (lw_V q559 q561 qs9 q141 q562) rfl rfl rfl ⟨rfl, kd_X3_whole⟩ ⟨Nat.le_of_ble_eq_true rfl, Nat.le_of_ble_eq_true rfl⟩)) hl rfl rfl rfl dX3_clause_72 (fun u t1 cst v M1 H locs y1 ho1 h hz hc hs hx1 hV hw => ?_)
    obtain ⟨x, rfl, hT⟩ := hV
    refine W.eq (g2 := F0 m 75 ls [.ref x, .ref a]) rfl ?_
    have h := Option.some.inj h
    subst h
    have hrd1 := hrd.call hx1
    have hTF := AskAt.ext (qfr_new (F := F)) _ _ _ _ hT
    refine r_putDN hG E hw hrd1.2.1 (T := TX4) (N := 7) rfl in_X4 tyX4 tyX4_ok nmX4 4 (by decide) q385 rfl rfl rfl (show 4 < 7 by decide) dX3_clause_75 (fun H locs hw => ?_)
    have hw : WP K (tw A n t1, B, L, X, va_up M1 a (some (.inr (4, [.ref ca, ve, bl, se, .ref x, .int (nI k), .ref da])))) H locs := hw
    refine lv_goto (tgt := 108) hx hb dX3_clause_78 (by decide) ?_
    have hrd2 := hrd1.obj (tt' := (tt.1, tt.2.1, tt.2.2.1, tt.2.2.2.1, some u, tt.2.2.2.2.2)) (ve' := ve) (bl' := bl) (se' := se) (fo' := .ref x) (k' := k) rfl rfl hrd1.2.2.2.2.2.1.2.1 hrd1.2.2.2.2.2.1.2.2.1 hrd1.2.2.2.2.2.1.2.2.2.1 (Or.inr ⟨x, u, rfl, rfl, hTF.le (show 50 ≤ tD by decide)⟩) hrd.2.2.2.2.2.2.2.2.2
    exact p_ret (c0 := 0 + cst) (c1 := 0) E hr hz (by omega) (by omega) hrd2.1.1 ⟨rfl, _, ed, cf, _, _, _, _, xs, hrd2⟩ hw dX3_clause_108
  rw [if_neg c4] at h
  by_cases c5 : t.2.2.2.2.2 = 204
  · rw [if_pos c5] at h
    refine tab 204 77 81 c5 (by decide) (by decide) rfl (by decide) ?_
    refine lv_aload_n hx hb dX3_clause_81 rfl (lv_at hl 1 rfl) ?_
    refine lv_aload_n hx hb dX3_clause_82 rfl (lv_at hl 0 rfl) ?_
    refine c_B (c0 := 0) (As := []) (rest := [.ref a]) (V1 := VS K 20 M) hG E hnt hw h13 hrd.1.1 h hz0 (Nat.le_refl _) (Nat.le_refl _) (fun r1 h1 => m_X3_sum l hG hC h13 hS hWr hlst hn hLs hI ht ho h1) (fun r1 => (cwV 0 hts (lw_V q688 q690 qs19 q141 q691) rfl rfl rfl ⟨rfl, kd_X3_sum⟩ ⟨Nat.le_of_ble_eq_true rfl, Nat.le_of_ble_eq_true rfl⟩)) hl rfl rfl rfl dX3_clause_83 (fun u t1 cst v M1 H locs y1 ho1 h hz hc hs hx1 hV hw => ?_)
    obtain ⟨x, rfl, hT⟩ := hV
    refine W.eq (g2 := F0 m 86 ls [.ref x, .ref a]) rfl ?_
    have h := Option.some.inj h
    subst h
    have hrd1 := hrd.call hx1
    have hTF := SumAt.ext (qfr_new (F := F)) _ _ _ _ hT
    refine r_putDN hG E hw hrd1.2.1 (T := TX4) (N := 7) rfl in_X4 tyX4 tyX4_ok nmX4 3 (by decide) q383 rfl rfl rfl (show 3 < 7 by decide) dX3_clause_86 (fun H locs hw => ?_)
    have hw : WP K (tw A n t1, B, L, X, va_up M1 a (some (.inr (4, [.ref ca, ve, bl, .ref x, fo, .int (nI k), .ref da])))) H locs := hw
    refine lv_goto (tgt := 108) hx hb dX3_clause_89 (by decide) ?_
    have hrd2 := hrd1.obj (tt' := (tt.1, tt.2.1, tt.2.2.1, some u, tt.2.2.2.2)) (ve' := ve) (bl' := bl) (se' := .ref x) (fo' := fo) (k' := k) rfl rfl hrd1.2.2.2.2.2.1.2.1 hrd1.2.2.2.2.2.1.2.2.1 (Or.inr ⟨x, u, rfl, rfl, hTF.le (show 20 ≤ tD by decide)⟩) hrd1.2.2.2.2.2.1.2.2.2.2 hrd.2.2.2.2.2.2.2.2.2
    exact p_ret (c0 := 0 + cst) (c1 := 0) E hr hz (by omega) (by omega) hrd2.1.1 ⟨rfl, _, ed, cf, _, _, _, _, xs, hrd2⟩ hw dX3_clause_108
  rw [if_neg c5] at h
  have go : W p l e (pR 86 3660 r) s m #[.ref (K.2.1 13), .ref a] below meth c s.heap [] 0 0 (PQ below K A B L X n M0 (VR K ea M0 a ca da k) #[.ref (K.2.1 13), .ref a] s r) (F0 m 92 ls []) := by
    refine lv_aload_n hx hb dX3_clause_92 rfl (lv_at hl 1 rfl) ?_
    refine r_getN hG E hw (QAt.dyn hrd.2.1) (T := TX4) (N := 7) rfl in_X4 6 (by omega) q389 rfl dX3_clause_93 ?_
    refine lv_aload_n hx hb dX3_clause_96 rfl (lv_at hl 0 rfl) ?_
    refine lv_aload_n hx hb dX3_clause_97 rfl (lv_at hl 1 rfl) ?_
    refine r_getN hG E hw (QAt.dyn hrd.2.1) (T := TX4) (N := 7) rfl in_X4 5 (by omega) q387 rfl dX3_clause_98 ?_
    refine c_B (c0 := 0) (As := [.int (nI k)]) (rest := [.ref da]) (V1 := VD K M) hG E hnt hw h13 hrd.1.1 h hz0 (Nat.le_refl _) (Nat.le_refl _) (fun r1 h1 => m_X3_doing l hG hC h13 hS hWr hlst hn ht h1) (fun r1 => (cwV 1 hts (lw_V q845 q847 qs24 q141 q848) rfl rfl rfl ⟨rfl, kd_X3_doing⟩ ⟨Nat.le_of_ble_eq_true rfl, Nat.le_of_ble_eq_true rfl⟩)) hl rfl rfl rfl dX3_clause_101 (fun u t1 cst v M1 H locs y1 ho1 h hz hc hs hx1 hV hw => ?_)
    obtain ⟨x, rfl, hT⟩ := hV
    refine W.eq (g2 := F0 m 104 ls [.ref x, .ref da]) rfl ?_
    have h := Option.some.inj h
    subst h
    have hrd1 := hrd.call hx1
    have hTF := hT.ext (qfr_new (F := F))
    have hxl : xs.length = tt.2.2.2.2.2.length := hrd.2.2.2.2.2.2.1
    have hp : pc_ r = 0 + cst + addCost tt.2.2.2.2.2.length := by rw [hz]; rfl
    obtain ⟨mo, hda, -⟩ := id hrd1.2.2.2.1
    have hel : ∀ z ∈ xs, ElO K M1 z := by
      intro z hz9
      obtain ⟨i, hi⟩ := List.getElem?_of_mem hz9
      have hi2 : i < tt.2.2.2.2.2.length := by rw [← hxl]; exact (List.getElem?_eq_some_iff.mp hi).1
      exact ⟨16, 5, RX16, TX16, _, rfl, (hrd1.2.2.2.2.2.2.2.1 i z _ hi (List.getElem?_eq_getElem hi2)).ext hrd1.1.2.1, q2045⟩
    refine c_V (As := [.ref x]) (rest := []) hG E hw (m_J2_add l hG hLs hrd1.2.2.2.1 (by omega) hel ⟨16, 5, RX16, TX16, _, rfl, hTF.ext hrd1.1.2.1, q2045⟩) (QAt.dyn hda) rfl (cwV 1 hts (lw_V q612 q613 q614 q145 q615) rfl rfl rfl ⟨rfl, kd_J2_add⟩ ⟨Nat.le_of_ble_eq_true rfl, Nat.le_of_ble_eq_true rfl⟩) hl rfl rfl (Nat.le_of_ble_eq_true rfl) dX3_clause_104 ⟨(show 0 + cst + addCost xs.length ≤ pc_ r by rw [hxl]; omega), (show 0 + 12 * cst + 12 * addCost xs.length ≤ 12 * pc_ r by rw [hxl]; omega)⟩ (fun v w' H locs hP9 hw => ?_)
    obtain ⟨ed', M2, rfl, rfl, a2, a5, a7⟩ := hP9
    refine W.eq (g2 := F0 m 107 ls [.int 1]) rfl ?_
    refine lv_pop hx hb dX3_clause_107 rfl ?_
    have hrd2 := hrd1.doing hTF a2 a5 a7 (by omega)
    exact p_ret (c0 := 0 + cst) (c1 := addCost tt.2.2.2.2.2.length) E hr hz (by rw [hxl]; omega) (by rw [hxl]; omega) hrd2.1.1 ⟨rfl, _, ed', cf, ve, bl, se, fo, _, hrd2⟩ hw dX3_clause_108
  refine lv_tableOut (tgt := 92) hx hb dX3_clause_4 ?_ (by decide) go
  have m1 : t.2.2.2.2.2.toInt ≠ 200 := qne32 (y := 200) c1
  have m2 : t.2.2.2.2.2.toInt ≠ 201 := qne32 (y := 201) c2
  have m3 : t.2.2.2.2.2.toInt ≠ 202 := qne32 (y := 202) c3
  have m4 : t.2.2.2.2.2.toInt ≠ 203 := qne32 (y := 203) c4
  have m5 : t.2.2.2.2.2.toInt ≠ 204 := qne32 (y := 204) c5
  omega
set_option maxHeartbeats 16000000 in
theorem wl_X3_read {p : Program} {l : Launch} {e : Env} {s : State} {m : MethodId} {below : List Frame} {meth : Method} {c : Code} {K : QK} {G : State → Prop} {A B : QA} {L : QL} {X : QX} {M0 : QM} {n : Nat} {y : QY} {ea mi ic : Nat} {ib : Nat → Nat} {a ca da : Nat} {r : PR QT} (hG : QG G) (hC : QCl K) (h13 : ql K 13) (hS : QSt K G y) (hWr : QWr K G) (hlst : l.stackTraces = false) (hn : n ≤ 300) (hLs : QLs K G ea mi) (hI : QIc K G ic ib)
    (E : EV K G p s m #[.ref (K.2.1 13)] meth c cX3_read RX3 2) (hr : meth.sig.returnType = some (.object "VaneCourt$Text")) (hnt : ∀ x ∈ c.exceptionTable.toList, False) :
    ∀ (f : Nat) (ed k : Nat) (tt : QT) (F M : QM) (t : QTS) (z : PR QT) (c0 : Nat), tt.2.2.2.2.2.length ≤ k → sReadL (A 3) n f tt k t = some z → r = padd c0 z → t.1 ≤ n → t.2.2.2.2.1 ≤ 8 → RdS K ea M0 F M a ca da ed tt k →
    ∀ {H : Heap} {locs : List Loc} {ls : Array Slot} {cells slots : Nat}, cells ≤ c0 → slots ≤ 12 * c0 → WP K (tw A n t, B, L, X, M) H locs → lv_has ls 2 [(1, .ref a), (0, .ref (K.2.1 13))] → W p l e (pR 87 3700 r) s m #[.ref (K.2.1 13)] below meth c H locs cells slots (PQ below K A B L X n M0 (VT K G M0) #[.ref (K.2.1 13)] s r) (F0 m 12 ls []) := by
  have hx := E.1
  have hb := E.2.1
  have hown := E.2.2.1
  have hts := E.2.2.2.2.1
  intro f
  induction f with
  | zero => intro ed k tt F M t z c0 _ h; cases h
  | succ f ih =>
    intro ed k tt F M t z c0 hdk h hz ht ho hrd H locs ls cells slots hc hs hw hl
    obtain ⟨cf, ve, bl, se, fo, xs, hrd⟩ := hrd
    have hle : c0 ≤ pc_ r := by rw [hz, pc_add]; exact Nat.le_add_right _ _
    rw [sReadL] at h
    refine lv_aload_n hx hb dX3_read_12 rfl (lv_at hl 1 rfl) ?_
    refine r_gSort E hw hC h13 q317 dX3_read_13 ?_
    refine lv_sipush (v := (301:Int32)) hx hb dX3_read_16 (by decide) ?_
    refine lv_icmp_eq (tgt := 174) hx hb dX3_read_19 (by decide) (fun c1 => ?_) (fun c1 => ?_)
    · rw [if_pos c1] at h
      have h := Option.some.inj h
      subst h
      refine lv_aload_n hx hb dX3_read_174 rfl (lv_at hl 0 rfl) ?_
      exact p_aret (a := tt) (c0 := c0) (c1 := 0) E hr (Or.inl ⟨_, rfl⟩) hz (by omega) (by omega) hrd.1.1 ⟨a, rfl, hrd.text, hrd.2.2.2.2.1.1.2, _, hrd.2.1⟩ hw dX3_read_175
    rw [if_neg c1] at h
    have bad : (t.2.2.1 < 200 ∨ 211 < t.2.2.1) → W p l e (pR 87 3700 r) s m #[.ref (K.2.1 13)] below meth c H locs cells slots (PQ below K A B L X n M0 (VT K G M0) #[.ref (K.2.1 13)] s r) (F0 m 42 ls []) := by
      intro c2
      rw [if_pos c2] at h
      have h := Option.some.inj h
      subst h
      refine lv_aload_n hx hb dX3_read_42 rfl (lv_at hl 1 rfl) ?_
      refine lv_iconst (v := (1:Int32)) hx hb dX3_read_43 (by decide) ?_
      exact p_throw hG hC h13 hWr hlst E hnt hw hl hrd.1.1 hz hc hs (cwV 1 hts (lw_V q475 q477 qs3 q141 q478) rfl rfl rfl ⟨rfl, kd_X3_wrong⟩ ⟨Nat.le_of_ble_eq_true rfl, Nat.le_of_ble_eq_true rfl⟩) rfl dX3_read_44 dX3_read_47
    refine lv_aload_n hx hb dX3_read_22 rfl (lv_at hl 1 rfl) ?_
    refine r_gSort E hw hC h13 q317 dX3_read_23 ?_
    refine lv_sipush (v := (200:Int32)) hx hb dX3_read_26 (by decide) ?_
    refine lv_icmp_lt (tgt := 42) hx hb dX3_read_29 (by decide) (fun c2 => ?_) (fun c2 => ?_)
    · exact bad (Or.inl c2)
    refine lv_aload_n hx hb dX3_read_32 rfl (lv_at hl 1 rfl) ?_
    refine r_gSort E hw hC h13 q317 dX3_read_33 ?_
    refine lv_sipush (v := (211:Int32)) hx hb dX3_read_36 (by decide) ?_
    refine lv_icmp_le (tgt := 48) hx hb dX3_read_39 (by decide) (fun c3 => ?_) (fun c3 => ?_)
    rotate_left
    · exact bad (Or.inr (Int32.not_le.mp c3))
    rw [if_neg (fun q => q.elim c2 (Int32.not_lt.mpr c3))] at h
    refine lv_aload_n hx hb dX3_read_48 rfl (lv_at hl 1 rfl) ?_
    refine lv_aload_n hx hb dX3_read_49 rfl (lv_at hl 1 rfl) ?_
    refine r_gSort E hw hC h13 q317 dX3_read_50 ?_
    refine r_pKind (a := t.2.2.1) E hw h13 q320 rfl dX3_read_53 (fun H locs hw => ?_)
    have hw : WP K (tw A n (tKind t t.2.2.1), B, L, X, M) H locs := hw
    have yes : twice t.2.2.1 tt = true → W p l e (pR 87 3700 r) s m #[.ref (K.2.1 13)] below meth c H locs cells slots (PQ below K A B L X n M0 (VT K G M0) #[.ref (K.2.1 13)] s r) (F0 m 124 ls []) := by
      intro c4
      rw [if_pos c4] at h
      have h := Option.some.inj h
      subst h
      refine lv_aload_n hx hb dX3_read_124 rfl (lv_at hl 1 rfl) ?_
      refine lv_iconst (v := (4:Int32)) hx hb dX3_read_125 (by decide) ?_
      exact p_throw (t := tKind t t.2.2.1) hG hC h13 hWr hlst E hnt hw hl hrd.1.1 hz hc hs (cwV 1 hts (lw_V q475 q477 qs3 q141 q478) rfl rfl rfl ⟨rfl, kd_X3_wrong⟩ ⟨Nat.le_of_ble_eq_true rfl, Nat.le_of_ble_eq_true rfl⟩) rfl dX3_read_126 dX3_read_129
    have no : twice t.2.2.1 tt = false → W p l e (pR 87 3700 r) s m #[.ref (K.2.1 13)] below meth c H locs cells slots (PQ below K A B L X n M0 (VT K G M0) #[.ref (K.2.1 13)] s r) (F0 m 130 ls []) := by
      intro c4
      rw [if_neg (by rw [c4]; decide)] at h
      refine lv_aload_n hx hb dX3_read_130 rfl (lv_at hl 0 rfl) ?_
      refine r_getN hG E hw (QAt.dyn hrd.2.1) (T := TX4) (N := 7) rfl in_X4 5 (by omega) q387 rfl dX3_read_131 ?_
      refine lv_bipush (v := (24:Int32)) hx hb dX3_read_134 (by decide) ?_
      have hk24 := hrd.2.2.2.2.2.2.2.2.2
      refine lv_icmp_ne (tgt := 146) hx hb dX3_read_136 (by decide) (fun c5 => ?_) (fun c5 => ?_)
      rotate_left
      · have h9 : k = 24 := nI_inj c5 (by omega) (by decide)
        rw [if_pos h9] at h
        have h := Option.some.inj h
        subst h
        refine lv_aload_n hx hb dX3_read_139 rfl (lv_at hl 1 rfl) ?_
        refine lv_bipush (v := (6:Int32)) hx hb dX3_read_140 (by decide) ?_
        exact p_throw (t := tKind t t.2.2.1) hG hC h13 hWr hlst E hnt hw hl hrd.1.1 hz hc hs (cwV 1 hts (lw_V q475 q477 qs3 q141 q478) rfl rfl rfl ⟨rfl, kd_X3_wrong⟩ ⟨Nat.le_of_ble_eq_true rfl, Nat.le_of_ble_eq_true rfl⟩) rfl dX3_read_142 dX3_read_145
      have h9 : k ≠ 24 := fun q => c5 (by rw [q]; rfl)
      rw [if_neg h9] at h
      have nx := TK.nx (D := A 3) (t := tKind t t.2.2.1) ht
      refine lv_aload_n hx hb dX3_read_146 rfl (lv_at hl 1 rfl) ?_
      refine d_V (As := []) (v0 := none) hG E hw hl (m_X3_next l hG hC h13 hS hn (t := tKind t t.2.2.1) ht) (qT13 h13) rfl (cwV 0 hts (lw_V q406 q408 qs1 q141 q409) rfl rfl rfl ⟨rfl, kd_X3_next⟩ ⟨Nat.le_of_ble_eq_true rfl, Nat.le_of_ble_eq_true rfl⟩) rfl (rest := []) (st1 := []) rfl rfl rfl dX3_read_147 ⟨(show cells ≤ pc_ r by omega), (show slots ≤ 12 * pc_ r by omega)⟩ (fun H locs hw => ?_)
      refine lv_aload_n hx hb dX3_read_150 rfl (lv_at hl 1 rfl) ?_
      refine lv_aload_n hx hb dX3_read_151 rfl (lv_at hl 0 rfl) ?_
      refine c_Bw (c0 := c0) (M1 := M0) (As := [.ref a]) (rest := []) (V1 := VR K ea M0 a ca da k) hG E hnt hw h13 QExt.refl h hz hc hs (fun r1 h1 => m_X3_clause l hG hC h13 hS hWr hlst hn hLs hI ⟨cf, ve, bl, se, fo, xs, hrd⟩ (by omega) nx.1 (by rw [congrArg Prod.fst nx.2]; exact ho) h1) (fun r1 => (cwV 1 hts (lw_V q543 q545 qs5 q141 q546) rfl rfl rfl ⟨rfl, kd_X3_clause⟩ ⟨Nat.le_of_ble_eq_true rfl, Nat.le_of_ble_eq_true rfl⟩)) hl rfl rfl rfl dX3_read_152 (fun tt1 t1 cst v M1 H locs y1 ho1 h hz hc hs hx1 hV hw => ?_)
      obtain ⟨rfl, F1, ed1, cf1, ve1, bl1, se1, fo1, xs1, hrd1⟩ := hV
      refine W.eq (g2 := F0 m 155 ls []) rfl ?_
      have tk1 := PT.clause _ _ _ _ nx.1 ho1
      have hds1 := sClause_len ho1
      refine lv_aload_n hx hb dX3_read_155 rfl (lv_at hl 1 rfl) ?_
      refine lv_bipush (v := (59:Int32)) hx hb dX3_read_156 (by decide) ?_
      refine c_B (c0 := c0 + cst) (As := [.int 59]) (rest := []) (V1 := fun _ _ v => v = none) hG E hnt hw h13 hrd1.1.1 h hz hc hs (fun r1 h1 => by cases h1; exact m_X3_want l hG hC h13 hS hWr hlst hn tk1.1) (fun r1 => (cwV 1 hts (lw_V q555 q557 qs8 q141 q558) rfl rfl rfl ⟨rfl, kd_X3_want⟩ ⟨Nat.le_of_ble_eq_true rfl, Nat.le_of_ble_eq_true rfl⟩)) hl rfl rfl rfl dX3_read_158 (fun u2 t2 cst2 v M2 H locs y2 ho2 h hz hc hs hx2 hV hw => ?_)
      subst hV
      refine W.eq (g2 := F0 m 161 ls []) rfl ?_
      have hrd2 := hrd1.call hx2
      have tk2 := PT.want _ _ _ _ tk1.1 ho2
      refine lv_aload_n hx hb dX3_read_161 rfl (lv_at hl 0 rfl) ?_
      refine lv_dup hx hb dX3_read_162 rfl ?_
      refine r_getN hG E hw (QAt.dyn hrd2.2.1) (T := TX4) (N := 7) rfl in_X4 5 (by omega) q387 rfl dX3_read_163 ?_
      refine lv_iconst (v := (1:Int32)) hx hb dX3_read_166 (by decide) ?_
      refine lv_iadd hx hb dX3_read_167 ?_
      rw [nI_sc]
      refine r_putDN hG E hw hrd2.2.1 (T := TX4) (N := 7) rfl in_X4 tyX4 tyX4_ok nmX4 5 (by decide) q387 rfl rfl rfl (show 5 < 7 by decide) dX3_read_168 (fun H locs hw => ?_)
      have hw : WP K (tw A n t2, B, L, X, va_up M2 a (some (.inr (4, [.ref ca, ve1, bl1, se1, fo1, .int (nI (k + 1)), .ref da])))) H locs := hw
      have hrd3 := hrd2.obj (tt' := tt1) (k' := k + 1) rfl rfl hrd2.2.2.2.2.2.1.2.1 hrd2.2.2.2.2.2.1.2.2.1 hrd2.2.2.2.2.2.1.2.2.2.1 hrd2.2.2.2.2.2.1.2.2.2.2 (by omega)
      refine lv_goto (tgt := 12) hx hb dX3_read_171 (by decide) ?_
      exact ih ed1 (k + 1) tt1 _ _ t2 y2 (c0 + cst + cst2) (by omega) h hz tk2.1 (by rw [congrArg Prod.fst tk2.2, congrArg Prod.fst tk1.2, congrArg Prod.fst nx.2]; exact ho) ⟨cf1, ve1, bl1, se1, fo1, xs1, hrd3⟩ hc hs hw hl
    have tw1 : (t.2.2.1 = 201 → tt.2.1 = none) → (t.2.2.1 = 202 → tt.2.2.1 = none) → (t.2.2.1 = 203 → tt.2.2.2.2.1 = none) → (t.2.2.1 = 204 → tt.2.2.2.1 = none) → twice t.2.2.1 tt = false := by
      intro k1 k2 k3 k4
      unfold twice
      have z1 : (decide (t.2.2.1 = 201) && tt.2.1.isSome) = false := by
        by_cases q : t.2.2.1 = 201
        · rw [k1 q]; exact Bool.and_false _
        · rw [decide_eq_false q]; rfl
      have z2 : (decide (t.2.2.1 = 202) && tt.2.2.1.isSome) = false := by
        by_cases q : t.2.2.1 = 202
        · rw [k2 q]; exact Bool.and_false _
        · rw [decide_eq_false q]; rfl
      have z3 : (decide (t.2.2.1 = 203) && tt.2.2.2.2.1.isSome) = false := by
        by_cases q : t.2.2.1 = 203
        · rw [k3 q]; exact Bool.and_false _
        · rw [decide_eq_false q]; rfl
      have z4 : (decide (t.2.2.1 = 204) && tt.2.2.2.1.isSome) = false := by
        by_cases q : t.2.2.1 = 204
        · rw [k4 q]; exact Bool.and_false _
        · rw [decide_eq_false q]; rfl
      rw [z1, z2, z3, z4]
      rfl
    have at107 : (t.2.2.1 = 201 → tt.2.1 = none) → (t.2.2.1 = 202 → tt.2.2.1 = none) → (t.2.2.1 = 203 → tt.2.2.2.2.1 = none) → W p l e (pR 87 3700 r) s m #[.ref (K.2.1 13)] below meth c H locs cells slots (PQ below K A B L X n M0 (VT K G M0) #[.ref (K.2.1 13)] s r) (F0 m 107 ls []) := by
      intro k1 k2 k3
      refine lv_aload_n hx hb dX3_read_107 rfl (lv_at hl 1 rfl) ?_
      refine r_gKind E hw hC h13 q320 dX3_read_108 ?_
      refine lv_sipush (v := (204:Int32)) hx hb dX3_read_111 (by decide) ?_
      refine lv_icmp_ne (tgt := 130) hx hb dX3_read_114 (by decide) (fun c9 => ?_) (fun c9 => ?_)
      · have k4 : t.2.2.1 = 204 → tt.2.2.2.1 = none := fun q => absurd q c9
        exact no (tw1 k1 k2 k3 k4)
      · have c9 : t.2.2.1 = 204 := c9
        refine lv_aload_n hx hb dX3_read_117 rfl (lv_at hl 0 rfl) ?_
        refine r_getN hG E hw (QAt.dyn hrd.2.1) (T := TX4) (N := 7) rfl in_X4 3 (by omega) q383 rfl dX3_read_118 ?_
        cases hv : tt.2.2.2.1 with
        | none =>
          have k4 : t.2.2.1 = 204 → tt.2.2.2.1 = none := fun _ => hv
          rw [(hrd.2.2.2.2.2.1.2.2.2.1).no hv]
          refine lv_ifnullN (tgt := 130) hx hb dX3_read_121 (by decide) ?_
          exact no (tw1 k1 k2 k3 k4)
        | some x =>
          obtain ⟨b, hb9, -⟩ := (hrd.2.2.2.2.2.1.2.2.2.1).so hv
          rw [hb9]
          refine lv_ifnull hx hb dX3_read_121 ?_
          exact yes (by unfold twice; rw [c9, hv]; simp)
    have at90 : (t.2.2.1 = 201 → tt.2.1 = none) → (t.2.2.1 = 202 → tt.2.2.1 = none) → W p l e (pR 87 3700 r) s m #[.ref (K.2.1 13)] below meth c H locs cells slots (PQ below K A B L X n M0 (VT K G M0) #[.ref (K.2.1 13)] s r) (F0 m 90 ls []) := by
      intro k1 k2
      refine lv_aload_n hx hb dX3_read_90 rfl (lv_at hl 1 rfl) ?_
      refine r_gKind E hw hC h13 q320 dX3_read_91 ?_
      refine lv_sipush (v := (203:Int32)) hx hb dX3_read_94 (by decide) ?_
      refine lv_icmp_ne (tgt := 107) hx hb dX3_read_97 (by decide) (fun c9 => ?_) (fun c9 => ?_)
      · have k3 : t.2.2.1 = 203 → tt.2.2.2.2.1 = none := fun q => absurd q c9
        exact at107 k1 k2 k3
      · have c9 : t.2.2.1 = 203 := c9
        refine lv_aload_n hx hb dX3_read_100 rfl (lv_at hl 0 rfl) ?_
        refine r_getN hG E hw (QAt.dyn hrd.2.1) (T := TX4) (N := 7) rfl in_X4 4 (by omega) q385 rfl dX3_read_101 ?_
        cases hv : tt.2.2.2.2.1 with
        | none =>
          have k3 : t.2.2.1 = 203 → tt.2.2.2.2.1 = none := fun _ => hv
          rw [(hrd.2.2.2.2.2.1.2.2.2.2).no hv]
          refine lv_ifnonnullN hx hb dX3_read_104 ?_
          exact at107 k1 k2 k3
        | some x =>
          obtain ⟨b, hb9, -⟩ := (hrd.2.2.2.2.2.1.2.2.2.2).so hv
          rw [hb9]
          refine lv_ifnonnull (tgt := 124) hx hb dX3_read_104 (by decide) ?_
          exact yes (by unfold twice; rw [c9, hv]; simp)
    have at73 : (t.2.2.1 = 201 → tt.2.1 = none) → W p l e (pR 87 3700 r) s m #[.ref (K.2.1 13)] below meth c H locs cells slots (PQ below K A B L X n M0 (VT K G M0) #[.ref (K.2.1 13)] s r) (F0 m 73 ls []) := by
      intro k1
      refine lv_aload_n hx hb dX3_read_73 rfl (lv_at hl 1 rfl) ?_
      refine r_gKind E hw hC h13 q320 dX3_read_74 ?_
      refine lv_sipush (v := (202:Int32)) hx hb dX3_read_77 (by decide) ?_
      refine lv_icmp_ne (tgt := 90) hx hb dX3_read_80 (by decide) (fun c9 => ?_) (fun c9 => ?_)
      · have k2 : t.2.2.1 = 202 → tt.2.2.1 = none := fun q => absurd q c9
        exact at90 k1 k2
      · have c9 : t.2.2.1 = 202 := c9
        refine lv_aload_n hx hb dX3_read_83 rfl (lv_at hl 0 rfl) ?_
        refine r_getN hG E hw (QAt.dyn hrd.2.1) (T := TX4) (N := 7) rfl in_X4 2 (by omega) q381 rfl dX3_read_84 ?_
        cases hv : tt.2.2.1 with
        | none =>
          have k2 : t.2.2.1 = 202 → tt.2.2.1 = none := fun _ => hv
          rw [(hrd.2.2.2.2.2.1.2.2.1).no hv]
          refine lv_ifnonnullN hx hb dX3_read_87 ?_
          exact at90 k1 k2
        | some x =>
          obtain ⟨b, hb9, -⟩ := (hrd.2.2.2.2.2.1.2.2.1).so hv
          rw [hb9]
          refine lv_ifnonnull (tgt := 124) hx hb dX3_read_87 (by decide) ?_
          exact yes (by unfold twice; rw [c9, hv]; simp)
    have at56 : W p l e (pR 87 3700 r) s m #[.ref (K.2.1 13)] below meth c H locs cells slots (PQ below K A B L X n M0 (VT K G M0) #[.ref (K.2.1 13)] s r) (F0 m 56 ls []) := by
      refine lv_aload_n hx hb dX3_read_56 rfl (lv_at hl 1 rfl) ?_
      refine r_gKind E hw hC h13 q320 dX3_read_57 ?_
      refine lv_sipush (v := (201:Int32)) hx hb dX3_read_60 (by decide) ?_
      refine lv_icmp_ne (tgt := 73) hx hb dX3_read_63 (by decide) (fun c9 => ?_) (fun c9 => ?_)
      · have k1 : t.2.2.1 = 201 → tt.2.1 = none := fun q => absurd q c9
        exact at73 k1
      · have c9 : t.2.2.1 = 201 := c9
        refine lv_aload_n hx hb dX3_read_66 rfl (lv_at hl 0 rfl) ?_
        refine r_getN hG E hw (QAt.dyn hrd.2.1) (T := TX4) (N := 7) rfl in_X4 1 (by omega) q379 rfl dX3_read_67 ?_
        cases hv : tt.2.1 with
        | none =>
          have k1 : t.2.2.1 = 201 → tt.2.1 = none := fun _ => hv
          rw [(hrd.2.2.2.2.2.1.2.1).no hv]
          refine lv_ifnonnullN hx hb dX3_read_70 ?_
          exact at73 k1
        | some x =>
          obtain ⟨b, hb9, -⟩ := (hrd.2.2.2.2.2.1.2.1).so hv
          rw [hb9]
          refine lv_ifnonnull (tgt := 124) hx hb dX3_read_70 (by decide) ?_
          exact yes (by unfold twice; rw [c9, hv]; rfl)
    exact at56
set_option maxHeartbeats 8000000 in
theorem m_X3_read (l : Launch) {K : QK} {G : State → Prop} {A B : QA} {L : QL} {X : QX} {M : QM} {n : Nat} {y : QY} {t : QTS} {ea mi ic : Nat} {ib : Nat → Nat} {r : PR QT} (hG : QG G) (hC : QCl K) (h13 : ql K 13) (hS : QSt K G y) (hWr : QWr K G) (hlst : l.stackTraces = false) (hn : n ≤ 300) (hLs : QLs K G ea mi) (hI : QIc K G ic ib) (ht : t.1 ≤ n) (ho : t.2.2.2.2.1 ≤ 8) (h : sRead (A 3) n t = some r) :
    MP l K G yX3_read (ws_ yX3_read cX3_read 2 (some (.object "VaneCourt$Text"))) 87 3700 [.ref (K.2.1 13)] A B L X M n t r (VT K G M) := by
  refine MX.of (by decide) (Nat.le_of_ble_eq_true rfl) (lv := [(0, .ref (K.2.1 13))]) rfl (fun p e s m below meth c ls E hr hnt hl hw => ?_)
  have hx := E.1
  have hb := E.2.1
  have hown := E.2.2.1
  have hts := E.2.2.2.2.1
  unfold sRead at h
  obtain ⟨z, h, hz⟩ := pad_s h
  have hle : 3 ≤ pc_ r := by rw [hz, pc_add]; exact Nat.le_add_right _ _
  refine r_new (ci := 4) (fs := [.null, .null, .null, .null, .null, .int 0, .null]) E hw (T := TX4) (N := 7) rfl in_X4 tyX4 tyX4_ok q342 q343 q142 (fun j hj => by match j, hj with | 0, _ => rfl | 1, _ => rfl | 2, _ => rfl | 3, _ => rfl | 4, _ => rfl | 5, _ => rfl | 6, _ => rfl | j + 7, hj => exact absurd hj (by omega)) (show _ ≤ pc_ r by omega) (show _ ≤ 12 * pc_ r by omega) dX3_read_0 (fun a H hw ha _ _ => ?_)
  have hq0 : M a = none := ha
  refine lv_dup hx hb dX3_read_3 rfl ?_
  refine c_IN (As := []) (rest := [.ref a]) hG E hw (m_X4_init l hG hLs va_up_s) ⟨va_cnB 0 hts (lw_meth q346) rfl rfl rfl (hG.2.2 s _ E.2.2.2.2.2.1 q344 rfl) (hts _ q142) kd_X4_init ⟨Nat.le_of_ble_eq_true rfl, Nat.le_of_ble_eq_true rfl⟩, rfl, hts _ q345⟩ hl rfl rfl (Nat.le_of_ble_eq_true rfl) dX3_read_4 ⟨(show _ ≤ pc_ r by omega), (show _ ≤ 12 * pc_ r by omega)⟩ (fun v w' H locs hP9 hw => ?_)
  obtain ⟨ca, da, M1, rfl, rfl, n1, n2, n3, n4, n5, n6, n7⟩ := hP9
  refine W.eq (g2 := F0 m 7 ls [.ref a]) rfl ?_
  refine lv_astore_n (lv' := [(1, .ref a), (0, .ref (K.2.1 13))]) hx hb dX3_read_7 rfl hl (by decide) rfl (fun ls hl => ?_)
  have h1c : ca ≠ a := fun e9 => by rw [e9, va_up_s] at n1; cases n1
  have h1d : da ≠ a := fun e9 => by rw [e9, va_up_s] at n2; cases n2
  have n1' : M ca = none := (va_up_n h1c).symm.trans n1
  have n2' : M da = none := (va_up_n h1d).symm.trans n2
  have hx1 : QExt M M1 := by
    intro z e9 h9
    have k1 : z ≠ a := fun e8 => by rw [e8, hq0] at h9; cases h9
    have k2 : z ≠ ca := fun e8 => by rw [e8, n1'] at h9; cases h9
    have k3 : z ≠ da := fun e8 => by rw [e8, n2'] at h9; cases h9
    rw [n7 z k1 k2 k3, va_up_n k1]
    exact h9
  refine lv_aload_n hx hb dX3_read_8 rfl (lv_at hl 1 rfl) ?_
  refine d_V (As := []) (v0 := none) hG E hw hl (m_X3_next l hG hC h13 hS hn ht) (qT13 h13) rfl (cwV 0 hts (lw_V q406 q408 qs1 q141 q409) rfl rfl rfl ⟨rfl, kd_X3_next⟩ ⟨Nat.le_of_ble_eq_true rfl, Nat.le_of_ble_eq_true rfl⟩) rfl (rest := []) (st1 := []) rfl rfl rfl dX3_read_9 ⟨(show _ ≤ pc_ r by omega), (show _ ≤ 12 * pc_ r by omega)⟩ (fun H locs hw => ?_)
  have nx := TK.nx (D := A 3) ht
  exact wl_X3_read hG hC h13 hS hWr hlst hn hLs hI E hr hnt 25 ea 0 qt0 (fun _ => none) M1 _ z 3 (Nat.le_refl _) h hz nx.1 (by rw [congrArg Prod.fst nx.2]; exact ho) ⟨fun _ => none, .null, .null, .null, .null, [], ⟨hx1, fun _ _ h9 => (by cases h9), fun _ _ _ => rfl⟩, n4, n5, n6, ⟨⟨rfl, hq0⟩, ⟨rfl, n1'⟩, ⟨rfl, n2'⟩, fun h9 => absurd rfl h9⟩, ⟨fun q _ => Or.inl ⟨rfl, rfl⟩, Or.inl ⟨rfl, rfl⟩, Or.inl ⟨rfl, rfl⟩, Or.inl ⟨rfl, rfl⟩, Or.inl ⟨rfl, rfl⟩⟩, rfl, fun i x d h9 => (by cases h9), Nat.zero_le _, Nat.zero_le _⟩ (show _ ≤ 3 by omega) (show _ ≤ 12 * 3 by omega) hw hl
