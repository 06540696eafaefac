/-! doings' getters, calls that make cells, the image -/
set_option maxRecDepth 100000
theorem QTx.ext {K : QK} {G : State → Prop} {X : QX} {M M' : QM} {T : Int32 → Option QT} {ta : Int32 → Nat} (h : QTx K G X M T ta) (hx : QExt M M') : QTx K G X M' T ta := ⟨h.1, fun i t q => (h.2.1 i t q).ext hx, h.2.2.1, h.2.2.2⟩
theorem d_VN {p : Program} {l : Launch} {e : Env} {R : Room} {s : State} {m : MethodId} {args : Array Value} {below : List Frame} {meth : Method} {c : Code} {H : Heap} {locs : List Loc} {cells slots : Nat} {Q : State → Prop} {cc : ByteArray} {pc : Nat} {ls : Array Slot} {rest : List Value} {own : String} {nL : Nat} {K : QK} {G : State → Prop} {w : QW} {y : MethodName} {bytes : ByteArray} {maxL fr lo mc ms n index b ci N : Nat} {C : String} {T : u_T} {fs As st1 : List Value} {ret : Option FieldType} {v0 : Option Value} {A0 B : QA} {L : QL} {X : QX} {M : QM} {lv : List (Nat × Value)} (hG : QG G) (E : EV K G p s m args meth c cc own nL) (hw : WP K w H locs) (hl : lv_has ls nL lv) (hM : MC l K G y (ws_ y bytes maxL ret) fr lo mc ms (.ref b :: As) w (QN v0 A0 B L X M)) (hq : QAt K w b (.inr (ci, fs))) (hc : vcl[ci]? = some (C, T, N)) (cw : CallW R s args own C index y bytes maxL ret (ws_ y bytes maxL ret) (qrm fr lo mc ms) mc ms n) (hn : As.length = n) {st0 : List Value} (hst : st0 = As.reverse ++ .ref b :: rest) (hst1 : v0.toList ++ rest = st1) (hW : Nat.ble (rest.map fun v => v.category).sum 8 = true) (hdg : decode cc pc = .ok (.invokevirtual index, 3)) (hf : cells + mc ≤ R.cells ∧ slots + ms ≤ R.slots)
    (kk : ∀ (M1 : QM) (_ : QExt M M1) (H1 : Heap) (locs1 : List Loc), WP K (A0, B, L, X, M1) H1 locs1 → W p l e R s m args below meth c H1 locs1 (cells + mc) (slots + ms) Q (F0 m (pc + 3) ls st1)) : W p l e R s m args below meth c H locs cells slots Q (F0 m pc ls st0) := by
  refine c_V (fs := fs) (rest := rest) hG E hw hM hq hc cw hl hn hst (Nat.le_of_ble_eq_true hW) hdg hf (fun v w' H1 locs1 hP hw1 => ?_)
  obtain ⟨rfl, M1, rfl, hx⟩ := hP
  rw [hst1]
  exact kk M1 hx H1 locs1 hw1
theorem kd_X16_sort : yX16_sort.cls ≠ "java/lang/invoke/MethodHandle" ∧ yX16_sort.cls ≠ "java/lang/invoke/VarHandle" ∧ (parseMethodDescriptor yX16_sort.desc).map (fun d => d.parameters.length) = some 0 := by decide +kernel
theorem m_X16_sort (l : Launch) {K : QK} {G : State → Prop} {w : QW} {a : Nat} {d : QDo} (h : QAt K w a (.inr (16, [.int d.1, .int d.2.1, .int d.2.2.1, .int d.2.2.2.1, .int d.2.2.2.2]))) : MC l K G yX16_sort (ws_ yX16_sort cX16_sort 1 (some .int)) 1 40 0 0 [.ref a] w (QR (some (.int d.1)) w) := by
  refine MC.of (by decide) (Nat.le_of_ble_eq_true rfl) (lv := [(0, .ref a)]) rfl (fun p e s m below meth c ls E hr hl hw => ?_)
  have hx := E.1
  have hb := E.2.1
  refine lv_aload_n hx hb dX16_sort_0 rfl (lv_at hl 0 rfl) ?_
  refine r_get (v := .int d.1) E hw h (T := TX16) (N := 5) rfl in_X16 0 (by decide) q859 rfl dX16_sort_1 ?_
  exact d_iret E hr rfl hw rfl rfl dX16_sort_4
theorem kd_X16_a : yX16_a.cls ≠ "java/lang/invoke/MethodHandle" ∧ yX16_a.cls ≠ "java/lang/invoke/VarHandle" ∧ (parseMethodDescriptor yX16_a.desc).map (fun d => d.parameters.length) = some 0 := by decide +kernel
theorem m_X16_a (l : Launch) {K : QK} {G : State → Prop} {w : QW} {a : Nat} {d : QDo} (h : QAt K w a (.inr (16, [.int d.1, .int d.2.1, .int d.2.2.1, .int d.2.2.2.1, .int d.2.2.2.2]))) : MC l K G yX16_a (ws_ yX16_a cX16_a 1 (some .int)) 1 40 0 0 [.ref a] w (QR (some (.int d.2.1)) w) := by
  refine MC.of (by decide) (Nat.le_of_ble_eq_true rfl) (lv := [(0, .ref a)]) rfl (fun p e s m below meth c ls E hr hl hw => ?_)
  have hx := E.1
  have hb := E.2.1
  refine lv_aload_n hx hb dX16_a_0 rfl (lv_at hl 0 rfl) ?_
  refine r_get (v := .int d.2.1) E hw h (T := TX16) (N := 5) rfl in_X16 1 (by decide) q860 rfl dX16_a_1 ?_
  exact d_iret E hr rfl hw rfl rfl dX16_a_4
theorem kd_X16_b : yX16_b.cls ≠ "java/lang/invoke/MethodHandle" ∧ yX16_b.cls ≠ "java/lang/invoke/VarHandle" ∧ (parseMethodDescriptor yX16_b.desc).map (fun d => d.parameters.length) = some 0 := by decide +kernel
theorem m_X16_b (l : Launch) {K : QK} {G : State → Prop} {w : QW} {a : Nat} {d : QDo} (h : QAt K w a (.inr (16, [.int d.1, .int d.2.1, .int d.2.2.1, .int d.2.2.2.1, .int d.2.2.2.2]))) : MC l K G yX16_b (ws_ yX16_b cX16_b 1 (some .int)) 1 40 0 0 [.ref a] w (QR (some (.int d.2.2.1)) w) := by
  refine MC.of (by decide) (Nat.le_of_ble_eq_true rfl) (lv := [(0, .ref a)]) rfl (fun p e s m below meth c ls E hr hl hw => ?_)
  have hx := E.1
  have hb := E.2.1
  refine lv_aload_n hx hb dX16_b_0 rfl (lv_at hl 0 rfl) ?_
  refine r_get (v := .int d.2.2.1) E hw h (T := TX16) (N := 5) rfl in_X16 2 (by decide) q861 rfl dX16_b_1 ?_
  exact d_iret E hr rfl hw rfl rfl dX16_b_4
theorem kd_X16_c : yX16_c.cls ≠ "java/lang/invoke/MethodHandle" ∧ yX16_c.cls ≠ "java/lang/invoke/VarHandle" ∧ (parseMethodDescriptor yX16_c.desc).map (fun d => d.parameters.length) = some 0 := by decide +kernel
theorem m_X16_c (l : Launch) {K : QK} {G : State → Prop} {w : QW} {a : Nat} {d : QDo} (h : QAt K w a (.inr (16, [.int d.1, .int d.2.1, .int d.2.2.1, .int d.2.2.2.1, .int d.2.2.2.2]))) : MC l K G yX16_c (ws_ yX16_c cX16_c 1 (some .int)) 1 40 0 0 [.ref a] w (QR (some (.int d.2.2.2.1)) w) := by
  refine MC.of (by decide) (Nat.le_of_ble_eq_true rfl) (lv := [(0, .ref a)]) rfl (fun p e s m below meth c ls E hr hl hw => ?_)
  have hx := E.1
  have hb := E.2.1
  refine lv_aload_n hx hb dX16_c_0 rfl (lv_at hl 0 rfl) ?_
  refine r_get (v := .int d.2.2.2.1) E hw h (T := TX16) (N := 5) rfl in_X16 3 (by decide) q862 rfl dX16_c_1 ?_
  exact d_iret E hr rfl hw rfl rfl dX16_c_4
theorem kd_X16_number : yX16_number.cls ≠ "java/lang/invoke/MethodHandle" ∧ yX16_number.cls ≠ "java/lang/invoke/VarHandle" ∧ (parseMethodDescriptor yX16_number.desc).map (fun d => d.parameters.length) = some 0 := by decide +kernel
theorem m_X16_number (l : Launch) {K : QK} {G : State → Prop} {w : QW} {a : Nat} {d : QDo} (h : QAt K w a (.inr (16, [.int d.1, .int d.2.1, .int d.2.2.1, .int d.2.2.2.1, .int d.2.2.2.2]))) : MC l K G yX16_number (ws_ yX16_number cX16_number 1 (some .int)) 1 40 0 0 [.ref a] w (QR (some (.int d.2.2.2.2)) w) := by
  refine MC.of (by decide) (Nat.le_of_ble_eq_true rfl) (lv := [(0, .ref a)]) rfl (fun p e s m below meth c ls E hr hl hw => ?_)
  have hx := E.1
  have hb := E.2.1
  refine lv_aload_n hx hb dX16_number_0 rfl (lv_at hl 0 rfl) ?_
  refine r_get (v := .int d.2.2.2.2) E hw h (T := TX16) (N := 5) rfl in_X16 4 (by decide) q863 rfl dX16_number_1 ?_
  exact d_iret E hr rfl hw rfl rfl dX16_number_4
set_option maxHeartbeats 4000000 in
theorem m_X0_image (l : Launch) {K : QK} {G : State → Prop} (hG : QG G) (hC : QCl K) {A B : QA} {L : QL} {X : QX} {M : QM} (hX : ∀ i, i < 4 → ∀ y, X 107 i = some y → ∃ fs, M y = some (.inr (4, fs))) : MC l K G yX0_image (ws_ yX0_image cX0_image 1 (some .int)) 4 300 0 0 [.ref (K.2.1 0)] (A, B, L, X, M) (QR (some (.int (qbe2 A 101 3))) (qbe2 A, B, L, qset X 207 (va_cpy (X 107) (X 207) 0 0 4), M)) := by
  refine MC.of (by decide) (Nat.le_of_ble_eq_true rfl) (lv := [(0, .ref (K.2.1 0))]) rfl (fun p e s m below meth c ls E hr hl hw => ?_)
  have hx := E.1
  have hb := E.2.1
  have hts := E.2.2.2.2.1
  refine lv_aload_n hx hb dX0_image_0 rfl (lv_at hl 0 rfl) ?_
  refine r_getX (v := .ref (K.2.1 2)) E hw hC 1 (by decide) q239 rfl dX0_image_1 ?_
  refine lv_aload_n hx hb dX0_image_4 rfl (lv_at hl 0 rfl) ?_
  refine r_getX (v := .ref (K.2.1 1)) E hw hC 0 (by decide) q238 rfl dX0_image_5 ?_
  refine d_V (As := [.ref (K.2.1 1)]) (v0 := none) hG E hw hl (m_X1_be2 l hG hC hX) (QAt.lab (hC 2 rfl) (show qat K (A, B, L, X, M) 2 = .inr (1, sfl2 K) from rfl)) rfl (cwV 1 hts (lw_V q225 q226 q227 q138 q228) rfl rfl rfl ⟨rfl, kd_X1_be⟩ ⟨Nat.le_of_ble_eq_true rfl, Nat.le_of_ble_eq_true rfl⟩) rfl (rest := []) (st1 := []) rfl rfl rfl dX0_image_8 ⟨Nat.zero_le _, Nat.zero_le _⟩ (fun H locs hw => ?_)
  refine lv_aload_n hx hb dX0_image_11 rfl (lv_at hl 0 rfl) ?_
  refine r_getX (v := .ref (K.2.1 1)) E hw hC 0 (by decide) q238 rfl dX0_image_12 ?_
  refine r_getS1 (v := .ref (K.2.1 101)) hG E hw hC 1 (by decide) q193 rfl dX0_image_15 ?_
  refine lv_iconst (v := (3:Int32)) hx hb dX0_image_18 (by decide) ?_
  refine r_iald (j := 3) E hw (qi_101 hC).at (q_lit (k := 3) (n := 154) rfl rfl) (q_clamp (k := 3) rfl) dX0_image_19 ?_
  exact d_iret E hr rfl hw rfl rfl dX0_image_20
set_option maxHeartbeats 4000000 in
theorem m_X0_back (l : Launch) {K : QK} {G : State → Prop} (hG : QG G) (hC : QCl K) {A B : QA} {L : QL} {X : QX} {M : QM} (hX : ∀ i, i < 4 → ∀ y, X 207 i = some y → ∃ fs, M y = some (.inr (4, fs))) : MC l K G yX0_back (ws_ yX0_back cX0_back 1 (some .int)) 4 300 0 0 [.ref (K.2.1 0)] (A, B, L, X, M) (QR (some (.int (qbe1 A 101 3))) (qbe1 A, B, L, qset X 107 (va_cpy (X 207) (X 107) 0 0 4), M)) := by
  refine MC.of (by decide) (Nat.le_of_ble_eq_true rfl) (lv := [(0, .ref (K.2.1 0))]) rfl (fun p e s m below meth c ls E hr hl hw => ?_)
  have hx := E.1
  have hb := E.2.1
  have hts := E.2.2.2.2.1
  refine lv_aload_n hx hb dX0_back_0 rfl (lv_at hl 0 rfl) ?_
  refine r_getX (v := .ref (K.2.1 1)) E hw hC 0 (by decide) q238 rfl dX0_back_1 ?_
  refine lv_aload_n hx hb dX0_back_4 rfl (lv_at hl 0 rfl) ?_
  refine r_getX (v := .ref (K.2.1 2)) E hw hC 1 (by decide) q239 rfl dX0_back_5 ?_
  refine d_V (As := [.ref (K.2.1 2)]) (v0 := none) hG E hw hl (m_X1_be1 l hG hC hX) (QAt.lab (hC 1 rfl) (show qat K (A, B, L, X, M) 1 = .inr (1, sfl1 K) from rfl)) rfl (cwV 1 hts (lw_V q225 q226 q227 q138 q228) rfl rfl rfl ⟨rfl, kd_X1_be⟩ ⟨Nat.le_of_ble_eq_true rfl, Nat.le_of_ble_eq_true rfl⟩) rfl (rest := []) (st1 := []) rfl rfl rfl dX0_back_8 ⟨Nat.zero_le _, Nat.zero_le _⟩ (fun H locs hw => ?_)
  refine lv_aload_n hx hb dX0_back_11 rfl (lv_at hl 0 rfl) ?_
  refine r_getX (v := .ref (K.2.1 1)) E hw hC 0 (by decide) q238 rfl dX0_back_12 ?_
  refine r_getS1 (v := .ref (K.2.1 101)) hG E hw hC 1 (by decide) q193 rfl dX0_back_15 ?_
  refine lv_iconst (v := (3:Int32)) hx hb dX0_back_18 (by decide) ?_
  refine r_iald (j := 3) E hw (qi_101 hC).at (q_lit (k := 3) (n := 154) rfl rfl) (q_clamp (k := 3) rfl) dX0_back_19 ?_
  exact d_iret E hr rfl hw rfl rfl dX0_back_20
