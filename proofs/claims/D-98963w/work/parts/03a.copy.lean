set_option maxRecDepth 100000
theorem kd_X1_copy : yX1_copy.cls ≠ "java/lang/invoke/MethodHandle" ∧ yX1_copy.cls ≠ "java/lang/invoke/VarHandle" ∧ (parseMethodDescriptor yX1_copy.desc).map (fun d => d.parameters.length) = some 2 := by decide +kernel
set_option maxHeartbeats 4000000 in
/-- State.copy: one int array over another one of its length -/
theorem m_X1_copy (l : Launch) {K : QK} {G : State → Prop} (hG : QG G) (hC : QCl K) {rs : QA × QL × QX × QM} {r0 r1 n : Nat} {A : QA} (h0 : qia K r0 n) (h1 : qia K r1 n) (hn : n ≤ 100000) : MC l K G yX1_copy (ws_ yX1_copy cX1_copy 2 none) 1 40 0 0 [.ref (K.2.1 r0), .ref (K.2.1 r1)] (A, rs) (QR none (qset A r1 (va_cpy (A r0) (A r1) 0 0 n), rs)) := by
  refine MC.of (by decide) (Nat.le_of_ble_eq_true rfl) (lv := [(0, .ref (K.2.1 r0)), (1, .ref (K.2.1 r1))]) rfl (fun p e s m below meth c ls E hr hl hw => ?_)
  have hx := E.1
  have hb := E.2.1
  have hown := E.2.2.1
  have hts := E.2.2.2.2.1
  refine lv_aload_n hx hb dX1_copy_0 rfl (lv_at hl 0 rfl) ?_
  refine lv_iconst (v := (0:Int32)) hx hb dX1_copy_1 (by decide) ?_
  refine lv_aload_n hx hb dX1_copy_2 rfl (lv_at hl 1 rfl) ?_
  refine lv_iconst (v := (0:Int32)) hx hb dX1_copy_3 (by decide) ?_
  refine lv_aload_n hx hb dX1_copy_4 rfl (lv_at hl 0 rfl) ?_
  refine r_alen (t := 0) (v := nI n) E hw rfl h0.at rfl dX1_copy_5 ?_
  refine r_copyA (j0 := 0) (j1 := 0) (j2 := n) E hl hw h0 h1 q232 q234 q233 q139 (by decide) (by decide) (nI_pos (by omega)) (q_clamp (k := 0) rfl) (q_clamp (k := 0) rfl) (nI_clamp (by omega)) (by omega) (by omega) (Nat.le_of_ble_eq_true rfl) (Nat.le_of_ble_eq_true rfl) dX1_copy_6 (fun H locs hw => ?_)
  exact d_ret E hr hw rfl dX1_copy_9
