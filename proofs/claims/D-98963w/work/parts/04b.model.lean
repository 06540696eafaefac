/-! written by dc.py: X2_isQuarter X2_isGravity X2_nameOf X2_isOf X2_opened X2_isAskAhead X2_factAt X2_beginOne X2_parsed X2_lawClause X2_codeClause X2_caseClause X2_gustClause X2_body X2_clause X2_readText X2_text X2_fault X2_by X2_undo X2_isCase X2_get X2_isWaiting X2_canCall X2_keep X2_callNow X2_call X2_canDelay X2_delay X2_canAppeal X2_appealNow X2_appeal X2_gust X2_leave X2_withdraw -/
set_option maxRecDepth 100000
theorem kd_X2_appealNow : yX2_appealNow.cls ≠ "java/lang/invoke/MethodHandle" ∧ yX2_appealNow.cls ≠ "java/lang/invoke/VarHandle" ∧ (parseMethodDescriptor yX2_appealNow.desc).map (fun d => d.parameters.length) = some 1 := by decide +kernel
theorem kd_X2_beginOne : yX2_beginOne.cls ≠ "java/lang/invoke/MethodHandle" ∧ yX2_beginOne.cls ≠ "java/lang/invoke/VarHandle" ∧ (parseMethodDescriptor yX2_beginOne.desc).map (fun d => d.parameters.length) = some 0 := by decide +kernel
theorem kd_X2_behindOne : yX2_behindOne.cls ≠ "java/lang/invoke/MethodHandle" ∧ yX2_behindOne.cls ≠ "java/lang/invoke/VarHandle" ∧ (parseMethodDescriptor yX2_behindOne.desc).map (fun d => d.parameters.length) = some 0 := by decide +kernel
theorem kd_X2_body : yX2_body.cls ≠ "java/lang/invoke/MethodHandle" ∧ yX2_body.cls ≠ "java/lang/invoke/VarHandle" ∧ (parseMethodDescriptor yX2_body.desc).map (fun d => d.parameters.length) = some 2 := by decide +kernel
theorem kd_X2_callNow : yX2_callNow.cls ≠ "java/lang/invoke/MethodHandle" ∧ yX2_callNow.cls ≠ "java/lang/invoke/VarHandle" ∧ (parseMethodDescriptor yX2_callNow.desc).map (fun d => d.parameters.length) = some 1 := by decide +kernel
theorem kd_X2_canAppeal : yX2_canAppeal.cls ≠ "java/lang/invoke/MethodHandle" ∧ yX2_canAppeal.cls ≠ "java/lang/invoke/VarHandle" ∧ (parseMethodDescriptor yX2_canAppeal.desc).map (fun d => d.parameters.length) = some 1 := by decide +kernel
theorem kd_X2_canCall : yX2_canCall.cls ≠ "java/lang/invoke/MethodHandle" ∧ yX2_canCall.cls ≠ "java/lang/invoke/VarHandle" ∧ (parseMethodDescriptor yX2_canCall.desc).map (fun d => d.parameters.length) = some 1 := by decide +kernel
theorem kd_X2_canDelay : yX2_canDelay.cls ≠ "java/lang/invoke/MethodHandle" ∧ yX2_canDelay.cls ≠ "java/lang/invoke/VarHandle" ∧ (parseMethodDescriptor yX2_canDelay.desc).map (fun d => d.parameters.length) = some 0 := by decide +kernel
theorem kd_X2_caseClause : yX2_caseClause.cls ≠ "java/lang/invoke/MethodHandle" ∧ yX2_caseClause.cls ≠ "java/lang/invoke/VarHandle" ∧ (parseMethodDescriptor yX2_caseClause.desc).map (fun d => d.parameters.length) = some 1 := by decide +kernel
theorem kd_X2_clause : yX2_clause.cls ≠ "java/lang/invoke/MethodHandle" ∧ yX2_clause.cls ≠ "java/lang/invoke/VarHandle" ∧ (parseMethodDescriptor yX2_clause.desc).map (fun d => d.parameters.length) = some 0 := by decide +kernel
theorem kd_X2_codeClause : yX2_codeClause.cls ≠ "java/lang/invoke/MethodHandle" ∧ yX2_codeClause.cls ≠ "java/lang/invoke/VarHandle" ∧ (parseMethodDescriptor yX2_codeClause.desc).map (fun d => d.parameters.length) = some 1 := by decide +kernel
theorem kd_X2_factAt : yX2_factAt.cls ≠ "java/lang/invoke/MethodHandle" ∧ yX2_factAt.cls ≠ "java/lang/invoke/VarHandle" ∧ (parseMethodDescriptor yX2_factAt.desc).map (fun d => d.parameters.length) = some 0 := by decide +kernel
theorem kd_X2_figure : yX2_figure.cls ≠ "java/lang/invoke/MethodHandle" ∧ yX2_figure.cls ≠ "java/lang/invoke/VarHandle" ∧ (parseMethodDescriptor yX2_figure.desc).map (fun d => d.parameters.length) = some 3 := by decide +kernel
theorem kd_X2_get : yX2_get.cls ≠ "java/lang/invoke/MethodHandle" ∧ yX2_get.cls ≠ "java/lang/invoke/VarHandle" ∧ (parseMethodDescriptor yX2_get.desc).map (fun d => d.parameters.length) = some 2 := by decide +kernel
theorem kd_X2_gustClause : yX2_gustClause.cls ≠ "java/lang/invoke/MethodHandle" ∧ yX2_gustClause.cls ≠ "java/lang/invoke/VarHandle" ∧ (parseMethodDescriptor yX2_gustClause.desc).map (fun d => d.parameters.length) = some 1 := by decide +kernel
theorem kd_X2_has : yX2_has.cls ≠ "java/lang/invoke/MethodHandle" ∧ yX2_has.cls ≠ "java/lang/invoke/VarHandle" ∧ (parseMethodDescriptor yX2_has.desc).map (fun d => d.parameters.length) = some 2 := by decide +kernel
theorem kd_X2_isAskAhead : yX2_isAskAhead.cls ≠ "java/lang/invoke/MethodHandle" ∧ yX2_isAskAhead.cls ≠ "java/lang/invoke/VarHandle" ∧ (parseMethodDescriptor yX2_isAskAhead.desc).map (fun d => d.parameters.length) = some 0 := by decide +kernel
theorem kd_X2_isCase : yX2_isCase.cls ≠ "java/lang/invoke/MethodHandle" ∧ yX2_isCase.cls ≠ "java/lang/invoke/VarHandle" ∧ (parseMethodDescriptor yX2_isCase.desc).map (fun d => d.parameters.length) = some 1 := by decide +kernel
theorem kd_X2_isGravity : yX2_isGravity.cls ≠ "java/lang/invoke/MethodHandle" ∧ yX2_isGravity.cls ≠ "java/lang/invoke/VarHandle" ∧ (parseMethodDescriptor yX2_isGravity.desc).map (fun d => d.parameters.length) = some 0 := by decide +kernel
theorem kd_X2_isOf : yX2_isOf.cls ≠ "java/lang/invoke/MethodHandle" ∧ yX2_isOf.cls ≠ "java/lang/invoke/VarHandle" ∧ (parseMethodDescriptor yX2_isOf.desc).map (fun d => d.parameters.length) = some 1 := by decide +kernel
theorem kd_X2_isQuarter : yX2_isQuarter.cls ≠ "java/lang/invoke/MethodHandle" ∧ yX2_isQuarter.cls ≠ "java/lang/invoke/VarHandle" ∧ (parseMethodDescriptor yX2_isQuarter.desc).map (fun d => d.parameters.length) = some 0 := by decide +kernel
theorem kd_X2_isWaiting : yX2_isWaiting.cls ≠ "java/lang/invoke/MethodHandle" ∧ yX2_isWaiting.cls ≠ "java/lang/invoke/VarHandle" ∧ (parseMethodDescriptor yX2_isWaiting.desc).map (fun d => d.parameters.length) = some 1 := by decide +kernel
theorem kd_X2_keep : yX2_keep.cls ≠ "java/lang/invoke/MethodHandle" ∧ yX2_keep.cls ≠ "java/lang/invoke/VarHandle" ∧ (parseMethodDescriptor yX2_keep.desc).map (fun d => d.parameters.length) = some 0 := by decide +kernel
theorem kd_X2_lawClause : yX2_lawClause.cls ≠ "java/lang/invoke/MethodHandle" ∧ yX2_lawClause.cls ≠ "java/lang/invoke/VarHandle" ∧ (parseMethodDescriptor yX2_lawClause.desc).map (fun d => d.parameters.length) = some 2 := by decide +kernel
theorem kd_X2_leave : yX2_leave.cls ≠ "java/lang/invoke/MethodHandle" ∧ yX2_leave.cls ≠ "java/lang/invoke/VarHandle" ∧ (parseMethodDescriptor yX2_leave.desc).map (fun d => d.parameters.length) = some 2 := by decide +kernel
theorem kd_X2_nameOf : yX2_nameOf.cls ≠ "java/lang/invoke/MethodHandle" ∧ yX2_nameOf.cls ≠ "java/lang/invoke/VarHandle" ∧ (parseMethodDescriptor yX2_nameOf.desc).map (fun d => d.parameters.length) = some 0 := by decide +kernel
theorem kd_X2_opened : yX2_opened.cls ≠ "java/lang/invoke/MethodHandle" ∧ yX2_opened.cls ≠ "java/lang/invoke/VarHandle" ∧ (parseMethodDescriptor yX2_opened.desc).map (fun d => d.parameters.length) = some 1 := by decide +kernel
theorem kd_X2_parsed : yX2_parsed.cls ≠ "java/lang/invoke/MethodHandle" ∧ yX2_parsed.cls ≠ "java/lang/invoke/VarHandle" ∧ (parseMethodDescriptor yX2_parsed.desc).map (fun d => d.parameters.length) = some 1 := by decide +kernel
theorem kd_X2_readText : yX2_readText.cls ≠ "java/lang/invoke/MethodHandle" ∧ yX2_readText.cls ≠ "java/lang/invoke/VarHandle" ∧ (parseMethodDescriptor yX2_readText.desc).map (fun d => d.parameters.length) = some 0 := by decide +kernel
theorem kd_X2_sortOf : yX2_sortOf.cls ≠ "java/lang/invoke/MethodHandle" ∧ yX2_sortOf.cls ≠ "java/lang/invoke/VarHandle" ∧ (parseMethodDescriptor yX2_sortOf.desc).map (fun d => d.parameters.length) = some 0 := by decide +kernel
def f_X2_isQuarter (B : QA) : Option (Int32) :=
  qb1 (f_X2_w4 (113:Int32) (117:Int32) (97:Int32) (114:Int32)) fun u1 =>
  qb1 (f_X2_w3 (116:Int32) (101:Int32) (114:Int32)) fun u3 =>
  qb1 (f_X2_isLong u1 u3 (3:Int32) B) fun u5 =>
  qif (qbo u5) <|
  some (u5)
set_option maxHeartbeats 4000000 in
theorem w_X2_isQuarter_0 {p : Program} {l : Launch} {e : Env} {s : State} {m : MethodId} {args : Array Value} {below : List Frame} {meth : Method} {c : Code} {K : QK} {G : State → Prop} {A : QA} {rs : QX × QM} {L : QL} {ro : Int32} (hG : QG G) (hM : QMl K) (E : EV K G p s m args meth c cX2_isQuarter "VaneCourtModel" 1) (hr : meth.sig.returnType = (some .boolean)) : ∀ (B : QA) {H : Heap} {locs : List Loc} {ls : Array Slot}, f_X2_isQuarter B = some ro → WP K (A, B, L, rs) H locs → lv_has ls 1 [(0, .ref (K.2.1 1000))] → W p l e (qrm 5 133 0 0) s m args below meth c H locs 0 0 (MQ below (QE K (QR (some (.int ro)) (A, B, L, rs))) args s 0 0 (qA K)) (F0 m 0 ls []) := by
  have hx := E.1
  have hb := E.2.1
  have hown := E.2.2.1
  have hts := E.2.2.2.2.1
  intro B H locs ls  h hw hl
  rw [f_X2_isQuarter] at h
  refine lv_aload_n hx hb dX2_isQuarter_0 rfl (lv_at hl 0 rfl) ?_
  refine lv_bipush (v := (113:Int32)) hx hb dX2_isQuarter_1 (by decide) ?_
  refine lv_bipush (v := (117:Int32)) hx hb dX2_isQuarter_3 (by decide) ?_
  refine lv_bipush (v := (97:Int32)) hx hb dX2_isQuarter_5 (by decide) ?_
  refine lv_bipush (v := (114:Int32)) hx hb dX2_isQuarter_7 (by decide) ?_
  obtain ⟨u1, g2, h⟩ := qb1_s h
  refine d_S (As := [.int (113:Int32), .int (117:Int32), .int (97:Int32), .int (114:Int32)]) (v0 := some (.long u1)) (w0 := (A, B, L, rs)) hG E hw hl (m_X2_w4 l hG hM  g2) (va_cwS 4 hts (lw_S q1537 q1538 q140 q1539) rfl rfl rfl kd_X2_w4 ⟨Nat.le_of_ble_eq_true rfl, Nat.le_of_ble_eq_true rfl⟩) rfl (rest := [.ref (K.2.1 1000)]) (st1 := [.long u1, .ref (K.2.1 1000)]) rfl rfl rfl dX2_isQuarter_9 ⟨Nat.le_of_ble_eq_true rfl, Nat.le_of_ble_eq_true rfl⟩ (fun H locs hw => ?_)
  refine lv_bipush (v := (116:Int32)) hx hb dX2_isQuarter_12 (by decide) ?_
  refine lv_bipush (v := (101:Int32)) hx hb dX2_isQuarter_14 (by decide) ?_
  refine lv_bipush (v := (114:Int32)) hx hb dX2_isQuarter_16 (by decide) ?_
  obtain ⟨u3, g4, h⟩ := qb1_s h
  refine d_S (As := [.int (116:Int32), .int (101:Int32), .int (114:Int32)]) (v0 := some (.long u3)) (w0 := (A, B, L, rs)) hG E hw hl (m_X2_w3 l hG hM  g4) (va_cwS 3 hts (lw_S q1540 q1541 q140 q1542) rfl rfl rfl kd_X2_w3 ⟨Nat.le_of_ble_eq_true rfl, Nat.le_of_ble_eq_true rfl⟩) rfl (rest := [.long u1, .ref (K.2.1 1000)]) (st1 := [.long u3, .long u1, .ref (K.2.1 1000)]) rfl rfl rfl dX2_isQuarter_18 ⟨Nat.le_of_ble_eq_true rfl, Nat.le_of_ble_eq_true rfl⟩ (fun H locs hw => ?_)
  refine lv_iconst (v := (3:Int32)) hx hb dX2_isQuarter_21 (by decide) ?_
  obtain ⟨u5, g6, h⟩ := qb1_s h
  refine d_V (As := [.long u1, .long u3, .int (3:Int32)]) (v0 := some (.int u5)) (w0 := (A, B, L, rs)) hG E hw hl (m_X2_isLong l hG hM  g6) (qM0 hM) rfl (cwV 3 hts (lw_V q1554 q1556 qs67 q140 q1557) rfl rfl rfl ⟨rfl, kd_X2_isLong⟩ ⟨Nat.le_of_ble_eq_true rfl, Nat.le_of_ble_eq_true rfl⟩) rfl (rest := []) (st1 := [.int u5]) rfl rfl rfl dX2_isQuarter_22 ⟨Nat.le_of_ble_eq_true rfl, Nat.le_of_ble_eq_true rfl⟩ (fun H locs hw => ?_)
  obtain ⟨z7, h⟩ := qif_s h
  have h := Option.some.inj h
  have h1 := h
  exact d_iret E hr (qbo_n z7) hw h1 rfl dX2_isQuarter_25

theorem m_X2_isQuarter (l : Launch) {K : QK} {G : State → Prop} (hG : QG G) (hM : QMl K) {A : QA} {rs : QX × QM} {L : QL} {B : QA} {ro : Int32} (h : f_X2_isQuarter B = some ro) : MC l K G yX2_isQuarter (ws_ yX2_isQuarter cX2_isQuarter 1 (some .boolean)) 5 133 0 0 [.ref (K.2.1 1000)] (A, B, L, rs) (QR (some (.int ro)) (A, B, L, rs)) := by
  refine MC.of (by decide) (Nat.le_of_ble_eq_true rfl) (lv := [(0, .ref (K.2.1 1000))]) rfl (fun p e s m below meth c ls E hr hl hw => ?_)
  exact w_X2_isQuarter_0 hG hM E hr _  h hw hl

def f_X2_isGravity (B : QA) : Option (Int32) :=
  qb1 (f_X2_w4 (103:Int32) (114:Int32) (97:Int32) (118:Int32)) fun u1 =>
  qb1 (f_X2_w3 (105:Int32) (116:Int32) (121:Int32)) fun u3 =>
  qb1 (f_X2_isLong u1 u3 (3:Int32) B) fun u5 =>
  qif (qbo u5) <|
  some (u5)
set_option maxHeartbeats 4000000 in
theorem w_X2_isGravity_0 {p : Program} {l : Launch} {e : Env} {s : State} {m : MethodId} {args : Array Value} {below : List Frame} {meth : Method} {c : Code} {K : QK} {G : State → Prop} {A : QA} {rs : QX × QM} {L : QL} {ro : Int32} (hG : QG G) (hM : QMl K) (E : EV K G p s m args meth c cX2_isGravity "VaneCourtModel" 1) (hr : meth.sig.returnType = (some .boolean)) : ∀ (B : QA) {H : Heap} {locs : List Loc} {ls : Array Slot}, f_X2_isGravity B = some ro → WP K (A, B, L, rs) H locs → lv_has ls 1 [(0, .ref (K.2.1 1000))] → W p l e (qrm 5 133 0 0) s m args below meth c H locs 0 0 (MQ below (QE K (QR (some (.int ro)) (A, B, L, rs))) args s 0 0 (qA K)) (F0 m 0 ls []) := by
  have hx := E.1
  have hb := E.2.1
  have hown := E.2.2.1
  have hts := E.2.2.2.2.1
  intro B H locs ls  h hw hl
  rw [f_X2_isGravity] at h
  refine lv_aload_n hx hb dX2_isGravity_0 rfl (lv_at hl 0 rfl) ?_
  refine lv_bipush (v := (103:Int32)) hx hb dX2_isGravity_1 (by decide) ?_
  refine lv_bipush (v := (114:Int32)) hx hb dX2_isGravity_3 (by decide) ?_
  refine lv_bipush (v := (97:Int32)) hx hb dX2_isGravity_5 (by decide) ?_
  refine lv_bipush (v := (118:Int32)) hx hb dX2_isGravity_7 (by decide) ?_
  obtain ⟨u1, g2, h⟩ := qb1_s h
  refine d_S (As := [.int (103:Int32), .int (114:Int32), .int (97:Int32), .int (118:Int32)]) (v0 := some (.long u1)) (w0 := (A, B, L, rs)) hG E hw hl (m_X2_w4 l hG hM  g2) (va_cwS 4 hts (lw_S q1537 q1538 q140 q1539) rfl rfl rfl kd_X2_w4 ⟨Nat.le_of_ble_eq_true rfl, Nat.le_of_ble_eq_true rfl⟩) rfl (rest := [.ref (K.2.1 1000)]) (st1 := [.long u1, .ref (K.2.1 1000)]) rfl rfl rfl dX2_isGravity_9 ⟨Nat.le_of_ble_eq_true rfl, Nat.le_of_ble_eq_true rfl⟩ (fun H locs hw => ?_)
  refine lv_bipush (v := (105:Int32)) hx hb dX2_isGravity_12 (by decide) ?_
  refine lv_bipush (v := (116:Int32)) hx hb dX2_isGravity_14 (by decide) ?_
  refine lv_bipush (v := (121:Int32)) hx hb dX2_isGravity_16 (by decide) ?_
  obtain ⟨u3, g4, h⟩ := qb1_s h
  refine d_S (As := [.int (105:Int32), .int (116:Int32), .int (121:Int32)]) (v0 := some (.long u3)) (w0 := (A, B, L, rs)) hG E hw hl (m_X2_w3 l hG hM  g4) (va_cwS 3 hts (lw_S q1540 q1541 q140 q1542) rfl rfl rfl kd_X2_w3 ⟨Nat.le_of_ble_eq_true rfl, Nat.le_of_ble_eq_true rfl⟩) rfl (rest := [.long u1, .ref (K.2.1 1000)]) (st1 := [.long u3, .long u1, .ref (K.2.1 1000)]) rfl rfl rfl dX2_isGravity_18 ⟨Nat.le_of_ble_eq_true rfl, Nat.le_of_ble_eq_true rfl⟩ (fun H locs hw => ?_)
  refine lv_iconst (v := (3:Int32)) hx hb dX2_isGravity_21 (by decide) ?_
  obtain ⟨u5, g6, h⟩ := qb1_s h
  refine d_V (As := [.long u1, .long u3, .int (3:Int32)]) (v0 := some (.int u5)) (w0 := (A, B, L, rs)) hG E hw hl (m_X2_isLong l hG hM  g6) (qM0 hM) rfl (cwV 3 hts (lw_V q1554 q1556 qs67 q140 q1557) rfl rfl rfl ⟨rfl, kd_X2_isLong⟩ ⟨Nat.le_of_ble_eq_true rfl, Nat.le_of_ble_eq_true rfl⟩) rfl (rest := []) (st1 := [.int u5]) rfl rfl rfl dX2_isGravity_22 ⟨Nat.le_of_ble_eq_true rfl, Nat.le_of_ble_eq_true rfl⟩ (fun H locs hw => ?_)
  obtain ⟨z7, h⟩ := qif_s h
  have h := Option.some.inj h
  have h1 := h
  exact d_iret E hr (qbo_n z7) hw h1 rfl dX2_isGravity_25

theorem m_X2_isGravity (l : Launch) {K : QK} {G : State → Prop} (hG : QG G) (hM : QMl K) {A : QA} {rs : QX × QM} {L : QL} {B : QA} {ro : Int32} (h : f_X2_isGravity B = some ro) : MC l K G yX2_isGravity (ws_ yX2_isGravity cX2_isGravity 1 (some .boolean)) 5 133 0 0 [.ref (K.2.1 1000)] (A, B, L, rs) (QR (some (.int ro)) (A, B, L, rs)) := by
  refine MC.of (by decide) (Nat.le_of_ble_eq_true rfl) (lv := [(0, .ref (K.2.1 1000))]) rfl (fun p e s m below meth c ls E hr hl hw => ?_)
  exact w_X2_isGravity_0 hG hM E hr _  h hw hl

def f_X2_nameOf (B : QA) (L : QL) : Option (Int32) :=
  if (B 1000 9) = (2:Int32) then (
  qb1 (f_X2_w4 (104:Int32) (111:Int32) (117:Int32) (114:Int32)) fun u1 =>
  if (lg_cmp (L 1000 11) u1) = (0:Int32) then (
  some ((0:Int32))) else (
  qb1 (f_X2_isQuarter B) fun u3 =>
  if u3 = (0:Int32) then (
  qb1 (f_X2_w5 (102:Int32) (111:Int32) (114:Int32) (99:Int32) (101:Int32)) fun u5 =>
  if (lg_cmp (L 1000 11) u5) = (0:Int32) then (
  some ((2:Int32))) else (
  qb1 (f_X2_w4 (100:Int32) (114:Int32) (97:Int32) (119:Int32)) fun u7 =>
  if (lg_cmp (L 1000 11) u7) = (0:Int32) then (
  some ((3:Int32))) else (
  qb1 (f_X2_w4 (107:Int32) (105:Int32) (110:Int32) (100:Int32)) fun u9 =>
  if (lg_cmp (L 1000 11) u9) = (0:Int32) then (
  some ((4:Int32))) else (
  qb1 (f_X2_isGravity B) fun u11 =>
  if u11 = (0:Int32) then (
  qb1 (f_X2_w5 (104:Int32) (111:Int32) (117:Int32) (114:Int32) (115:Int32)) fun u13 =>
  if (lg_cmp (L 1000 11) u13) = (0:Int32) then (
  some ((6:Int32))) else (
  qb1 (f_X2_w4 (108:Int32) (97:Int32) (119:Int32) (115:Int32)) fun u15 =>
  if (lg_cmp (L 1000 11) u15) = (0:Int32) then (
  some ((7:Int32))) else (
  some ((-1:Int32))))) else (
  some ((5:Int32))))))) else (
  some ((1:Int32))))) else (
  some ((-1:Int32)))
set_option maxHeartbeats 4000000 in
theorem w_X2_nameOf_0 {p : Program} {l : Launch} {e : Env} {s : State} {m : MethodId} {args : Array Value} {below : List Frame} {meth : Method} {c : Code} {K : QK} {G : State → Prop} {A : QA} {rs : QX × QM} {ro : Int32} (hG : QG G) (hM : QMl K) (E : EV K G p s m args meth c cX2_nameOf "VaneCourtModel" 1) (hr : meth.sig.returnType = (some .int)) : ∀ (B : QA) (L : QL) {H : Heap} {locs : List Loc} {ls : Array Slot}, f_X2_nameOf B L = some ro → WP K (A, B, L, rs) H locs → lv_has ls 1 [(0, .ref (K.2.1 1000))] → W p l e (qrm 6 153 0 0) s m args below meth c H locs 0 0 (MQ below (QE K (QR (some (.int ro)) (A, B, L, rs))) args s 0 0 (qA K)) (F0 m 0 ls []) := by
  have hx := E.1
  have hb := E.2.1
  have hown := E.2.2.1
  have hts := E.2.2.2.2.1
  intro B L H locs ls  h hw hl
  rw [f_X2_nameOf] at h
  refine lv_aload_n hx hb dX2_nameOf_0 rfl (lv_at hl 0 rfl) ?_
  refine r_getM (v := .int (B 1000 9)) E hw hM 9 (by decide) q1362 rfl dX2_nameOf_1 ?_
  refine lv_iconst (v := (2:Int32)) hx hb dX2_nameOf_4 (by decide) ?_
  refine lv_icmp_eq (tgt := 10) hx hb dX2_nameOf_5 (by decide) (fun c => ?_) (fun c => ?_)
  · have h := qi_t c h
    refine lv_aload_n hx hb dX2_nameOf_10 rfl (lv_at hl 0 rfl) ?_
    refine r_getM (v := .long (L 1000 11)) E hw hM 11 (by decide) q1364 rfl dX2_nameOf_11 ?_
    refine lv_bipush (v := (104:Int32)) hx hb dX2_nameOf_14 (by decide) ?_
    refine lv_bipush (v := (111:Int32)) hx hb dX2_nameOf_16 (by decide) ?_
    refine lv_bipush (v := (117:Int32)) hx hb dX2_nameOf_18 (by decide) ?_
    refine lv_bipush (v := (114:Int32)) hx hb dX2_nameOf_20 (by decide) ?_
    obtain ⟨u1, g2, h⟩ := qb1_s h
    refine d_S (As := [.int (104:Int32), .int (111:Int32), .int (117:Int32), .int (114:Int32)]) (v0 := some (.long u1)) (w0 := (A, B, L, rs)) hG E hw hl (m_X2_w4 l hG hM  g2) (va_cwS 4 hts (lw_S q1537 q1538 q140 q1539) rfl rfl rfl kd_X2_w4 ⟨Nat.le_of_ble_eq_true rfl, Nat.le_of_ble_eq_true rfl⟩) rfl (rest := [.long (L 1000 11)]) (st1 := [.long u1, .long (L 1000 11)]) rfl rfl rfl dX2_nameOf_22 ⟨Nat.le_of_ble_eq_true rfl, Nat.le_of_ble_eq_true rfl⟩ (fun H locs hw => ?_)
    refine W.lcmp hx hb dX2_nameOf_25 ?_
    refine lv_if_ne (tgt := 31) hx hb dX2_nameOf_26 (by decide) (fun c => ?_) (fun c => ?_)
    · have h := qi_f c h
      refine lv_aload_n hx hb dX2_nameOf_31 rfl (lv_at hl 0 rfl) ?_
      obtain ⟨u3, g4, h⟩ := qb1_s h
      refine d_V (As := []) (v0 := some (.int u3)) (w0 := (A, B, L, rs)) hG E hw hl (m_X2_isQuarter l hG hM  g4) (qM0 hM) rfl (cwV 0 hts (lw_V q1639 q1641 qs86 q140 q1642) rfl rfl rfl ⟨rfl, kd_X2_isQuarter⟩ ⟨Nat.le_of_ble_eq_true rfl, Nat.le_of_ble_eq_true rfl⟩) rfl (rest := []) (st1 := [.int u3]) rfl rfl rfl dX2_nameOf_32 ⟨Nat.le_of_ble_eq_true rfl, Nat.le_of_ble_eq_true rfl⟩ (fun H locs hw => ?_)
      refine lv_if_eq (tgt := 40) hx hb dX2_nameOf_35 (by decide) (fun c => ?_) (fun c => ?_)
      · have h := qi_t c h
        refine lv_aload_n hx hb dX2_nameOf_40 rfl (lv_at hl 0 rfl) ?_
        refine r_getM (v := .long (L 1000 11)) E hw hM 11 (by decide) q1364 rfl dX2_nameOf_41 ?_
        refine lv_bipush (v := (102:Int32)) hx hb dX2_nameOf_44 (by decide) ?_
        refine lv_bipush (v := (111:Int32)) hx hb dX2_nameOf_46 (by decide) ?_
        refine lv_bipush (v := (114:Int32)) hx hb dX2_nameOf_48 (by decide) ?_
        refine lv_bipush (v := (99:Int32)) hx hb dX2_nameOf_50 (by decide) ?_
        refine lv_bipush (v := (101:Int32)) hx hb dX2_nameOf_52 (by decide) ?_
        obtain ⟨u5, g6, h⟩ := qb1_s h
        refine d_S (As := [.int (102:Int32), .int (111:Int32), .int (114:Int32), .int (99:Int32), .int (101:Int32)]) (v0 := some (.long u5)) (w0 := (A, B, L, rs)) hG E hw hl (m_X2_w5 l hG hM  g6) (va_cwS 5 hts (lw_S q1534 q1535 q140 q1536) rfl rfl rfl kd_X2_w5 ⟨Nat.le_of_ble_eq_true rfl, Nat.le_of_ble_eq_true rfl⟩) rfl (rest := [.long (L 1000 11)]) (st1 := [.long u5, .long (L 1000 11)]) rfl rfl rfl dX2_nameOf_54 ⟨Nat.le_of_ble_eq_true rfl, Nat.le_of_ble_eq_true rfl⟩ (fun H locs hw => ?_)
        refine W.lcmp hx hb dX2_nameOf_57 ?_
        refine lv_if_ne (tgt := 63) hx hb dX2_nameOf_58 (by decide) (fun c => ?_) (fun c => ?_)
        · have h := qi_f c h
          refine lv_aload_n hx hb dX2_nameOf_63 rfl (lv_at hl 0 rfl) ?_
          refine r_getM (v := .long (L 1000 11)) E hw hM 11 (by decide) q1364 rfl dX2_nameOf_64 ?_
          refine lv_bipush (v := (100:Int32)) hx hb dX2_nameOf_67 (by decide) ?_
          refine lv_bipush (v := (114:Int32)) hx hb dX2_nameOf_69 (by decide) ?_
          refine lv_bipush (v := (97:Int32)) hx hb dX2_nameOf_71 (by decide) ?_
          refine lv_bipush (v := (119:Int32)) hx hb dX2_nameOf_73 (by decide) ?_
          obtain ⟨u7, g8, h⟩ := qb1_s h
          refine d_S (As := [.int (100:Int32), .int (114:Int32), .int (97:Int32), .int (119:Int32)]) (v0 := some (.long u7)) (w0 := (A, B, L, rs)) hG E hw hl (m_X2_w4 l hG hM  g8) (va_cwS 4 hts (lw_S q1537 q1538 q140 q1539) rfl rfl rfl kd_X2_w4 ⟨Nat.le_of_ble_eq_true rfl, Nat.le_of_ble_eq_true rfl⟩) rfl (rest := [.long (L 1000 11)]) (st1 := [.long u7, .long (L 1000 11)]) rfl rfl rfl dX2_nameOf_75 ⟨Nat.le_of_ble_eq_true rfl, Nat.le_of_ble_eq_true rfl⟩ (fun H locs hw => ?_)
          refine W.lcmp hx hb dX2_nameOf_78 ?_
          refine lv_if_ne (tgt := 84) hx hb dX2_nameOf_79 (by decide) (fun c => ?_) (fun c => ?_)
          · have h := qi_f c h
            refine lv_aload_n hx hb dX2_nameOf_84 rfl (lv_at hl 0 rfl) ?_
            refine r_getM (v := .long (L 1000 11)) E hw hM 11 (by decide) q1364 rfl dX2_nameOf_85 ?_
            refine lv_bipush (v := (107:Int32)) hx hb dX2_nameOf_88 (by decide) ?_
            refine lv_bipush (v := (105:Int32)) hx hb dX2_nameOf_90 (by decide) ?_
            refine lv_bipush (v := (110:Int32)) hx hb dX2_nameOf_92 (by decide) ?_
            refine lv_bipush (v := (100:Int32)) hx hb dX2_nameOf_94 (by decide) ?_
            obtain ⟨u9, g10, h⟩ := qb1_s h
            refine d_S (As := [.int (107:Int32), .int (105:Int32), .int (110:Int32), .int (100:Int32)]) (v0 := some (.long u9)) (w0 := (A, B, L, rs)) hG E hw hl (m_X2_w4 l hG hM  g10) (va_cwS 4 hts (lw_S q1537 q1538 q140 q1539) rfl rfl rfl kd_X2_w4 ⟨Nat.le_of_ble_eq_true rfl, Nat.le_of_ble_eq_true rfl⟩) rfl (rest := [.long (L 1000 11)]) (st1 := [.long u9, .long (L 1000 11)]) rfl rfl rfl dX2_nameOf_96 ⟨Nat.le_of_ble_eq_true rfl, Nat.le_of_ble_eq_true rfl⟩ (fun H locs hw => ?_)
            refine W.lcmp hx hb dX2_nameOf_99 ?_
            refine lv_if_ne (tgt := 105) hx hb dX2_nameOf_100 (by decide) (fun c => ?_) (fun c => ?_)
            · have h := qi_f c h
              refine lv_aload_n hx hb dX2_nameOf_105 rfl (lv_at hl 0 rfl) ?_
              obtain ⟨u11, g12, h⟩ := qb1_s h
              refine d_V (As := []) (v0 := some (.int u11)) (w0 := (A, B, L, rs)) hG E hw hl (m_X2_isGravity l hG hM  g12) (qM0 hM) rfl (cwV 0 hts (lw_V q1643 q1645 qs87 q140 q1646) rfl rfl rfl ⟨rfl, kd_X2_isGravity⟩ ⟨Nat.le_of_ble_eq_true rfl, Nat.le_of_ble_eq_true rfl⟩) rfl (rest := []) (st1 := [.int u11]) rfl rfl rfl dX2_nameOf_106 ⟨Nat.le_of_ble_eq_true rfl, Nat.le_of_ble_eq_true rfl⟩ (fun H locs hw => ?_)
              refine lv_if_eq (tgt := 114) hx hb dX2_nameOf_109 (by decide) (fun c => ?_) (fun c => ?_)
              · have h := qi_t c h
                refine lv_aload_n hx hb dX2_nameOf_114 rfl (lv_at hl 0 rfl) ?_
                refine r_getM (v := .long (L 1000 11)) E hw hM 11 (by decide) q1364 rfl dX2_nameOf_115 ?_
                refine lv_bipush (v := (104:Int32)) hx hb dX2_nameOf_118 (by decide) ?_
                refine lv_bipush (v := (111:Int32)) hx hb dX2_nameOf_120 (by decide) ?_
                refine lv_bipush (v := (117:Int32)) hx hb dX2_nameOf_122 (by decide) ?_
                refine lv_bipush (v := (114:Int32)) hx hb dX2_nameOf_124 (by decide) ?_
                refine lv_bipush (v := (115:Int32)) hx hb dX2_nameOf_126 (by decide) ?_
                obtain ⟨u13, g14, h⟩ := qb1_s h
                refine d_S (As := [.int (104:Int32), .int (111:Int32), .int (117:Int32), .int (114:Int32), .int (115:Int32)]) (v0 := some (.long u13)) (w0 := (A, B, L, rs)) hG E hw hl (m_X2_w5 l hG hM  g14) (va_cwS 5 hts (lw_S q1534 q1535 q140 q1536) rfl rfl rfl kd_X2_w5 ⟨Nat.le_of_ble_eq_true rfl, Nat.le_of_ble_eq_true rfl⟩) rfl (rest := [.long (L 1000 11)]) (st1 := [.long u13, .long (L 1000 11)]) rfl rfl rfl dX2_nameOf_128 ⟨Nat.le_of_ble_eq_true rfl, Nat.le_of_ble_eq_true rfl⟩ (fun H locs hw => ?_)
                refine W.lcmp hx hb dX2_nameOf_131 ?_
                refine lv_if_ne (tgt := 140) hx hb dX2_nameOf_132 (by decide) (fun c => ?_) (fun c => ?_)
                · have h := qi_f c h
                  refine lv_aload_n hx hb dX2_nameOf_140 rfl (lv_at hl 0 rfl) ?_
                  refine r_getM (v := .long (L 1000 11)) E hw hM 11 (by decide) q1364 rfl dX2_nameOf_141 ?_
                  refine lv_bipush (v := (108:Int32)) hx hb dX2_nameOf_144 (by decide) ?_
                  refine lv_bipush (v := (97:Int32)) hx hb dX2_nameOf_146 (by decide) ?_
                  refine lv_bipush (v := (119:Int32)) hx hb dX2_nameOf_148 (by decide) ?_
                  refine lv_bipush (v := (115:Int32)) hx hb dX2_nameOf_150 (by decide) ?_
                  obtain ⟨u15, g16, h⟩ := qb1_s h
                  refine d_S (As := [.int (108:Int32), .int (97:Int32), .int (119:Int32), .int (115:Int32)]) (v0 := some (.long u15)) (w0 := (A, B, L, rs)) hG E hw hl (m_X2_w4 l hG hM  g16) (va_cwS 4 hts (lw_S q1537 q1538 q140 q1539) rfl rfl rfl kd_X2_w4 ⟨Nat.le_of_ble_eq_true rfl, Nat.le_of_ble_eq_true rfl⟩) rfl (rest := [.long (L 1000 11)]) (st1 := [.long u15, .long (L 1000 11)]) rfl rfl rfl dX2_nameOf_152 ⟨Nat.le_of_ble_eq_true rfl, Nat.le_of_ble_eq_true rfl⟩ (fun H locs hw => ?_)
                  refine W.lcmp hx hb dX2_nameOf_155 ?_
                  refine lv_if_ne (tgt := 164) hx hb dX2_nameOf_156 (by decide) (fun c => ?_) (fun c => ?_)
                  · have h := qi_f c h
                    refine lv_iconst (v := (-1:Int32)) hx hb dX2_nameOf_164 (by decide) ?_
                    have h := Option.some.inj h
                    have h1 := h
                    exact d_iret E hr rfl hw h1 rfl dX2_nameOf_165
                  · have h := qi_t c h
                    refine lv_bipush (v := (7:Int32)) hx hb dX2_nameOf_159 (by decide) ?_
                    refine lv_goto (tgt := 165) hx hb dX2_nameOf_161 (by decide) ?_
                    have h := Option.some.inj h
                    have h1 := h
                    exact d_iret E hr rfl hw h1 rfl dX2_nameOf_165
                · have h := qi_t c h
                  refine lv_bipush (v := (6:Int32)) hx hb dX2_nameOf_135 (by decide) ?_
                  refine lv_goto (tgt := 165) hx hb dX2_nameOf_137 (by decide) ?_
                  have h := Option.some.inj h
                  have h1 := h
                  exact d_iret E hr rfl hw h1 rfl dX2_nameOf_165
              · have h := qi_f c h
                refine lv_iconst (v := (5:Int32)) hx hb dX2_nameOf_112 (by decide) ?_
                have h := Option.some.inj h
                have h1 := h
                exact d_iret E hr rfl hw h1 rfl dX2_nameOf_113
            · have h := qi_t c h
              refine lv_iconst (v := (4:Int32)) hx hb dX2_nameOf_103 (by decide) ?_
              have h := Option.some.inj h
              have h1 := h
              exact d_iret E hr rfl hw h1 rfl dX2_nameOf_104
          · have h := qi_t c h
            refine lv_iconst (v := (3:Int32)) hx hb dX2_nameOf_82 (by decide) ?_
            have h := Option.some.inj h
            have h1 := h
            exact d_iret E hr rfl hw h1 rfl dX2_nameOf_83
        · have h := qi_t c h
          refine lv_iconst (v := (2:Int32)) hx hb dX2_nameOf_61 (by decide) ?_
          have h := Option.some.inj h
          have h1 := h
          exact d_iret E hr rfl hw h1 rfl dX2_nameOf_62
      · have h := qi_f c h
        refine lv_iconst (v := (1:Int32)) hx hb dX2_nameOf_38 (by decide) ?_
        have h := Option.some.inj h
        have h1 := h
        exact d_iret E hr rfl hw h1 rfl dX2_nameOf_39
    · have h := qi_t c h
      refine lv_iconst (v := (0:Int32)) hx hb dX2_nameOf_29 (by decide) ?_
      have h := Option.some.inj h
      have h1 := h
      exact d_iret E hr rfl hw h1 rfl dX2_nameOf_30
  · have h := qi_f c h
    refine lv_iconst (v := (-1:Int32)) hx hb dX2_nameOf_8 (by decide) ?_
    have h := Option.some.inj h
    have h1 := h
    exact d_iret E hr rfl hw h1 rfl dX2_nameOf_9

theorem m_X2_nameOf (l : Launch) {K : QK} {G : State → Prop} (hG : QG G) (hM : QMl K) {A : QA} {rs : QX × QM} {B : QA} {L : QL} {ro : Int32} (h : f_X2_nameOf B L = some ro) : MC l K G yX2_nameOf (ws_ yX2_nameOf cX2_nameOf 1 (some .int)) 6 153 0 0 [.ref (K.2.1 1000)] (A, B, L, rs) (QR (some (.int ro)) (A, B, L, rs)) := by
  refine MC.of (by decide) (Nat.le_of_ble_eq_true rfl) (lv := [(0, .ref (K.2.1 1000))]) rfl (fun p e s m below meth c ls E hr hl hw => ?_)
  exact w_X2_nameOf_0 hG hM E hr _ _  h hw hl

def f_X2_isOf (x1 : Int32) (B : QA) : Option (Int32) :=
  if (3:Int32) ≤ x1 then (
  if x1 = (3:Int32) then (
  if (2:Int32) < (B 1000 14) then (
  some ((0:Int32))) else (
  some ((1:Int32)))) else (
  if (7:Int32) ≤ x1 then (
  if (B 1000 14) = (3:Int32) then (
  some ((1:Int32))) else (
  some ((0:Int32)))) else (
  if (B 1000 14) < (3:Int32) then (
  some ((0:Int32))) else (
  some ((1:Int32)))))) else (
  some ((1:Int32)))
set_option maxHeartbeats 4000000 in
theorem w_X2_isOf_0 {p : Program} {l : Launch} {e : Env} {s : State} {m : MethodId} {args : Array Value} {below : List Frame} {meth : Method} {c : Code} {K : QK} {G : State → Prop} {A : QA} {rs : QX × QM} {L : QL} {ro : Int32} (hG : QG G) (hM : QMl K) (E : EV K G p s m args meth c cX2_isOf "VaneCourtModel" 2) (hr : meth.sig.returnType = (some .boolean)) : ∀ (x1 : Int32) (B : QA) {H : Heap} {locs : List Loc} {ls : Array Slot}, f_X2_isOf x1 B = some ro → WP K (A, B, L, rs) H locs → lv_has ls 2 [(0, .ref (K.2.1 1000)), (1, .int x1)] → W p l e (qrm 1 40 0 0) s m args below meth c H locs 0 0 (MQ below (QE K (QR (some (.int ro)) (A, B, L, rs))) args s 0 0 (qA K)) (F0 m 0 ls []) := by
  have hx := E.1
  have hb := E.2.1
  have hown := E.2.2.1
  have hts := E.2.2.2.2.1
  intro x1 B H locs ls  h hw hl
  rw [f_X2_isOf] at h
  refine lv_iload_n hx hb dX2_isOf_0 rfl (lv_at hl 1 rfl) ?_
  refine lv_iconst (v := (3:Int32)) hx hb dX2_isOf_1 (by decide) ?_
  refine lv_icmp_ge (tgt := 7) hx hb dX2_isOf_2 (by decide) (fun c => ?_) (fun c => ?_)
  · have h := qi_t c h
    refine lv_iload_n hx hb dX2_isOf_7 rfl (lv_at hl 1 rfl) ?_
    refine lv_iconst (v := (3:Int32)) hx hb dX2_isOf_8 (by decide) ?_
    refine lv_icmp_ne (tgt := 26) hx hb dX2_isOf_9 (by decide) (fun c => ?_) (fun c => ?_)
    · have h := qi_f c h
      refine lv_iload_n hx hb dX2_isOf_26 rfl (lv_at hl 1 rfl) ?_
      refine lv_bipush (v := (7:Int32)) hx hb dX2_isOf_27 (by decide) ?_
      refine lv_icmp_ge (tgt := 48) hx hb dX2_isOf_29 (by decide) (fun c => ?_) (fun c => ?_)
      · have h := qi_t c h
        refine lv_aload_n hx hb dX2_isOf_48 rfl (lv_at hl 0 rfl) ?_
        refine r_getM (v := .int (B 1000 14)) E hw hM 14 (by decide) q1367 rfl dX2_isOf_49 ?_
        refine lv_iconst (v := (3:Int32)) hx hb dX2_isOf_52 (by decide) ?_
        refine lv_icmp_ne (tgt := 60) hx hb dX2_isOf_53 (by decide) (fun c => ?_) (fun c => ?_)
        · have h := qi_f c h
          refine lv_iconst (v := (0:Int32)) hx hb dX2_isOf_60 (by decide) ?_
          have h := Option.some.inj h
          have h1 := h
          exact d_iret E hr rfl hw h1 rfl dX2_isOf_61
        · have h := qi_t c h
          refine lv_iconst (v := (1:Int32)) hx hb dX2_isOf_56 (by decide) ?_
          refine lv_goto (tgt := 61) hx hb dX2_isOf_57 (by decide) ?_
          have h := Option.some.inj h
          have h1 := h
          exact d_iret E hr rfl hw h1 rfl dX2_isOf_61
      · have h := qi_f c h
        refine lv_aload_n hx hb dX2_isOf_32 rfl (lv_at hl 0 rfl) ?_
        refine r_getM (v := .int (B 1000 14)) E hw hM 14 (by decide) q1367 rfl dX2_isOf_33 ?_
        refine lv_iconst (v := (3:Int32)) hx hb dX2_isOf_36 (by decide) ?_
        refine lv_icmp_lt (tgt := 44) hx hb dX2_isOf_37 (by decide) (fun c => ?_) (fun c => ?_)
        · have h := qi_t c h
          refine lv_iconst (v := (0:Int32)) hx hb dX2_isOf_44 (by decide) ?_
          refine lv_goto (tgt := 61) hx hb dX2_isOf_45 (by decide) ?_
          have h := Option.some.inj h
          have h1 := h
          exact d_iret E hr rfl hw h1 rfl dX2_isOf_61
        · have h := qi_f c h
          refine lv_iconst (v := (1:Int32)) hx hb dX2_isOf_40 (by decide) ?_
          refine lv_goto (tgt := 61) hx hb dX2_isOf_41 (by decide) ?_
          have h := Option.some.inj h
          have h1 := h
          exact d_iret E hr rfl hw h1 rfl dX2_isOf_61
    · have h := qi_t c h
      refine lv_aload_n hx hb dX2_isOf_12 rfl (lv_at hl 0 rfl) ?_
      refine r_getM (v := .int (B 1000 14)) E hw hM 14 (by decide) q1367 rfl dX2_isOf_13 ?_
      refine lv_iconst (v := (2:Int32)) hx hb dX2_isOf_16 (by decide) ?_
      refine lv_icmp_gt (tgt := 24) hx hb dX2_isOf_17 (by decide) (fun c => ?_) (fun c => ?_)
      · have h := qi_t c h
        refine lv_iconst (v := (0:Int32)) hx hb dX2_isOf_24 (by decide) ?_
        have h := Option.some.inj h
        have h1 := h
        exact d_iret E hr rfl hw h1 rfl dX2_isOf_25
      · have h := qi_f c h
        refine lv_iconst (v := (1:Int32)) hx hb dX2_isOf_20 (by decide) ?_
        refine lv_goto (tgt := 25) hx hb dX2_isOf_21 (by decide) ?_
        have h := Option.some.inj h
        have h1 := h
        exact d_iret E hr rfl hw h1 rfl dX2_isOf_25
  · have h := qi_f c h
    refine lv_iconst (v := (1:Int32)) hx hb dX2_isOf_5 (by decide) ?_
    have h := Option.some.inj h
    have h1 := h
    exact d_iret E hr rfl hw h1 rfl dX2_isOf_6

theorem m_X2_isOf (l : Launch) {K : QK} {G : State → Prop} (hG : QG G) (hM : QMl K) {A : QA} {rs : QX × QM} {L : QL} {x1 : Int32} {B : QA} {ro : Int32} (h : f_X2_isOf x1 B = some ro) : MC l K G yX2_isOf (ws_ yX2_isOf cX2_isOf 2 (some .boolean)) 1 40 0 0 [.ref (K.2.1 1000), .int x1] (A, B, L, rs) (QR (some (.int ro)) (A, B, L, rs)) := by
  refine MC.of (by decide) (Nat.le_of_ble_eq_true rfl) (lv := [(0, .ref (K.2.1 1000)), (1, .int x1)]) rfl (fun p e s m below meth c ls E hr hl hw => ?_)
  exact w_X2_isOf_0 hG hM E hr _ _  h hw hl

def f_X2_opened (x1 : Int32) (B : QA) (L : QL) : Option (Int32 × QA × QL) :=
  if (B 1000 18) = (8:Int32) then (
  some ((3:Int32), B, L)) else (
  qlet (qu B 1000 18 ((B 1000 18) + (1:Int32))) fun B1 =>
  qif (qok (B1 1000 17) 160) <|
  qlet (qu B1 1005 (B1 1000 17).toNatClampNeg x1) fun B4 =>
  qlet (qu B4 1000 17 ((B4 1000 17) + (1:Int32))) fun B6 =>
  qb2 (f_X2_nextToken B6 L) fun B8 L9 =>
  if x1 = (41:Int32) then (
  if (B8 1000 9) = (40:Int32) then (
  qif (qok (B8 1000 19) 9) <|
  qlet (qu B8 1006 (B8 1000 19).toNatClampNeg (1:Int32)) fun B12 =>
  qlet (qu B12 1000 19 ((B12 1000 19) + (1:Int32))) fun B14 =>
  qb2 (f_X2_nextToken B14 L9) fun B16 L17 =>
  some ((0:Int32), B16, L17)) else (
  some ((1:Int32), B8, L9))) else (
  some ((0:Int32), B8, L9)))
set_option maxHeartbeats 4000000 in
theorem w_X2_opened_0 {p : Program} {l : Launch} {e : Env} {s : State} {m : MethodId} {args : Array Value} {below : List Frame} {meth : Method} {c : Code} {K : QK} {G : State → Prop} {A : QA} {rs : QX × QM} {ro : Int32} {Bo : QA} {Lo : QL} (hG : QG G) (hM : QMl K) (E : EV K G p s m args meth c cX2_opened "VaneCourtModel" 2) (hr : meth.sig.returnType = (some .int)) : ∀ (x1 : Int32) (B : QA) (L : QL) {H : Heap} {locs : List Loc} {ls : Array Slot}, f_X2_opened x1 B L = some (ro, Bo, Lo) → WP K (A, B, L, rs) H locs → lv_has ls 2 [(0, .ref (K.2.1 1000)), (1, .int x1)] → W p l e (qrm 3 82 0 0) s m args below meth c H locs 0 0 (MQ below (QE K (QR (some (.int ro)) (A, Bo, Lo, rs))) args s 0 0 (qA K)) (F0 m 0 ls []) := by
  have hx := E.1
  have hb := E.2.1
  have hown := E.2.2.1
  have hts := E.2.2.2.2.1
  intro x1 B L H locs ls  h hw hl
  rw [f_X2_opened] at h
  refine lv_aload_n hx hb dX2_opened_0 rfl (lv_at hl 0 rfl) ?_
  refine r_getM (v := .int (B 1000 18)) E hw hM 18 (by decide) q1371 rfl dX2_opened_1 ?_
  refine lv_bipush (v := (8:Int32)) hx hb dX2_opened_4 (by decide) ?_
  refine lv_icmp_ne (tgt := 11) hx hb dX2_opened_6 (by decide) (fun c => ?_) (fun c => ?_)
  · have h := qi_f c h
    refine lv_aload_n hx hb dX2_opened_11 rfl (lv_at hl 0 rfl) ?_
    refine lv_dup hx hb dX2_opened_12 rfl ?_
    refine r_getM (v := .int (B 1000 18)) E hw hM 18 (by decide) q1371 rfl dX2_opened_13 ?_
    refine lv_iconst (v := (1:Int32)) hx hb dX2_opened_16 (by decide) ?_
    refine lv_iadd hx hb dX2_opened_17 ?_
    obtain ⟨B1, e2, h⟩ := qlet_s h
    refine r_putM E hw hM 18 (by decide) q1371 rfl rfl rfl (fun _ _ => rfl) dX2_opened_18 (fun H locs hw => ?_)
    rw [← e2] at hw
    refine lv_aload_n hx hb dX2_opened_21 rfl (lv_at hl 0 rfl) ?_
    refine r_getM (v := .ref (K.2.1 1005)) E hw hM 15 (by decide) q1368 rfl dX2_opened_22 ?_
    refine lv_aload_n hx hb dX2_opened_25 rfl (lv_at hl 0 rfl) ?_
    refine r_getM (v := .int (B1 1000 17)) E hw hM 17 (by decide) q1370 rfl dX2_opened_26 ?_
    refine lv_iload_n hx hb dX2_opened_29 rfl (lv_at hl 1 rfl) ?_
    obtain ⟨z3, h⟩ := qif_s h
    obtain ⟨B4, e5, h⟩ := qlet_s h
    refine r_iastB (j := (B1 1000 17).toNatClampNeg) E hw (qi_1005 hM) (qok_in z3) rfl dX2_opened_30 (fun H locs hw => ?_)
    rw [← e5] at hw
    refine lv_aload_n hx hb dX2_opened_31 rfl (lv_at hl 0 rfl) ?_
    refine lv_dup hx hb dX2_opened_32 rfl ?_
    refine r_getM (v := .int (B4 1000 17)) E hw hM 17 (by decide) q1370 rfl dX2_opened_33 ?_
    refine lv_iconst (v := (1:Int32)) hx hb dX2_opened_36 (by decide) ?_
    refine lv_iadd hx hb dX2_opened_37 ?_
    obtain ⟨B6, e7, h⟩ := qlet_s h
    refine r_putM E hw hM 17 (by decide) q1370 rfl rfl rfl (fun _ _ => rfl) dX2_opened_38 (fun H locs hw => ?_)
    rw [← e7] at hw
    refine lv_aload_n hx hb dX2_opened_41 rfl (lv_at hl 0 rfl) ?_
    obtain ⟨B8, L9, g10, h⟩ := qb2_s h
    refine d_V (As := []) (v0 := none) (w0 := (A, B8, L9, rs)) hG E hw hl (m_X2_nextToken l hG hM  g10) (qM0 hM) rfl (cwV 0 hts (lw_V q1507 q1509 qs61 q140 q1510) rfl rfl rfl ⟨rfl, kd_X2_nextToken⟩ ⟨Nat.le_of_ble_eq_true rfl, Nat.le_of_ble_eq_true rfl⟩) rfl (rest := []) (st1 := []) rfl rfl rfl dX2_opened_42 ⟨Nat.le_of_ble_eq_true rfl, Nat.le_of_ble_eq_true rfl⟩ (fun H locs hw => ?_)
    refine lv_iload_n hx hb dX2_opened_45 rfl (lv_at hl 1 rfl) ?_
    refine lv_bipush (v := (41:Int32)) hx hb dX2_opened_46 (by decide) ?_
    refine lv_icmp_eq (tgt := 53) hx hb dX2_opened_48 (by decide) (fun c => ?_) (fun c => ?_)
    · have h := qi_t c h
      refine lv_aload_n hx hb dX2_opened_53 rfl (lv_at hl 0 rfl) ?_
      refine r_getM (v := .int (B8 1000 9)) E hw hM 9 (by decide) q1362 rfl dX2_opened_54 ?_
      refine lv_bipush (v := (40:Int32)) hx hb dX2_opened_57 (by decide) ?_
      refine lv_icmp_eq (tgt := 64) hx hb dX2_opened_59 (by decide) (fun c => ?_) (fun c => ?_)
      · have h := qi_t c h
        refine lv_aload_n hx hb dX2_opened_64 rfl (lv_at hl 0 rfl) ?_
        refine r_getM (v := .ref (K.2.1 1006)) E hw hM 16 (by decide) q1369 rfl dX2_opened_65 ?_
        refine lv_aload_n hx hb dX2_opened_68 rfl (lv_at hl 0 rfl) ?_
        refine r_getM (v := .int (B8 1000 19)) E hw hM 19 (by decide) q1372 rfl dX2_opened_69 ?_
        refine lv_iconst (v := (1:Int32)) hx hb dX2_opened_72 (by decide) ?_
        obtain ⟨z11, h⟩ := qif_s h
        obtain ⟨B12, e13, h⟩ := qlet_s h
        refine r_iastB (j := (B8 1000 19).toNatClampNeg) E hw (qi_1006 hM) (qok_in z11) rfl dX2_opened_73 (fun H locs hw => ?_)
        rw [← e13] at hw
        refine lv_aload_n hx hb dX2_opened_74 rfl (lv_at hl 0 rfl) ?_
        refine lv_dup hx hb dX2_opened_75 rfl ?_
        refine r_getM (v := .int (B12 1000 19)) E hw hM 19 (by decide) q1372 rfl dX2_opened_76 ?_
        refine lv_iconst (v := (1:Int32)) hx hb dX2_opened_79 (by decide) ?_
        refine lv_iadd hx hb dX2_opened_80 ?_
        obtain ⟨B14, e15, h⟩ := qlet_s h
        refine r_putM E hw hM 19 (by decide) q1372 rfl rfl rfl (fun _ _ => rfl) dX2_opened_81 (fun H locs hw => ?_)
        rw [← e15] at hw
        refine lv_aload_n hx hb dX2_opened_84 rfl (lv_at hl 0 rfl) ?_
        obtain ⟨B16, L17, g18, h⟩ := qb2_s h
        refine d_V (As := []) (v0 := none) (w0 := (A, B16, L17, rs)) hG E hw hl (m_X2_nextToken l hG hM  g18) (qM0 hM) rfl (cwV 0 hts (lw_V q1507 q1509 qs61 q140 q1510) rfl rfl rfl ⟨rfl, kd_X2_nextToken⟩ ⟨Nat.le_of_ble_eq_true rfl, Nat.le_of_ble_eq_true rfl⟩) rfl (rest := []) (st1 := []) rfl rfl rfl dX2_opened_85 ⟨Nat.le_of_ble_eq_true rfl, Nat.le_of_ble_eq_true rfl⟩ (fun H locs hw => ?_)
        refine lv_iconst (v := (0:Int32)) hx hb dX2_opened_88 (by decide) ?_
        have h := Option.some.inj h
        obtain ⟨h1, h2⟩ := Prod.mk.inj h
        obtain ⟨h2, h3⟩ := Prod.mk.inj h2
        exact d_iret E hr rfl hw h1 (by rw [h2, h3]) dX2_opened_89
      · have h := qi_f c h
        refine lv_iconst (v := (1:Int32)) hx hb dX2_opened_62 (by decide) ?_
        have h := Option.some.inj h
        obtain ⟨h1, h2⟩ := Prod.mk.inj h
        obtain ⟨h2, h3⟩ := Prod.mk.inj h2
        exact d_iret E hr rfl hw h1 (by rw [h2, h3]) dX2_opened_63
    · have h := qi_f c h
      refine lv_iconst (v := (0:Int32)) hx hb dX2_opened_51 (by decide) ?_
      have h := Option.some.inj h
      obtain ⟨h1, h2⟩ := Prod.mk.inj h
      obtain ⟨h2, h3⟩ := Prod.mk.inj h2
      exact d_iret E hr rfl hw h1 (by rw [h2, h3]) dX2_opened_52
  · have h := qi_t c h
    refine lv_iconst (v := (3:Int32)) hx hb dX2_opened_9 (by decide) ?_
    have h := Option.some.inj h
    obtain ⟨h1, h2⟩ := Prod.mk.inj h
    obtain ⟨h2, h3⟩ := Prod.mk.inj h2
    exact d_iret E hr rfl hw h1 (by rw [h2, h3]) dX2_opened_10

theorem m_X2_opened (l : Launch) {K : QK} {G : State → Prop} (hG : QG G) (hM : QMl K) {A : QA} {rs : QX × QM} {x1 : Int32} {B : QA} {L : QL} {ro : Int32} {Bo : QA} {Lo : QL} (h : f_X2_opened x1 B L = some (ro, Bo, Lo)) : MC l K G yX2_opened (ws_ yX2_opened cX2_opened 2 (some .int)) 3 82 0 0 [.ref (K.2.1 1000), .int x1] (A, B, L, rs) (QR (some (.int ro)) (A, Bo, Lo, rs)) := by
  refine MC.of (by decide) (Nat.le_of_ble_eq_true rfl) (lv := [(0, .ref (K.2.1 1000)), (1, .int x1)]) rfl (fun p e s m below meth c ls E hr hl hw => ?_)
  exact w_X2_opened_0 hG hM E hr _ _ _  h hw hl

def f_X2_isAskAhead (B : QA) : Option (Int32) :=
  qb1 (f_X2_isAskHere B) fun u1 =>
  if u1 = (0:Int32) then (
  some ((0:Int32))) else (
  if (B 1000 17) = (0:Int32) then (
  some ((1:Int32))) else (
  qif (qok ((B 1000 17) - (1:Int32)) 160) <|
  if (B 1005 ((B 1000 17) - (1:Int32)).toNatClampNeg) = (41:Int32) then (
  some ((1:Int32))) else (
  qb1 (f_X2_rank (B 1005 ((B 1000 17) - (1:Int32)).toNatClampNeg)) fun u4 =>
  qb1 (f_X2_isIn u4 (1:Int32) (4:Int32)) fun u6 =>
  if u6 = (0:Int32) then (
  some ((0:Int32))) else (
  some ((1:Int32))))))
set_option maxHeartbeats 4000000 in
theorem w_X2_isAskAhead_0 {p : Program} {l : Launch} {e : Env} {s : State} {m : MethodId} {args : Array Value} {below : List Frame} {meth : Method} {c : Code} {K : QK} {G : State → Prop} {A : QA} {rs : QX × QM} {L : QL} {ro : Int32} (hG : QG G) (hM : QMl K) (E : EV K G p s m args meth c cX2_isAskAhead "VaneCourtModel" 1) (hr : meth.sig.returnType = (some .boolean)) : ∀ (B : QA) {H : Heap} {locs : List Loc} {ls : Array Slot}, f_X2_isAskAhead B = some ro → WP K (A, B, L, rs) H locs → lv_has ls 1 [(0, .ref (K.2.1 1000))] → W p l e (qrm 3 81 0 0) s m args below meth c H locs 0 0 (MQ below (QE K (QR (some (.int ro)) (A, B, L, rs))) args s 0 0 (qA K)) (F0 m 0 ls []) := by
  have hx := E.1
  have hb := E.2.1
  have hown := E.2.2.1
  have hts := E.2.2.2.2.1
  intro B H locs ls  h hw hl
  rw [f_X2_isAskAhead] at h
  refine lv_aload_n hx hb dX2_isAskAhead_0 rfl (lv_at hl 0 rfl) ?_
  obtain ⟨u1, g2, h⟩ := qb1_s h
  refine d_V (As := []) (v0 := some (.int u1)) (w0 := (A, B, L, rs)) hG E hw hl (m_X2_isAskHere l hG hM  g2) (qM0 hM) rfl (cwV 0 hts (lw_V q1596 q1598 qs76 q140 q1599) rfl rfl rfl ⟨rfl, kd_X2_isAskHere⟩ ⟨Nat.le_of_ble_eq_true rfl, Nat.le_of_ble_eq_true rfl⟩) rfl (rest := []) (st1 := [.int u1]) rfl rfl rfl dX2_isAskAhead_1 ⟨Nat.le_of_ble_eq_true rfl, Nat.le_of_ble_eq_true rfl⟩ (fun H locs hw => ?_)
  refine lv_if_eq (tgt := 56) hx hb dX2_isAskAhead_4 (by decide) (fun c => ?_) (fun c => ?_)
  · have h := qi_t c h
    refine lv_iconst (v := (0:Int32)) hx hb dX2_isAskAhead_56 (by decide) ?_
    have h := Option.some.inj h
    have h1 := h
    exact d_iret E hr rfl hw h1 rfl dX2_isAskAhead_57
  · have h := qi_f c h
    refine lv_aload_n hx hb dX2_isAskAhead_7 rfl (lv_at hl 0 rfl) ?_
    refine r_getM (v := .int (B 1000 17)) E hw hM 17 (by decide) q1370 rfl dX2_isAskAhead_8 ?_
    refine lv_if_eq (tgt := 52) hx hb dX2_isAskAhead_11 (by decide) (fun c => ?_) (fun c => ?_)
    · have h := qi_t c h
      refine lv_iconst (v := (1:Int32)) hx hb dX2_isAskAhead_52 (by decide) ?_
      refine lv_goto (tgt := 57) hx hb dX2_isAskAhead_53 (by decide) ?_
      have h := Option.some.inj h
      have h1 := h
      exact d_iret E hr rfl hw h1 rfl dX2_isAskAhead_57
    · have h := qi_f c h
      refine lv_aload_n hx hb dX2_isAskAhead_14 rfl (lv_at hl 0 rfl) ?_
      refine r_getM (v := .ref (K.2.1 1005)) E hw hM 15 (by decide) q1368 rfl dX2_isAskAhead_15 ?_
      refine lv_aload_n hx hb dX2_isAskAhead_18 rfl (lv_at hl 0 rfl) ?_
      refine r_getM (v := .int (B 1000 17)) E hw hM 17 (by decide) q1370 rfl dX2_isAskAhead_19 ?_
      refine lv_iconst (v := (1:Int32)) hx hb dX2_isAskAhead_22 (by decide) ?_
      refine lv_isub hx hb dX2_isAskAhead_23 ?_
      obtain ⟨z3, h⟩ := qif_s h
      refine r_iald (j := ((B 1000 17) - (1:Int32)).toNatClampNeg) E hw (qi_1005 hM).at (qok_in z3) rfl dX2_isAskAhead_24 ?_
      refine lv_bipush (v := (41:Int32)) hx hb dX2_isAskAhead_25 (by decide) ?_
      refine lv_icmp_eq (tgt := 52) hx hb dX2_isAskAhead_27 (by decide) (fun c => ?_) (fun c => ?_)
      · have h := qi_t c h
        refine lv_iconst (v := (1:Int32)) hx hb dX2_isAskAhead_52 (by decide) ?_
        refine lv_goto (tgt := 57) hx hb dX2_isAskAhead_53 (by decide) ?_
        have h := Option.some.inj h
        have h1 := h
        exact d_iret E hr rfl hw h1 rfl dX2_isAskAhead_57
      · have h := qi_f c h
        refine lv_aload_n hx hb dX2_isAskAhead_30 rfl (lv_at hl 0 rfl) ?_
        refine r_getM (v := .ref (K.2.1 1005)) E hw hM 15 (by decide) q1368 rfl dX2_isAskAhead_31 ?_
        refine lv_aload_n hx hb dX2_isAskAhead_34 rfl (lv_at hl 0 rfl) ?_
        refine r_getM (v := .int (B 1000 17)) E hw hM 17 (by decide) q1370 rfl dX2_isAskAhead_35 ?_
        refine lv_iconst (v := (1:Int32)) hx hb dX2_isAskAhead_38 (by decide) ?_
        refine lv_isub hx hb dX2_isAskAhead_39 ?_
        refine r_iald (j := ((B 1000 17) - (1:Int32)).toNatClampNeg) E hw (qi_1005 hM).at (qok_in z3) rfl dX2_isAskAhead_40 ?_
        obtain ⟨u4, g5, h⟩ := qb1_s h
        refine d_S (As := [.int (B 1005 ((B 1000 17) - (1:Int32)).toNatClampNeg)]) (v0 := some (.int u4)) (w0 := (A, B, L, rs)) hG E hw hl (m_X2_rank l hG hM  g5) (va_cwS 1 hts (lw_S q1608 q1609 q140 q1610) rfl rfl rfl kd_X2_rank ⟨Nat.le_of_ble_eq_true rfl, Nat.le_of_ble_eq_true rfl⟩) rfl (rest := []) (st1 := [.int u4]) rfl rfl rfl dX2_isAskAhead_41 ⟨Nat.le_of_ble_eq_true rfl, Nat.le_of_ble_eq_true rfl⟩ (fun H locs hw => ?_)
        refine lv_iconst (v := (1:Int32)) hx hb dX2_isAskAhead_44 (by decide) ?_
        refine lv_iconst (v := (4:Int32)) hx hb dX2_isAskAhead_45 (by decide) ?_
        obtain ⟨u6, g7, h⟩ := qb1_s h
        refine d_S (As := [.int u4, .int (1:Int32), .int (4:Int32)]) (v0 := some (.int u6)) (w0 := (A, B, L, rs)) hG E hw hl (m_X2_isIn l hG hM  g7) (va_cwS 3 hts (lw_S q1480 q1481 q140 q1482) rfl rfl rfl kd_X2_isIn ⟨Nat.le_of_ble_eq_true rfl, Nat.le_of_ble_eq_true rfl⟩) rfl (rest := []) (st1 := [.int u6]) rfl rfl rfl dX2_isAskAhead_46 ⟨Nat.le_of_ble_eq_true rfl, Nat.le_of_ble_eq_true rfl⟩ (fun H locs hw => ?_)
        refine lv_if_eq (tgt := 56) hx hb dX2_isAskAhead_49 (by decide) (fun c => ?_) (fun c => ?_)
        · have h := qi_t c h
          refine lv_iconst (v := (0:Int32)) hx hb dX2_isAskAhead_56 (by decide) ?_
          have h := Option.some.inj h
          have h1 := h
          exact d_iret E hr rfl hw h1 rfl dX2_isAskAhead_57
        · have h := qi_f c h
          refine lv_iconst (v := (1:Int32)) hx hb dX2_isAskAhead_52 (by decide) ?_
          refine lv_goto (tgt := 57) hx hb dX2_isAskAhead_53 (by decide) ?_
          have h := Option.some.inj h
          have h1 := h
          exact d_iret E hr rfl hw h1 rfl dX2_isAskAhead_57

theorem m_X2_isAskAhead (l : Launch) {K : QK} {G : State → Prop} (hG : QG G) (hM : QMl K) {A : QA} {rs : QX × QM} {L : QL} {B : QA} {ro : Int32} (h : f_X2_isAskAhead B = some ro) : MC l K G yX2_isAskAhead (ws_ yX2_isAskAhead cX2_isAskAhead 1 (some .boolean)) 3 81 0 0 [.ref (K.2.1 1000)] (A, B, L, rs) (QR (some (.int ro)) (A, B, L, rs)) := by
  refine MC.of (by decide) (Nat.le_of_ble_eq_true rfl) (lv := [(0, .ref (K.2.1 1000))]) rfl (fun p e s m below meth c ls E hr hl hw => ?_)
  exact w_X2_isAskAhead_0 hG hM E hr _  h hw hl

def f_X2_factAt (B : QA) (L : QL) : Option (Int32 × QA × QL) :=
  if (B 1000 14) = (4:Int32) then (
  qb2 (f_X2_nextToken B L) fun B1 L2 =>
  if (B1 1000 9) = (1:Int32) then (
  if (B1 1000 10) ≤ (7:Int32) then (
  qb1 (f_X2_emit (2:Int32) (B1 1000 10) B1) fun B4 =>
  qb2 (f_X2_nextToken B4 L2) fun B6 L7 =>
  qif (qok (B6 1000 17) 160) <|
  qlet (qu B6 1005 (B6 1000 17).toNatClampNeg (16:Int32)) fun B10 =>
  qlet (qu B10 1000 17 ((B10 1000 17) + (1:Int32))) fun B12 =>
  qlet (qu B12 1000 20 (1:Int32)) fun B14 =>
  some ((0:Int32), B14, L7)) else (
  some ((2:Int32), B1, L2))) else (
  some ((1:Int32), B1, L2))) else (
  some ((5:Int32), B, L))
set_option maxHeartbeats 4000000 in
theorem w_X2_factAt_0 {p : Program} {l : Launch} {e : Env} {s : State} {m : MethodId} {args : Array Value} {below : List Frame} {meth : Method} {c : Code} {K : QK} {G : State → Prop} {A : QA} {rs : QX × QM} {ro : Int32} {Bo : QA} {Lo : QL} (hG : QG G) (hM : QMl K) (E : EV K G p s m args meth c cX2_factAt "VaneCourtModel" 1) (hr : meth.sig.returnType = (some .int)) : ∀ (B : QA) (L : QL) {H : Heap} {locs : List Loc} {ls : Array Slot}, f_X2_factAt B L = some (ro, Bo, Lo) → WP K (A, B, L, rs) H locs → lv_has ls 1 [(0, .ref (K.2.1 1000))] → W p l e (qrm 3 82 0 0) s m args below meth c H locs 0 0 (MQ below (QE K (QR (some (.int ro)) (A, Bo, Lo, rs))) args s 0 0 (qA K)) (F0 m 0 ls []) := by
  have hx := E.1
  have hb := E.2.1
  have hown := E.2.2.1
  have hts := E.2.2.2.2.1
  intro B L H locs ls  h hw hl
  rw [f_X2_factAt] at h
  refine lv_aload_n hx hb dX2_factAt_0 rfl (lv_at hl 0 rfl) ?_
  refine r_getM (v := .int (B 1000 14)) E hw hM 14 (by decide) q1367 rfl dX2_factAt_1 ?_
  refine lv_iconst (v := (4:Int32)) hx hb dX2_factAt_4 (by decide) ?_
  refine lv_icmp_eq (tgt := 10) hx hb dX2_factAt_5 (by decide) (fun c => ?_) (fun c => ?_)
  · have h := qi_t c h
    refine lv_aload_n hx hb dX2_factAt_10 rfl (lv_at hl 0 rfl) ?_
    obtain ⟨B1, L2, g3, h⟩ := qb2_s h
    refine d_V (As := []) (v0 := none) (w0 := (A, B1, L2, rs)) hG E hw hl (m_X2_nextToken l hG hM  g3) (qM0 hM) rfl (cwV 0 hts (lw_V q1507 q1509 qs61 q140 q1510) rfl rfl rfl ⟨rfl, kd_X2_nextToken⟩ ⟨Nat.le_of_ble_eq_true rfl, Nat.le_of_ble_eq_true rfl⟩) rfl (rest := []) (st1 := []) rfl rfl rfl dX2_factAt_11 ⟨Nat.le_of_ble_eq_true rfl, Nat.le_of_ble_eq_true rfl⟩ (fun H locs hw => ?_)
    refine lv_aload_n hx hb dX2_factAt_14 rfl (lv_at hl 0 rfl) ?_
    refine r_getM (v := .int (B1 1000 9)) E hw hM 9 (by decide) q1362 rfl dX2_factAt_15 ?_
    refine lv_iconst (v := (1:Int32)) hx hb dX2_factAt_18 (by decide) ?_
    refine lv_icmp_eq (tgt := 24) hx hb dX2_factAt_19 (by decide) (fun c => ?_) (fun c => ?_)
    · have h := qi_t c h
      refine lv_aload_n hx hb dX2_factAt_24 rfl (lv_at hl 0 rfl) ?_
      refine r_getM (v := .int (B1 1000 10)) E hw hM 10 (by decide) q1363 rfl dX2_factAt_25 ?_
      refine lv_bipush (v := (7:Int32)) hx hb dX2_factAt_28 (by decide) ?_
      refine lv_icmp_le (tgt := 35) hx hb dX2_factAt_30 (by decide) (fun c => ?_) (fun c => ?_)
      · have h := qi_t c h
        refine lv_aload_n hx hb dX2_factAt_35 rfl (lv_at hl 0 rfl) ?_
        refine lv_iconst (v := (2:Int32)) hx hb dX2_factAt_36 (by decide) ?_
        refine lv_aload_n hx hb dX2_factAt_37 rfl (lv_at hl 0 rfl) ?_
        refine r_getM (v := .int (B1 1000 10)) E hw hM 10 (by decide) q1363 rfl dX2_factAt_38 ?_
        obtain ⟨B4, g5, h⟩ := qb1_s h
        refine d_V (As := [.int (2:Int32), .int (B1 1000 10)]) (v0 := none) (w0 := (A, B4, L2, rs)) hG E hw hl (m_X2_emit l hG hM  g5) (qM0 hM) rfl (cwV 2 hts (lw_V q1619 q1621 qs81 q140 q1622) rfl rfl rfl ⟨rfl, kd_X2_emit⟩ ⟨Nat.le_of_ble_eq_true rfl, Nat.le_of_ble_eq_true rfl⟩) rfl (rest := []) (st1 := []) rfl rfl rfl dX2_factAt_41 ⟨Nat.le_of_ble_eq_true rfl, Nat.le_of_ble_eq_true rfl⟩ (fun H locs hw => ?_)
        refine lv_aload_n hx hb dX2_factAt_44 rfl (lv_at hl 0 rfl) ?_
        obtain ⟨B6, L7, g8, h⟩ := qb2_s h
        refine d_V (As := []) (v0 := none) (w0 := (A, B6, L7, rs)) hG E hw hl (m_X2_nextToken l hG hM  g8) (qM0 hM) rfl (cwV 0 hts (lw_V q1507 q1509 qs61 q140 q1510) rfl rfl rfl ⟨rfl, kd_X2_nextToken⟩ ⟨Nat.le_of_ble_eq_true rfl, Nat.le_of_ble_eq_true rfl⟩) rfl (rest := []) (st1 := []) rfl rfl rfl dX2_factAt_45 ⟨Nat.le_of_ble_eq_true rfl, Nat.le_of_ble_eq_true rfl⟩ (fun H locs hw => ?_)
        refine lv_aload_n hx hb dX2_factAt_48 rfl (lv_at hl 0 rfl) ?_
        refine r_getM (v := .ref (K.2.1 1005)) E hw hM 15 (by decide) q1368 rfl dX2_factAt_49 ?_
        refine lv_aload_n hx hb dX2_factAt_52 rfl (lv_at hl 0 rfl) ?_
        refine r_getM (v := .int (B6 1000 17)) E hw hM 17 (by decide) q1370 rfl dX2_factAt_53 ?_
        refine lv_bipush (v := (16:Int32)) hx hb dX2_factAt_56 (by decide) ?_
        obtain ⟨z9, h⟩ := qif_s h
        obtain ⟨B10, e11, h⟩ := qlet_s h
        refine r_iastB (j := (B6 1000 17).toNatClampNeg) E hw (qi_1005 hM) (qok_in z9) rfl dX2_factAt_58 (fun H locs hw => ?_)
        rw [← e11] at hw
        refine lv_aload_n hx hb dX2_factAt_59 rfl (lv_at hl 0 rfl) ?_
        refine lv_dup hx hb dX2_factAt_60 rfl ?_
        refine r_getM (v := .int (B10 1000 17)) E hw hM 17 (by decide) q1370 rfl dX2_factAt_61 ?_
        refine lv_iconst (v := (1:Int32)) hx hb dX2_factAt_64 (by decide) ?_
        refine lv_iadd hx hb dX2_factAt_65 ?_
        obtain ⟨B12, e13, h⟩ := qlet_s h
        refine r_putM E hw hM 17 (by decide) q1370 rfl rfl rfl (fun _ _ => rfl) dX2_factAt_66 (fun H locs hw => ?_)
        rw [← e13] at hw
        refine lv_aload_n hx hb dX2_factAt_69 rfl (lv_at hl 0 rfl) ?_
        refine lv_iconst (v := (1:Int32)) hx hb dX2_factAt_70 (by decide) ?_
        obtain ⟨B14, e15, h⟩ := qlet_s h
        refine r_putM E hw hM 20 (by decide) q1373 rfl rfl rfl (fun _ _ => rfl) dX2_factAt_71 (fun H locs hw => ?_)
        rw [← e15] at hw
        refine lv_iconst (v := (0:Int32)) hx hb dX2_factAt_74 (by decide) ?_
        have h := Option.some.inj h
        obtain ⟨h1, h2⟩ := Prod.mk.inj h
        obtain ⟨h2, h3⟩ := Prod.mk.inj h2
        exact d_iret E hr rfl hw h1 (by rw [h2, h3]) dX2_factAt_75
      · have h := qi_f c h
        refine lv_iconst (v := (2:Int32)) hx hb dX2_factAt_33 (by decide) ?_
        have h := Option.some.inj h
        obtain ⟨h1, h2⟩ := Prod.mk.inj h
        obtain ⟨h2, h3⟩ := Prod.mk.inj h2
        exact d_iret E hr rfl hw h1 (by rw [h2, h3]) dX2_factAt_34
    · have h := qi_f c h
      refine lv_iconst (v := (1:Int32)) hx hb dX2_factAt_22 (by decide) ?_
      have h := Option.some.inj h
      obtain ⟨h1, h2⟩ := Prod.mk.inj h
      obtain ⟨h2, h3⟩ := Prod.mk.inj h2
      exact d_iret E hr rfl hw h1 (by rw [h2, h3]) dX2_factAt_23
  · have h := qi_f c h
    refine lv_iconst (v := (5:Int32)) hx hb dX2_factAt_8 (by decide) ?_
    have h := Option.some.inj h
    obtain ⟨h1, h2⟩ := Prod.mk.inj h
    obtain ⟨h2, h3⟩ := Prod.mk.inj h2
    exact d_iret E hr rfl hw h1 (by rw [h2, h3]) dX2_factAt_9

theorem m_X2_factAt (l : Launch) {K : QK} {G : State → Prop} (hG : QG G) (hM : QMl K) {A : QA} {rs : QX × QM} {B : QA} {L : QL} {ro : Int32} {Bo : QA} {Lo : QL} (h : f_X2_factAt B L = some (ro, Bo, Lo)) : MC l K G yX2_factAt (ws_ yX2_factAt cX2_factAt 1 (some .int)) 3 82 0 0 [.ref (K.2.1 1000)] (A, B, L, rs) (QR (some (.int ro)) (A, Bo, Lo, rs)) := by
  refine MC.of (by decide) (Nat.le_of_ble_eq_true rfl) (lv := [(0, .ref (K.2.1 1000))]) rfl (fun p e s m below meth c ls E hr hl hw => ?_)
  exact w_X2_factAt_0 hG hM E hr _ _  h hw hl

def f_X2_beginOne_81 (s1 : Int32) (s2 : Int32) (B : QA) (L : QL) : Option (Int32 × QA × QL) :=
  qb1 (f_X2_emit s1 s2 B) fun B3 =>
  qb2 (f_X2_nextToken B3 L) fun B5 L6 =>
  qlet (qu B5 1000 20 (1:Int32)) fun B8 =>
  qb1 (f_X2_settle (8:Int32) B8) fun B10 =>
  some ((0:Int32), B10, L6)
set_option maxHeartbeats 4000000 in
theorem w_X2_beginOne_81 {p : Program} {l : Launch} {e : Env} {s : State} {m : MethodId} {args : Array Value} {below : List Frame} {meth : Method} {c : Code} {K : QK} {G : State → Prop} {A : QA} {rs : QX × QM} {ro : Int32} {Bo : QA} {Lo : QL} (hG : QG G) (hM : QMl K) (E : EV K G p s m args meth c cX2_beginOne "VaneCourtModel" 2) (hr : meth.sig.returnType = (some .int)) : ∀ (s1 : Int32) (s2 : Int32) (B : QA) (L : QL) {H : Heap} {locs : List Loc} {ls : Array Slot}, f_X2_beginOne_81 s1 s2 B L = some (ro, Bo, Lo) → WP K (A, B, L, rs) H locs → lv_has ls 2 [(0, .ref (K.2.1 1000))] → W p l e (qrm 7 173 0 0) s m args below meth c H locs 0 0 (MQ below (QE K (QR (some (.int ro)) (A, Bo, Lo, rs))) args s 0 0 (qA K)) (F0 m 81 ls [.int s2, .int s1, .ref (K.2.1 1000)]) := by
  have hx := E.1
  have hb := E.2.1
  have hown := E.2.2.1
  have hts := E.2.2.2.2.1
  intro s1 s2 B L H locs ls  h hw hl
  rw [f_X2_beginOne_81] at h
  obtain ⟨B3, g4, h⟩ := qb1_s h
  refine d_V (As := [.int s1, .int s2]) (v0 := none) (w0 := (A, B3, L, rs)) hG E hw hl (m_X2_emit l hG hM  g4) (qM0 hM) rfl (cwV 2 hts (lw_V q1619 q1621 qs81 q140 q1622) rfl rfl rfl ⟨rfl, kd_X2_emit⟩ ⟨Nat.le_of_ble_eq_true rfl, Nat.le_of_ble_eq_true rfl⟩) rfl (rest := []) (st1 := []) rfl rfl rfl dX2_beginOne_81 ⟨Nat.le_of_ble_eq_true rfl, Nat.le_of_ble_eq_true rfl⟩ (fun H locs hw => ?_)
  refine lv_aload_n hx hb dX2_beginOne_84 rfl (lv_at hl 0 rfl) ?_
  obtain ⟨B5, L6, g7, h⟩ := qb2_s h
  refine d_V (As := []) (v0 := none) (w0 := (A, B5, L6, rs)) hG E hw hl (m_X2_nextToken l hG hM  g7) (qM0 hM) rfl (cwV 0 hts (lw_V q1507 q1509 qs61 q140 q1510) rfl rfl rfl ⟨rfl, kd_X2_nextToken⟩ ⟨Nat.le_of_ble_eq_true rfl, Nat.le_of_ble_eq_true rfl⟩) rfl (rest := []) (st1 := []) rfl rfl rfl dX2_beginOne_85 ⟨Nat.le_of_ble_eq_true rfl, Nat.le_of_ble_eq_true rfl⟩ (fun H locs hw => ?_)
  refine lv_aload_n hx hb dX2_beginOne_88 rfl (lv_at hl 0 rfl) ?_
  refine lv_iconst (v := (1:Int32)) hx hb dX2_beginOne_89 (by decide) ?_
  obtain ⟨B8, e9, h⟩ := qlet_s h
  refine r_putM E hw hM 20 (by decide) q1373 rfl rfl rfl (fun _ _ => rfl) dX2_beginOne_90 (fun H locs hw => ?_)
  rw [← e9] at hw
  refine lv_aload_n hx hb dX2_beginOne_93 rfl (lv_at hl 0 rfl) ?_
  refine lv_bipush (v := (8:Int32)) hx hb dX2_beginOne_94 (by decide) ?_
  obtain ⟨B10, g11, h⟩ := qb1_s h
  refine d_V (As := [.int (8:Int32)]) (v0 := none) (w0 := (A, B10, L6, rs)) hG E hw hl (m_X2_settle l hG hM  g11) (qM0 hM) rfl (cwV 1 hts (lw_V q1615 q1617 qs80 q140 q1618) rfl rfl rfl ⟨rfl, kd_X2_settle⟩ ⟨Nat.le_of_ble_eq_true rfl, Nat.le_of_ble_eq_true rfl⟩) rfl (rest := []) (st1 := []) rfl rfl rfl dX2_beginOne_96 ⟨Nat.le_of_ble_eq_true rfl, Nat.le_of_ble_eq_true rfl⟩ (fun H locs hw => ?_)
  refine lv_iconst (v := (0:Int32)) hx hb dX2_beginOne_99 (by decide) ?_
  have h := Option.some.inj h
  obtain ⟨h1, h2⟩ := Prod.mk.inj h
  obtain ⟨h2, h3⟩ := Prod.mk.inj h2
  exact d_iret E hr rfl hw h1 (by rw [h2, h3]) dX2_beginOne_100

def f_X2_beginOne_65 (x1 : Int32) (s1 : Int32) (B : QA) (L : QL) : Option (Int32 × QA × QL) :=
  if (B 1000 9) = (1:Int32) then (
  f_X2_beginOne_81 s1 (B 1000 10) B L) else (
  f_X2_beginOne_81 s1 x1 B L)
set_option maxHeartbeats 4000000 in
theorem w_X2_beginOne_65 {p : Program} {l : Launch} {e : Env} {s : State} {m : MethodId} {args : Array Value} {below : List Frame} {meth : Method} {c : Code} {K : QK} {G : State → Prop} {A : QA} {rs : QX × QM} {ro : Int32} {Bo : QA} {Lo : QL} (hG : QG G) (hM : QMl K) (E : EV K G p s m args meth c cX2_beginOne "VaneCourtModel" 2) (hr : meth.sig.returnType = (some .int)) : ∀ (x1 : Int32) (s1 : Int32) (B : QA) (L : QL) {H : Heap} {locs : List Loc} {ls : Array Slot}, f_X2_beginOne_65 x1 s1 B L = some (ro, Bo, Lo) → WP K (A, B, L, rs) H locs → lv_has ls 2 [(0, .ref (K.2.1 1000)), (1, .int x1)] → W p l e (qrm 7 173 0 0) s m args below meth c H locs 0 0 (MQ below (QE K (QR (some (.int ro)) (A, Bo, Lo, rs))) args s 0 0 (qA K)) (F0 m 65 ls [.int s1, .ref (K.2.1 1000)]) := by
  have hx := E.1
  have hb := E.2.1
  have hown := E.2.2.1
  have hts := E.2.2.2.2.1
  intro x1 s1 B L H locs ls  h hw hl
  rw [f_X2_beginOne_65] at h
  refine lv_aload_n hx hb dX2_beginOne_65 rfl (lv_at hl 0 rfl) ?_
  refine r_getM (v := .int (B 1000 9)) E hw hM 9 (by decide) q1362 rfl dX2_beginOne_66 ?_
  refine lv_iconst (v := (1:Int32)) hx hb dX2_beginOne_69 (by decide) ?_
  refine lv_icmp_ne (tgt := 80) hx hb dX2_beginOne_70 (by decide) (fun c => ?_) (fun c => ?_)
  · have h := qi_f c h
    refine lv_iload_n hx hb dX2_beginOne_80 rfl (lv_at hl 1 rfl) ?_
    exact w_X2_beginOne_81 hG hM E hr  _ _ _ _   h hw (lv_sub hl [0] rfl)
  · have h := qi_t c h
    refine lv_aload_n hx hb dX2_beginOne_73 rfl (lv_at hl 0 rfl) ?_
    refine r_getM (v := .int (B 1000 10)) E hw hM 10 (by decide) q1363 rfl dX2_beginOne_74 ?_
    refine lv_goto (tgt := 81) hx hb dX2_beginOne_77 (by decide) ?_
    exact w_X2_beginOne_81 hG hM E hr  _ _ _ _   h hw (lv_sub hl [0] rfl)

def f_X2_beginOne_51 (x1 : Int32) (B : QA) (L : QL) : Option (Int32 × QA × QL) :=
  if (B 1000 9) = (1:Int32) then (
  f_X2_beginOne_65 x1 (0:Int32) B L) else (
  f_X2_beginOne_65 x1 (1:Int32) B L)
set_option maxHeartbeats 4000000 in
theorem w_X2_beginOne_51 {p : Program} {l : Launch} {e : Env} {s : State} {m : MethodId} {args : Array Value} {below : List Frame} {meth : Method} {c : Code} {K : QK} {G : State → Prop} {A : QA} {rs : QX × QM} {ro : Int32} {Bo : QA} {Lo : QL} (hG : QG G) (hM : QMl K) (E : EV K G p s m args meth c cX2_beginOne "VaneCourtModel" 2) (hr : meth.sig.returnType = (some .int)) : ∀ (x1 : Int32) (B : QA) (L : QL) {H : Heap} {locs : List Loc} {ls : Array Slot}, f_X2_beginOne_51 x1 B L = some (ro, Bo, Lo) → WP K (A, B, L, rs) H locs → lv_has ls 2 [(0, .ref (K.2.1 1000)), (1, .int x1)] → W p l e (qrm 7 173 0 0) s m args below meth c H locs 0 0 (MQ below (QE K (QR (some (.int ro)) (A, Bo, Lo, rs))) args s 0 0 (qA K)) (F0 m 51 ls []) := by
  have hx := E.1
  have hb := E.2.1
  have hown := E.2.2.1
  have hts := E.2.2.2.2.1
  intro x1 B L H locs ls  h hw hl
  rw [f_X2_beginOne_51] at h
  refine lv_aload_n hx hb dX2_beginOne_51 rfl (lv_at hl 0 rfl) ?_
  refine lv_aload_n hx hb dX2_beginOne_52 rfl (lv_at hl 0 rfl) ?_
  refine r_getM (v := .int (B 1000 9)) E hw hM 9 (by decide) q1362 rfl dX2_beginOne_53 ?_
  refine lv_iconst (v := (1:Int32)) hx hb dX2_beginOne_56 (by decide) ?_
  refine lv_icmp_ne (tgt := 64) hx hb dX2_beginOne_57 (by decide) (fun c => ?_) (fun c => ?_)
  · have h := qi_f c h
    refine lv_iconst (v := (1:Int32)) hx hb dX2_beginOne_64 (by decide) ?_
    exact w_X2_beginOne_65 hG hM E hr  _ _ _ _   h hw (lv_sub hl [0, 1] rfl)
  · have h := qi_t c h
    refine lv_iconst (v := (0:Int32)) hx hb dX2_beginOne_60 (by decide) ?_
    refine lv_goto (tgt := 65) hx hb dX2_beginOne_61 (by decide) ?_
    exact w_X2_beginOne_65 hG hM E hr  _ _ _ _   h hw (lv_sub hl [0, 1] rfl)

def f_X2_beginOne_39 (x1 : Int32) (B : QA) (L : QL) : Option (Int32 × QA × QL) :=
  if (B 1000 9) = (1:Int32) then (
  f_X2_beginOne_51 x1 B L) else (
  if x1 < (0:Int32) then (
  if (B 1000 9) = (40:Int32) then (
  qb3 (f_X2_opened (40:Int32) B L) fun u42 B43 L44 =>
  some (u42, B43, L44)) else (
  if (B 1000 9) = (45:Int32) then (
  qb3 (f_X2_opened (4:Int32) B L) fun u38 B39 L40 =>
  some (u38, B39, L40)) else (
  qb1 (f_X2_isAskAhead B) fun u12 =>
  if u12 = (0:Int32) then (
  some ((1:Int32), B, L)) else (
  qb1 (f_X2_w3 (110:Int32) (111:Int32) (116:Int32)) fun u14 =>
  qb1 (f_X2_isWord u14 B L) fun u16 =>
  if u16 = (0:Int32) then (
  qb1 (f_X2_w4 (109:Int32) (111:Int32) (115:Int32) (116:Int32)) fun u18 =>
  qb1 (f_X2_isWord u18 B L) fun u20 =>
  if u20 = (0:Int32) then (
  qb1 (f_X2_w4 (102:Int32) (97:Int32) (99:Int32) (116:Int32)) fun u22 =>
  qb1 (f_X2_isWord u22 B L) fun u24 =>
  if u24 = (0:Int32) then (
  some ((1:Int32), B, L)) else (
  qb3 (f_X2_factAt B L) fun u26 B27 L28 =>
  some (u26, B27, L28))) else (
  qb3 (f_X2_opened (41:Int32) B L) fun u30 B31 L32 =>
  some (u30, B31, L32))) else (
  qb3 (f_X2_opened (20:Int32) B L) fun u34 B35 L36 =>
  some (u34, B35, L36)))))) else (
  f_X2_beginOne_51 x1 B L))
set_option maxHeartbeats 4000000 in
theorem w_X2_beginOne_39 {p : Program} {l : Launch} {e : Env} {s : State} {m : MethodId} {args : Array Value} {below : List Frame} {meth : Method} {c : Code} {K : QK} {G : State → Prop} {A : QA} {rs : QX × QM} {ro : Int32} {Bo : QA} {Lo : QL} (hG : QG G) (hM : QMl K) (E : EV K G p s m args meth c cX2_beginOne "VaneCourtModel" 2) (hr : meth.sig.returnType = (some .int)) : ∀ (x1 : Int32) (B : QA) (L : QL) {H : Heap} {locs : List Loc} {ls : Array Slot}, f_X2_beginOne_39 x1 B L = some (ro, Bo, Lo) → WP K (A, B, L, rs) H locs → lv_has ls 2 [(0, .ref (K.2.1 1000)), (1, .int x1)] → W p l e (qrm 7 173 0 0) s m args below meth c H locs 0 0 (MQ below (QE K (QR (some (.int ro)) (A, Bo, Lo, rs))) args s 0 0 (qA K)) (F0 m 39 ls []) := by
  have hx := E.1
  have hb := E.2.1
  have hown := E.2.2.1
  have hts := E.2.2.2.2.1
  intro x1 B L H locs ls  h hw hl
  rw [f_X2_beginOne_39] at h
  refine lv_aload_n hx hb dX2_beginOne_39 rfl (lv_at hl 0 rfl) ?_
  refine r_getM (v := .int (B 1000 9)) E hw hM 9 (by decide) q1362 rfl dX2_beginOne_40 ?_
  refine lv_iconst (v := (1:Int32)) hx hb dX2_beginOne_43 (by decide) ?_
  refine lv_icmp_eq (tgt := 51) hx hb dX2_beginOne_44 (by decide) (fun c => ?_) (fun c => ?_)
  · have h := qi_t c h
    exact w_X2_beginOne_51 hG hM E hr  _ _ _   h hw (lv_sub hl [0, 1] rfl)
  · have h := qi_f c h
    refine lv_iload_n hx hb dX2_beginOne_47 rfl (lv_at hl 1 rfl) ?_
    refine lv_if_lt (tgt := 101) hx hb dX2_beginOne_48 (by decide) (fun c => ?_) (fun c => ?_)
    · have h := qi_t c h
      refine lv_aload_n hx hb dX2_beginOne_101 rfl (lv_at hl 0 rfl) ?_
      refine r_getM (v := .int (B 1000 9)) E hw hM 9 (by decide) q1362 rfl dX2_beginOne_102 ?_
      refine lv_bipush (v := (40:Int32)) hx hb dX2_beginOne_105 (by decide) ?_
      refine lv_icmp_ne (tgt := 117) hx hb dX2_beginOne_107 (by decide) (fun c => ?_) (fun c => ?_)
      · have h := qi_f c h
        refine lv_aload_n hx hb dX2_beginOne_117 rfl (lv_at hl 0 rfl) ?_
        refine r_getM (v := .int (B 1000 9)) E hw hM 9 (by decide) q1362 rfl dX2_beginOne_118 ?_
        refine lv_bipush (v := (45:Int32)) hx hb dX2_beginOne_121 (by decide) ?_
        refine lv_icmp_ne (tgt := 132) hx hb dX2_beginOne_123 (by decide) (fun c => ?_) (fun c => ?_)
        · have h := qi_f c h
          refine lv_aload_n hx hb dX2_beginOne_132 rfl (lv_at hl 0 rfl) ?_
          obtain ⟨u12, g13, h⟩ := qb1_s h
          refine d_V (As := []) (v0 := some (.int u12)) (w0 := (A, B, L, rs)) hG E hw hl (m_X2_isAskAhead l hG hM  g13) (qM0 hM) rfl (cwV 0 hts (lw_V q1655 q1657 qs90 q140 q1658) rfl rfl rfl ⟨rfl, kd_X2_isAskAhead⟩ ⟨Nat.le_of_ble_eq_true rfl, Nat.le_of_ble_eq_true rfl⟩) rfl (rest := []) (st1 := [.int u12]) rfl rfl rfl dX2_beginOne_133 ⟨Nat.le_of_ble_eq_true rfl, Nat.le_of_ble_eq_true rfl⟩ (fun H locs hw => ?_)
          refine lv_if_ne (tgt := 141) hx hb dX2_beginOne_136 (by decide) (fun c => ?_) (fun c => ?_)
          · have h := qi_f c h
            refine lv_aload_n hx hb dX2_beginOne_141 rfl (lv_at hl 0 rfl) ?_
            refine lv_bipush (v := (110:Int32)) hx hb dX2_beginOne_142 (by decide) ?_
            refine lv_bipush (v := (111:Int32)) hx hb dX2_beginOne_144 (by decide) ?_
            refine lv_bipush (v := (116:Int32)) hx hb dX2_beginOne_146 (by decide) ?_
            obtain ⟨u14, g15, h⟩ := qb1_s h
            refine d_S (As := [.int (110:Int32), .int (111:Int32), .int (116:Int32)]) (v0 := some (.long u14)) (w0 := (A, B, L, rs)) hG E hw hl (m_X2_w3 l hG hM  g15) (va_cwS 3 hts (lw_S q1540 q1541 q140 q1542) rfl rfl rfl kd_X2_w3 ⟨Nat.le_of_ble_eq_true rfl, Nat.le_of_ble_eq_true rfl⟩) rfl (rest := [.ref (K.2.1 1000)]) (st1 := [.long u14, .ref (K.2.1 1000)]) rfl rfl rfl dX2_beginOne_148 ⟨Nat.le_of_ble_eq_true rfl, Nat.le_of_ble_eq_true rfl⟩ (fun H locs hw => ?_)
            obtain ⟨u16, g17, h⟩ := qb1_s h
            refine d_V (As := [.long u14]) (v0 := some (.int u16)) (w0 := (A, B, L, rs)) hG E hw hl (m_X2_isWord l hG hM  g17) (qM0 hM) rfl (cwV 1 hts (lw_V q1546 q1548 qs65 q140 q1549) rfl rfl rfl ⟨rfl, kd_X2_isWord⟩ ⟨Nat.le_of_ble_eq_true rfl, Nat.le_of_ble_eq_true rfl⟩) rfl (rest := []) (st1 := [.int u16]) rfl rfl rfl dX2_beginOne_151 ⟨Nat.le_of_ble_eq_true rfl, Nat.le_of_ble_eq_true rfl⟩ (fun H locs hw => ?_)
            refine lv_if_eq (tgt := 164) hx hb dX2_beginOne_154 (by decide) (fun c => ?_) (fun c => ?_)
            · have h := qi_t c h
              refine lv_aload_n hx hb dX2_beginOne_164 rfl (lv_at hl 0 rfl) ?_
              refine lv_bipush (v := (109:Int32)) hx hb dX2_beginOne_165 (by decide) ?_
              refine lv_bipush (v := (111:Int32)) hx hb dX2_beginOne_167 (by decide) ?_
              refine lv_bipush (v := (115:Int32)) hx hb dX2_beginOne_169 (by decide) ?_
              refine lv_bipush (v := (116:Int32)) hx hb dX2_beginOne_171 (by decide) ?_
              obtain ⟨u18, g19, h⟩ := qb1_s h
              refine d_S (As := [.int (109:Int32), .int (111:Int32), .int (115:Int32), .int (116:Int32)]) (v0 := some (.long u18)) (w0 := (A, B, L, rs)) hG E hw hl (m_X2_w4 l hG hM  g19) (va_cwS 4 hts (lw_S q1537 q1538 q140 q1539) rfl rfl rfl kd_X2_w4 ⟨Nat.le_of_ble_eq_true rfl, Nat.le_of_ble_eq_true rfl⟩) rfl (rest := [.ref (K.2.1 1000)]) (st1 := [.long u18, .ref (K.2.1 1000)]) rfl rfl rfl dX2_beginOne_173 ⟨Nat.le_of_ble_eq_true rfl, Nat.le_of_ble_eq_true rfl⟩ (fun H locs hw => ?_)
              obtain ⟨u20, g21, h⟩ := qb1_s h
              refine d_V (As := [.long u18]) (v0 := some (.int u20)) (w0 := (A, B, L, rs)) hG E hw hl (m_X2_isWord l hG hM  g21) (qM0 hM) rfl (cwV 1 hts (lw_V q1546 q1548 qs65 q140 q1549) rfl rfl rfl ⟨rfl, kd_X2_isWord⟩ ⟨Nat.le_of_ble_eq_true rfl, Nat.le_of_ble_eq_true rfl⟩) rfl (rest := []) (st1 := [.int u20]) rfl rfl rfl dX2_beginOne_176 ⟨Nat.le_of_ble_eq_true rfl, Nat.le_of_ble_eq_true rfl⟩ (fun H locs hw => ?_)
              refine lv_if_eq (tgt := 189) hx hb dX2_beginOne_179 (by decide) (fun c => ?_) (fun c => ?_)
              · have h := qi_t c h
                refine lv_aload_n hx hb dX2_beginOne_189 rfl (lv_at hl 0 rfl) ?_
                refine lv_bipush (v := (102:Int32)) hx hb dX2_beginOne_190 (by decide) ?_
                refine lv_bipush (v := (97:Int32)) hx hb dX2_beginOne_192 (by decide) ?_
                refine lv_bipush (v := (99:Int32)) hx hb dX2_beginOne_194 (by decide) ?_
                refine lv_bipush (v := (116:Int32)) hx hb dX2_beginOne_196 (by decide) ?_
                obtain ⟨u22, g23, h⟩ := qb1_s h
                refine d_S (As := [.int (102:Int32), .int (97:Int32), .int (99:Int32), .int (116:Int32)]) (v0 := some (.long u22)) (w0 := (A, B, L, rs)) hG E hw hl (m_X2_w4 l hG hM  g23) (va_cwS 4 hts (lw_S q1537 q1538 q140 q1539) rfl rfl rfl kd_X2_w4 ⟨Nat.le_of_ble_eq_true rfl, Nat.le_of_ble_eq_true rfl⟩) rfl (rest := [.ref (K.2.1 1000)]) (st1 := [.long u22, .ref (K.2.1 1000)]) rfl rfl rfl dX2_beginOne_198 ⟨Nat.le_of_ble_eq_true rfl, Nat.le_of_ble_eq_true rfl⟩ (fun H locs hw => ?_)
                obtain ⟨u24, g25, h⟩ := qb1_s h
                refine d_V (As := [.long u22]) (v0 := some (.int u24)) (w0 := (A, B, L, rs)) hG E hw hl (m_X2_isWord l hG hM  g25) (qM0 hM) rfl (cwV 1 hts (lw_V q1546 q1548 qs65 q140 q1549) rfl rfl rfl ⟨rfl, kd_X2_isWord⟩ ⟨Nat.le_of_ble_eq_true rfl, Nat.le_of_ble_eq_true rfl⟩) rfl (rest := []) (st1 := [.int u24]) rfl rfl rfl dX2_beginOne_201 ⟨Nat.le_of_ble_eq_true rfl, Nat.le_of_ble_eq_true rfl⟩ (fun H locs hw => ?_)
                refine lv_if_eq (tgt := 214) hx hb dX2_beginOne_204 (by decide) (fun c => ?_) (fun c => ?_)
                · have h := qi_t c h
                  refine lv_iconst (v := (1:Int32)) hx hb dX2_beginOne_214 (by decide) ?_
                  have h := Option.some.inj h
                  obtain ⟨h1, h2⟩ := Prod.mk.inj h
                  obtain ⟨h2, h3⟩ := Prod.mk.inj h2
                  exact d_iret E hr rfl hw h1 (by rw [h2, h3]) dX2_beginOne_215
                · have h := qi_f c h
                  refine lv_aload_n hx hb dX2_beginOne_207 rfl (lv_at hl 0 rfl) ?_
                  obtain ⟨u26, B27, L28, g29, h⟩ := qb3_s h
                  refine d_V (As := []) (v0 := some (.int u26)) (w0 := (A, B27, L28, rs)) hG E hw hl (m_X2_factAt l hG hM  g29) (qM0 hM) rfl (cwV 0 hts (lw_V q1659 q1661 qs91 q140 q1662) rfl rfl rfl ⟨rfl, kd_X2_factAt⟩ ⟨Nat.le_of_ble_eq_true rfl, Nat.le_of_ble_eq_true rfl⟩) rfl (rest := []) (st1 := [.int u26]) rfl rfl rfl dX2_beginOne_208 ⟨Nat.le_of_ble_eq_true rfl, Nat.le_of_ble_eq_true rfl⟩ (fun H locs hw => ?_)
                  refine lv_goto (tgt := 215) hx hb dX2_beginOne_211 (by decide) ?_
                  have h := Option.some.inj h
                  obtain ⟨h1, h2⟩ := Prod.mk.inj h
                  obtain ⟨h2, h3⟩ := Prod.mk.inj h2
                  exact d_iret E hr rfl hw h1 (by rw [h2, h3]) dX2_beginOne_215
              · have h := qi_f c h
                refine lv_aload_n hx hb dX2_beginOne_182 rfl (lv_at hl 0 rfl) ?_
                refine lv_bipush (v := (41:Int32)) hx hb dX2_beginOne_183 (by decide) ?_
                obtain ⟨u30, B31, L32, g33, h⟩ := qb3_s h
                refine d_V (As := [.int (41:Int32)]) (v0 := some (.int u30)) (w0 := (A, B31, L32, rs)) hG E hw hl (m_X2_opened l hG hM  g33) (qM0 hM) rfl (cwV 1 hts (lw_V q1651 q1653 qs89 q140 q1654) rfl rfl rfl ⟨rfl, kd_X2_opened⟩ ⟨Nat.le_of_ble_eq_true rfl, Nat.le_of_ble_eq_true rfl⟩) rfl (rest := []) (st1 := [.int u30]) rfl rfl rfl dX2_beginOne_185 ⟨Nat.le_of_ble_eq_true rfl, Nat.le_of_ble_eq_true rfl⟩ (fun H locs hw => ?_)
                have h := Option.some.inj h
                obtain ⟨h1, h2⟩ := Prod.mk.inj h
                obtain ⟨h2, h3⟩ := Prod.mk.inj h2
                exact d_iret E hr rfl hw h1 (by rw [h2, h3]) dX2_beginOne_188
            · have h := qi_f c h
              refine lv_aload_n hx hb dX2_beginOne_157 rfl (lv_at hl 0 rfl) ?_
              refine lv_bipush (v := (20:Int32)) hx hb dX2_beginOne_158 (by decide) ?_
              obtain ⟨u34, B35, L36, g37, h⟩ := qb3_s h
              refine d_V (As := [.int (20:Int32)]) (v0 := some (.int u34)) (w0 := (A, B35, L36, rs)) hG E hw hl (m_X2_opened l hG hM  g37) (qM0 hM) rfl (cwV 1 hts (lw_V q1651 q1653 qs89 q140 q1654) rfl rfl rfl ⟨rfl, kd_X2_opened⟩ ⟨Nat.le_of_ble_eq_true rfl, Nat.le_of_ble_eq_true rfl⟩) rfl (rest := []) (st1 := [.int u34]) rfl rfl rfl dX2_beginOne_160 ⟨Nat.le_of_ble_eq_true rfl, Nat.le_of_ble_eq_true rfl⟩ (fun H locs hw => ?_)
              have h := Option.some.inj h
              obtain ⟨h1, h2⟩ := Prod.mk.inj h
              obtain ⟨h2, h3⟩ := Prod.mk.inj h2
              exact d_iret E hr rfl hw h1 (by rw [h2, h3]) dX2_beginOne_163
          · have h := qi_t c h
            refine lv_iconst (v := (1:Int32)) hx hb dX2_beginOne_139 (by decide) ?_
            have h := Option.some.inj h
            obtain ⟨h1, h2⟩ := Prod.mk.inj h
            obtain ⟨h2, h3⟩ := Prod.mk.inj h2
            exact d_iret E hr rfl hw h1 (by rw [h2, h3]) dX2_beginOne_140
        · have h := qi_t c h
          refine lv_aload_n hx hb dX2_beginOne_126 rfl (lv_at hl 0 rfl) ?_
          refine lv_iconst (v := (4:Int32)) hx hb dX2_beginOne_127 (by decide) ?_
          obtain ⟨u38, B39, L40, g41, h⟩ := qb3_s h
          refine d_V (As := [.int (4:Int32)]) (v0 := some (.int u38)) (w0 := (A, B39, L40, rs)) hG E hw hl (m_X2_opened l hG hM  g41) (qM0 hM) rfl (cwV 1 hts (lw_V q1651 q1653 qs89 q140 q1654) rfl rfl rfl ⟨rfl, kd_X2_opened⟩ ⟨Nat.le_of_ble_eq_true rfl, Nat.le_of_ble_eq_true rfl⟩) rfl (rest := []) (st1 := [.int u38]) rfl rfl rfl dX2_beginOne_128 ⟨Nat.le_of_ble_eq_true rfl, Nat.le_of_ble_eq_true rfl⟩ (fun H locs hw => ?_)
          have h := Option.some.inj h
          obtain ⟨h1, h2⟩ := Prod.mk.inj h
          obtain ⟨h2, h3⟩ := Prod.mk.inj h2
          exact d_iret E hr rfl hw h1 (by rw [h2, h3]) dX2_beginOne_131
      · have h := qi_t c h
        refine lv_aload_n hx hb dX2_beginOne_110 rfl (lv_at hl 0 rfl) ?_
        refine lv_bipush (v := (40:Int32)) hx hb dX2_beginOne_111 (by decide) ?_
        obtain ⟨u42, B43, L44, g45, h⟩ := qb3_s h
        refine d_V (As := [.int (40:Int32)]) (v0 := some (.int u42)) (w0 := (A, B43, L44, rs)) hG E hw hl (m_X2_opened l hG hM  g45) (qM0 hM) rfl (cwV 1 hts (lw_V q1651 q1653 qs89 q140 q1654) rfl rfl rfl ⟨rfl, kd_X2_opened⟩ ⟨Nat.le_of_ble_eq_true rfl, Nat.le_of_ble_eq_true rfl⟩) rfl (rest := []) (st1 := [.int u42]) rfl rfl rfl dX2_beginOne_113 ⟨Nat.le_of_ble_eq_true rfl, Nat.le_of_ble_eq_true rfl⟩ (fun H locs hw => ?_)
        have h := Option.some.inj h
        obtain ⟨h1, h2⟩ := Prod.mk.inj h
        obtain ⟨h2, h3⟩ := Prod.mk.inj h2
        exact d_iret E hr rfl hw h1 (by rw [h2, h3]) dX2_beginOne_116
    · have h := qi_f c h
      exact w_X2_beginOne_51 hG hM E hr  _ _ _   h hw (lv_sub hl [0, 1] rfl)

def f_X2_beginOne_20 (B : QA) (L : QL) : Option (Int32 × QA × QL) :=
  qb1 (f_X2_nameOf B L) fun u1 =>
  if u1 < (0:Int32) then (
  f_X2_beginOne_39 u1 B L) else (
  qb1 (f_X2_isOf u1 B) fun u46 =>
  if u46 = (0:Int32) then (
  some ((5:Int32), B, L)) else (
  f_X2_beginOne_39 u1 B L))
set_option maxHeartbeats 4000000 in
theorem w_X2_beginOne_20 {p : Program} {l : Launch} {e : Env} {s : State} {m : MethodId} {args : Array Value} {below : List Frame} {meth : Method} {c : Code} {K : QK} {G : State → Prop} {A : QA} {rs : QX × QM} {ro : Int32} {Bo : QA} {Lo : QL} (hG : QG G) (hM : QMl K) (E : EV K G p s m args meth c cX2_beginOne "VaneCourtModel" 2) (hr : meth.sig.returnType = (some .int)) : ∀ (B : QA) (L : QL) {H : Heap} {locs : List Loc} {ls : Array Slot}, f_X2_beginOne_20 B L = some (ro, Bo, Lo) → WP K (A, B, L, rs) H locs → lv_has ls 2 [(0, .ref (K.2.1 1000))] → W p l e (qrm 7 173 0 0) s m args below meth c H locs 0 0 (MQ below (QE K (QR (some (.int ro)) (A, Bo, Lo, rs))) args s 0 0 (qA K)) (F0 m 20 ls []) := by
  have hx := E.1
  have hb := E.2.1
  have hown := E.2.2.1
  have hts := E.2.2.2.2.1
  intro B L H locs ls  h hw hl
  rw [f_X2_beginOne_20] at h
  refine lv_aload_n hx hb dX2_beginOne_20 rfl (lv_at hl 0 rfl) ?_
  obtain ⟨u1, g2, h⟩ := qb1_s h
  refine d_V (As := []) (v0 := some (.int u1)) (w0 := (A, B, L, rs)) hG E hw hl (m_X2_nameOf l hG hM  g2) (qM0 hM) rfl (cwV 0 hts (lw_V q1635 q1637 qs85 q140 q1638) rfl rfl rfl ⟨rfl, kd_X2_nameOf⟩ ⟨Nat.le_of_ble_eq_true rfl, Nat.le_of_ble_eq_true rfl⟩) rfl (rest := []) (st1 := [.int u1]) rfl rfl rfl dX2_beginOne_21 ⟨Nat.le_of_ble_eq_true rfl, Nat.le_of_ble_eq_true rfl⟩ (fun H locs hw => ?_)
  refine lv_istore_n (lv' := [(1, .int u1), (0, .ref (K.2.1 1000))]) hx hb dX2_beginOne_24 rfl hl (by decide) rfl (fun ls hl => ?_)
  refine lv_iload_n hx hb dX2_beginOne_25 rfl (lv_at hl 0 rfl) ?_
  refine lv_if_lt (tgt := 39) hx hb dX2_beginOne_26 (by decide) (fun c => ?_) (fun c => ?_)
  · have h := qi_t c h
    exact w_X2_beginOne_39 hG hM E hr  _ _ _   h hw (lv_sub hl [1, 0] rfl)
  · have h := qi_f c h
    refine lv_aload_n hx hb dX2_beginOne_29 rfl (lv_at hl 1 rfl) ?_
    refine lv_iload_n hx hb dX2_beginOne_30 rfl (lv_at hl 0 rfl) ?_
    obtain ⟨u46, g47, h⟩ := qb1_s h
    refine d_V (As := [.int u1]) (v0 := some (.int u46)) (w0 := (A, B, L, rs)) hG E hw hl (m_X2_isOf l hG hM  g47) (qM0 hM) rfl (cwV 1 hts (lw_V q1647 q1649 qs88 q140 q1650) rfl rfl rfl ⟨rfl, kd_X2_isOf⟩ ⟨Nat.le_of_ble_eq_true rfl, Nat.le_of_ble_eq_true rfl⟩) rfl (rest := []) (st1 := [.int u46]) rfl rfl rfl dX2_beginOne_31 ⟨Nat.le_of_ble_eq_true rfl, Nat.le_of_ble_eq_true rfl⟩ (fun H locs hw => ?_)
    refine lv_if_ne (tgt := 39) hx hb dX2_beginOne_34 (by decide) (fun c => ?_) (fun c => ?_)
    · have h := qi_f c h
      exact w_X2_beginOne_39 hG hM E hr  _ _ _   h hw (lv_sub hl [1, 0] rfl)
    · have h := qi_t c h
      refine lv_iconst (v := (5:Int32)) hx hb dX2_beginOne_37 (by decide) ?_
      have h := Option.some.inj h
      obtain ⟨h1, h2⟩ := Prod.mk.inj h
      obtain ⟨h2, h3⟩ := Prod.mk.inj h2
      exact d_iret E hr rfl hw h1 (by rw [h2, h3]) dX2_beginOne_38

def f_X2_beginOne (B : QA) (L : QL) : Option (Int32 × QA × QL) :=
  if (B 1000 9) = (1:Int32) then (
  if (B 1000 10) ≤ (9999:Int32) then (
  f_X2_beginOne_20 B L) else (
  some ((2:Int32), B, L))) else (
  f_X2_beginOne_20 B L)
set_option maxHeartbeats 4000000 in
theorem w_X2_beginOne_0 {p : Program} {l : Launch} {e : Env} {s : State} {m : MethodId} {args : Array Value} {below : List Frame} {meth : Method} {c : Code} {K : QK} {G : State → Prop} {A : QA} {rs : QX × QM} {ro : Int32} {Bo : QA} {Lo : QL} (hG : QG G) (hM : QMl K) (E : EV K G p s m args meth c cX2_beginOne "VaneCourtModel" 2) (hr : meth.sig.returnType = (some .int)) : ∀ (B : QA) (L : QL) {H : Heap} {locs : List Loc} {ls : Array Slot}, f_X2_beginOne B L = some (ro, Bo, Lo) → WP K (A, B, L, rs) H locs → lv_has ls 2 [(0, .ref (K.2.1 1000))] → W p l e (qrm 7 173 0 0) s m args below meth c H locs 0 0 (MQ below (QE K (QR (some (.int ro)) (A, Bo, Lo, rs))) args s 0 0 (qA K)) (F0 m 0 ls []) := by
  have hx := E.1
  have hb := E.2.1
  have hown := E.2.2.1
  have hts := E.2.2.2.2.1
  intro B L H locs ls  h hw hl
  rw [f_X2_beginOne] at h
  refine lv_aload_n hx hb dX2_beginOne_0 rfl (lv_at hl 0 rfl) ?_
  refine r_getM (v := .int (B 1000 9)) E hw hM 9 (by decide) q1362 rfl dX2_beginOne_1 ?_
  refine lv_iconst (v := (1:Int32)) hx hb dX2_beginOne_4 (by decide) ?_
  refine lv_icmp_ne (tgt := 20) hx hb dX2_beginOne_5 (by decide) (fun c => ?_) (fun c => ?_)
  · have h := qi_f c h
    exact w_X2_beginOne_20 hG hM E hr  _ _   h hw (lv_sub hl [0] rfl)
  · have h := qi_t c h
    refine lv_aload_n hx hb dX2_beginOne_8 rfl (lv_at hl 0 rfl) ?_
    refine r_getM (v := .int (B 1000 10)) E hw hM 10 (by decide) q1363 rfl dX2_beginOne_9 ?_
    refine lv_sipush (v := (9999:Int32)) hx hb dX2_beginOne_12 (by decide) ?_
    refine lv_icmp_le (tgt := 20) hx hb dX2_beginOne_15 (by decide) (fun c => ?_) (fun c => ?_)
    · have h := qi_t c h
      exact w_X2_beginOne_20 hG hM E hr  _ _   h hw (lv_sub hl [0] rfl)
    · have h := qi_f c h
      refine lv_iconst (v := (2:Int32)) hx hb dX2_beginOne_18 (by decide) ?_
      have h := Option.some.inj h
      obtain ⟨h1, h2⟩ := Prod.mk.inj h
      obtain ⟨h2, h3⟩ := Prod.mk.inj h2
      exact d_iret E hr rfl hw h1 (by rw [h2, h3]) dX2_beginOne_19

theorem m_X2_beginOne (l : Launch) {K : QK} {G : State → Prop} (hG : QG G) (hM : QMl K) {A : QA} {rs : QX × QM} {B : QA} {L : QL} {ro : Int32} {Bo : QA} {Lo : QL} (h : f_X2_beginOne B L = some (ro, Bo, Lo)) : MC l K G yX2_beginOne (ws_ yX2_beginOne cX2_beginOne 2 (some .int)) 7 173 0 0 [.ref (K.2.1 1000)] (A, B, L, rs) (QR (some (.int ro)) (A, Bo, Lo, rs)) := by
  refine MC.of (by decide) (Nat.le_of_ble_eq_true rfl) (lv := [(0, .ref (K.2.1 1000))]) rfl (fun p e s m below meth c ls E hr hl hw => ?_)
  exact w_X2_beginOne_0 hG hM E hr _ _  h hw hl

def f_X2_parsed_82 (B : QA) (L : QL) : Option (Int32 × QA × QL) :=
  qb1 (f_X2_settle (1:Int32) B) fun B20 =>
  some ((0:Int32), B20, L)
set_option maxHeartbeats 4000000 in
theorem w_X2_parsed_82 {p : Program} {l : Launch} {e : Env} {s : State} {m : MethodId} {args : Array Value} {below : List Frame} {meth : Method} {c : Code} {K : QK} {G : State → Prop} {A : QA} {rs : QX × QM} {ro : Int32} {Bo : QA} {Lo : QL} (hG : QG G) (hM : QMl K) (E : EV K G p s m args meth c cX2_parsed "VaneCourtModel" 3) (hr : meth.sig.returnType = (some .int)) : ∀ (B : QA) (L : QL) {H : Heap} {locs : List Loc} {ls : Array Slot}, f_X2_parsed_82 B L = some (ro, Bo, Lo) → WP K (A, B, L, rs) H locs → lv_has ls 3 [(0, .ref (K.2.1 1000))] → W p l e (qrm 8 198 0 0) s m args below meth c H locs 0 0 (MQ below (QE K (QR (some (.int ro)) (A, Bo, Lo, rs))) args s 0 0 (qA K)) (F0 m 82 ls []) := by
  have hx := E.1
  have hb := E.2.1
  have hown := E.2.2.1
  have hts := E.2.2.2.2.1
  intro B L H locs ls  h hw hl
  rw [f_X2_parsed_82] at h
  refine lv_aload_n hx hb dX2_parsed_82 rfl (lv_at hl 0 rfl) ?_
  refine lv_iconst (v := (1:Int32)) hx hb dX2_parsed_83 (by decide) ?_
  obtain ⟨B20, g21, h⟩ := qb1_s h
  refine d_V (As := [.int (1:Int32)]) (v0 := none) (w0 := (A, B20, L, rs)) hG E hw hl (m_X2_settle l hG hM  g21) (qM0 hM) rfl (cwV 1 hts (lw_V q1615 q1617 qs80 q140 q1618) rfl rfl rfl ⟨rfl, kd_X2_settle⟩ ⟨Nat.le_of_ble_eq_true rfl, Nat.le_of_ble_eq_true rfl⟩) rfl (rest := []) (st1 := []) rfl rfl rfl dX2_parsed_84 ⟨Nat.le_of_ble_eq_true rfl, Nat.le_of_ble_eq_true rfl⟩ (fun H locs hw => ?_)
  refine lv_iconst (v := (0:Int32)) hx hb dX2_parsed_87 (by decide) ?_
  have h := Option.some.inj h
  obtain ⟨h1, h2⟩ := Prod.mk.inj h
  obtain ⟨h2, h3⟩ := Prod.mk.inj h2
  exact d_iret E hr rfl hw h1 (by rw [h2, h3]) dX2_parsed_88

def f_X2_parsed_48 (k30 : (Int32 → QA → QL → Option (Int32 × QA × QL))) (x1 : Int32) (s0 : Int32) (B : QA) (L : QL) : Option (Int32 × QA × QL) :=
  if s0 ≤ (0:Int32) then (
  if s0 = (0:Int32) then (
  k30 x1 B L) else (
  qb1 (f_X2_openNow B) fun u18 =>
  if (0:Int32) ≤ u18 then (
  some ((1:Int32), B, L)) else (
  if x1 = (0:Int32) then (
  f_X2_parsed_82 B L) else (
  qb1 (f_X2_isCompared B) fun u22 =>
  if u22 = (0:Int32) then (
  some ((1:Int32), B, L)) else (
  f_X2_parsed_82 B L))))) else (
  some (s0, B, L))
set_option maxHeartbeats 4000000 in
theorem w_X2_parsed_48 {p : Program} {l : Launch} {e : Env} {s : State} {m : MethodId} {args : Array Value} {below : List Frame} {meth : Method} {c : Code} {K : QK} {G : State → Prop} {A : QA} {rs : QX × QM} {ro : Int32} {Bo : QA} {Lo : QL} (hG : QG G) (hM : QMl K) (E : EV K G p s m args meth c cX2_parsed "VaneCourtModel" 3) (hr : meth.sig.returnType = (some .int)) {k30 : (Int32 → QA → QL → Option (Int32 × QA × QL))} (hk30 : ∀ (x1 : Int32) (B : QA) (L : QL) {H : Heap} {locs : List Loc} {ls : Array Slot}, k30 x1 B L = some (ro, Bo, Lo) → WP K (A, B, L, rs) H locs → lv_has ls 3 [(0, .ref (K.2.1 1000)), (1, .int x1)] → W p l e (qrm 8 198 0 0) s m args below meth c H locs 0 0 (MQ below (QE K (QR (some (.int ro)) (A, Bo, Lo, rs))) args s 0 0 (qA K)) (F0 m 30 ls [])) : ∀ (x1 : Int32) (s0 : Int32) (B : QA) (L : QL) {H : Heap} {locs : List Loc} {ls : Array Slot}, f_X2_parsed_48 k30 x1 s0 B L = some (ro, Bo, Lo) → WP K (A, B, L, rs) H locs → lv_has ls 3 [(0, .ref (K.2.1 1000)), (1, .int x1)] → W p l e (qrm 8 198 0 0) s m args below meth c H locs 0 0 (MQ below (QE K (QR (some (.int ro)) (A, Bo, Lo, rs))) args s 0 0 (qA K)) (F0 m 48 ls [.int s0]) := by
  have hx := E.1
  have hb := E.2.1
  have hown := E.2.2.1
  have hts := E.2.2.2.2.1
  intro x1 s0 B L H locs ls  h hw hl
  rw [f_X2_parsed_48] at h
  refine lv_istore_n (lv' := [(2, .int s0), (0, .ref (K.2.1 1000)), (1, .int x1)]) hx hb dX2_parsed_48 rfl hl (by decide) rfl (fun ls hl => ?_)
  refine lv_iload_n hx hb dX2_parsed_49 rfl (lv_at hl 0 rfl) ?_
  refine lv_if_le (tgt := 55) hx hb dX2_parsed_50 (by decide) (fun c => ?_) (fun c => ?_)
  · have h := qi_t c h
    refine lv_iload_n hx hb dX2_parsed_55 rfl (lv_at hl 0 rfl) ?_
    refine lv_if_ne (tgt := 62) hx hb dX2_parsed_56 (by decide) (fun c => ?_) (fun c => ?_)
    · have h := qi_f c h
      refine lv_aload_n hx hb dX2_parsed_62 rfl (lv_at hl 1 rfl) ?_
      obtain ⟨u18, g19, h⟩ := qb1_s h
      refine d_V (As := []) (v0 := some (.int u18)) (w0 := (A, B, L, rs)) hG E hw hl (m_X2_openNow l hG hM  g19) (qM0 hM) rfl (cwV 0 hts (lw_V q1600 q1602 qs77 q140 q1603) rfl rfl rfl ⟨rfl, kd_X2_openNow⟩ ⟨Nat.le_of_ble_eq_true rfl, Nat.le_of_ble_eq_true rfl⟩) rfl (rest := []) (st1 := [.int u18]) rfl rfl rfl dX2_parsed_63 ⟨Nat.le_of_ble_eq_true rfl, Nat.le_of_ble_eq_true rfl⟩ (fun H locs hw => ?_)
      refine lv_if_ge (tgt := 80) hx hb dX2_parsed_66 (by decide) (fun c => ?_) (fun c => ?_)
      · have h := qi_t c h
        refine lv_iconst (v := (1:Int32)) hx hb dX2_parsed_80 (by decide) ?_
        have h := Option.some.inj h
        obtain ⟨h1, h2⟩ := Prod.mk.inj h
        obtain ⟨h2, h3⟩ := Prod.mk.inj h2
        exact d_iret E hr rfl hw h1 (by rw [h2, h3]) dX2_parsed_81
      · have h := qi_f c h
        refine lv_iload_n hx hb dX2_parsed_69 rfl (lv_at hl 2 rfl) ?_
        refine lv_if_eq (tgt := 82) hx hb dX2_parsed_70 (by decide) (fun c => ?_) (fun c => ?_)
        · have h := qi_t c h
          exact w_X2_parsed_82 hG hM E hr  _ _   h hw (lv_sub hl [1] rfl)
        · have h := qi_f c h
          refine lv_aload_n hx hb dX2_parsed_73 rfl (lv_at hl 1 rfl) ?_
          obtain ⟨u22, g23, h⟩ := qb1_s h
          refine d_V (As := []) (v0 := some (.int u22)) (w0 := (A, B, L, rs)) hG E hw hl (m_X2_isCompared l hG hM  g23) (qM0 hM) rfl (cwV 0 hts (lw_V q1604 q1606 qs78 q140 q1607) rfl rfl rfl ⟨rfl, kd_X2_isCompared⟩ ⟨Nat.le_of_ble_eq_true rfl, Nat.le_of_ble_eq_true rfl⟩) rfl (rest := []) (st1 := [.int u22]) rfl rfl rfl dX2_parsed_74 ⟨Nat.le_of_ble_eq_true rfl, Nat.le_of_ble_eq_true rfl⟩ (fun H locs hw => ?_)
          refine lv_if_ne (tgt := 82) hx hb dX2_parsed_77 (by decide) (fun c => ?_) (fun c => ?_)
          · have h := qi_f c h
            exact w_X2_parsed_82 hG hM E hr  _ _   h hw (lv_sub hl [1] rfl)
          · have h := qi_t c h
            refine lv_iconst (v := (1:Int32)) hx hb dX2_parsed_80 (by decide) ?_
            have h := Option.some.inj h
            obtain ⟨h1, h2⟩ := Prod.mk.inj h
            obtain ⟨h2, h3⟩ := Prod.mk.inj h2
            exact d_iret E hr rfl hw h1 (by rw [h2, h3]) dX2_parsed_81
    · have h := qi_t c h
      refine lv_goto (tgt := 30) hx hb dX2_parsed_59 (by decide) ?_
      exact hk30 _ _ _  h hw (lv_sub hl [1, 2] rfl)
  · have h := qi_f c h
    refine lv_iload_n hx hb dX2_parsed_53 rfl (lv_at hl 0 rfl) ?_
    have h := Option.some.inj h
    obtain ⟨h1, h2⟩ := Prod.mk.inj h
    obtain ⟨h2, h3⟩ := Prod.mk.inj h2
    exact d_iret E hr rfl hw h1 (by rw [h2, h3]) dX2_parsed_54

def f_X2_parsed_30 : Nat → Int32 → QA → QL → Option (Int32 × QA × QL)
  | 0, _, _, _ => none
  | n + 1, x1, B, L => if (B 1000 20) = (0:Int32) then (
  qb3 (f_X2_beginOne B L) fun u14 B15 L16 =>
  f_X2_parsed_48 (fun x1' B' L' => f_X2_parsed_30 n x1' B' L') x1 u14 B15 L16) else (
  qb3 (f_X2_behindOne B L) fun u24 B25 L26 =>
  f_X2_parsed_48 (fun x1' B' L' => f_X2_parsed_30 n x1' B' L') x1 u24 B25 L26)
set_option maxHeartbeats 4000000 in
theorem w_X2_parsed_30 {p : Program} {l : Launch} {e : Env} {s : State} {m : MethodId} {args : Array Value} {below : List Frame} {meth : Method} {c : Code} {K : QK} {G : State → Prop} {A : QA} {rs : QX × QM} {ro : Int32} {Bo : QA} {Lo : QL} (hG : QG G) (hM : QMl K) (E : EV K G p s m args meth c cX2_parsed "VaneCourtModel" 3) (hr : meth.sig.returnType = (some .int)) : ∀ (n : Nat) (x1 : Int32) (B : QA) (L : QL) {H : Heap} {locs : List Loc} {ls : Array Slot}, f_X2_parsed_30 n x1 B L = some (ro, Bo, Lo) → WP K (A, B, L, rs) H locs → lv_has ls 3 [(0, .ref (K.2.1 1000)), (1, .int x1)] → W p l e (qrm 8 198 0 0) s m args below meth c H locs 0 0 (MQ below (QE K (QR (some (.int ro)) (A, Bo, Lo, rs))) args s 0 0 (qA K)) (F0 m 30 ls []) := by
  have hx := E.1
  have hb := E.2.1
  have hown := E.2.2.1
  have hts := E.2.2.2.2.1
  intro n
  induction n with
  | zero =>
    intro x1 B L H locs ls  h hw hl
    cases h
  | succ n ih =>
    intro x1 B L H locs ls  h hw hl
    rw [f_X2_parsed_30] at h
    refine lv_aload_n hx hb dX2_parsed_30 rfl (lv_at hl 0 rfl) ?_
    refine r_getM (v := .int (B 1000 20)) E hw hM 20 (by decide) q1373 rfl dX2_parsed_31 ?_
    refine lv_if_eq (tgt := 44) hx hb dX2_parsed_34 (by decide) (fun c => ?_) (fun c => ?_)
    · have h := qi_t c h
      refine lv_aload_n hx hb dX2_parsed_44 rfl (lv_at hl 0 rfl) ?_
      obtain ⟨u14, B15, L16, g17, h⟩ := qb3_s h
      refine d_V (As := []) (v0 := some (.int u14)) (w0 := (A, B15, L16, rs)) hG E hw hl (m_X2_beginOne l hG hM  g17) (qM0 hM) rfl (cwV 0 hts (lw_V q1631 q1633 qs84 q140 q1634) rfl rfl rfl ⟨rfl, kd_X2_beginOne⟩ ⟨Nat.le_of_ble_eq_true rfl, Nat.le_of_ble_eq_true rfl⟩) rfl (rest := []) (st1 := [.int u14]) rfl rfl rfl dX2_parsed_45 ⟨Nat.le_of_ble_eq_true rfl, Nat.le_of_ble_eq_true rfl⟩ (fun H locs hw => ?_)
      exact w_X2_parsed_48 hG hM E hr ih _ _ _ _   h hw (lv_sub hl [0, 1] rfl)
    · have h := qi_f c h
      refine lv_aload_n hx hb dX2_parsed_37 rfl (lv_at hl 0 rfl) ?_
      obtain ⟨u24, B25, L26, g27, h⟩ := qb3_s h
      refine d_V (As := []) (v0 := some (.int u24)) (w0 := (A, B25, L26, rs)) hG E hw hl (m_X2_behindOne l hG hM  g27) (qM0 hM) rfl (cwV 0 hts (lw_V q1588 q1590 qs74 q140 q1591) rfl rfl rfl ⟨rfl, kd_X2_behindOne⟩ ⟨Nat.le_of_ble_eq_true rfl, Nat.le_of_ble_eq_true rfl⟩) rfl (rest := []) (st1 := [.int u24]) rfl rfl rfl dX2_parsed_38 ⟨Nat.le_of_ble_eq_true rfl, Nat.le_of_ble_eq_true rfl⟩ (fun H locs hw => ?_)
      refine lv_goto (tgt := 48) hx hb dX2_parsed_41 (by decide) ?_
      exact w_X2_parsed_48 hG hM E hr ih _ _ _ _   h hw (lv_sub hl [0, 1] rfl)

def f_X2_parsed (x1 : Int32) (B : QA) (L : QL) : Option (Int32 × QA × QL) :=
  qlet (qu B 1000 17 (0:Int32)) fun B1 =>
  qlet (qu B1 1000 18 (0:Int32)) fun B3 =>
  qlet (qu B3 1000 19 (0:Int32)) fun B5 =>
  qlet (qu B5 1000 20 (0:Int32)) fun B7 =>
  qif (qbo x1) <|
  qlet (qu B7 1000 21 x1) fun B10 =>
  qlet (qu B10 1000 22 (0:Int32)) fun B12 =>
  f_X2_parsed_30 FU x1 B12 L
set_option maxHeartbeats 4000000 in
theorem w_X2_parsed_0 {p : Program} {l : Launch} {e : Env} {s : State} {m : MethodId} {args : Array Value} {below : List Frame} {meth : Method} {c : Code} {K : QK} {G : State → Prop} {A : QA} {rs : QX × QM} {ro : Int32} {Bo : QA} {Lo : QL} (hG : QG G) (hM : QMl K) (E : EV K G p s m args meth c cX2_parsed "VaneCourtModel" 3) (hr : meth.sig.returnType = (some .int)) : ∀ (x1 : Int32) (B : QA) (L : QL) {H : Heap} {locs : List Loc} {ls : Array Slot}, f_X2_parsed x1 B L = some (ro, Bo, Lo) → WP K (A, B, L, rs) H locs → lv_has ls 3 [(0, .ref (K.2.1 1000)), (1, .int x1)] → W p l e (qrm 8 198 0 0) s m args below meth c H locs 0 0 (MQ below (QE K (QR (some (.int ro)) (A, Bo, Lo, rs))) args s 0 0 (qA K)) (F0 m 0 ls []) := by
  have hx := E.1
  have hb := E.2.1
  have hown := E.2.2.1
  have hts := E.2.2.2.2.1
  intro x1 B L H locs ls  h hw hl
  rw [f_X2_parsed] at h
  refine lv_aload_n hx hb dX2_parsed_0 rfl (lv_at hl 0 rfl) ?_
  refine lv_iconst (v := (0:Int32)) hx hb dX2_parsed_1 (by decide) ?_
  obtain ⟨B1, e2, h⟩ := qlet_s h
  refine r_putM E hw hM 17 (by decide) q1370 rfl rfl rfl (fun _ _ => rfl) dX2_parsed_2 (fun H locs hw => ?_)
  rw [← e2] at hw
  refine lv_aload_n hx hb dX2_parsed_5 rfl (lv_at hl 0 rfl) ?_
  refine lv_iconst (v := (0:Int32)) hx hb dX2_parsed_6 (by decide) ?_
  obtain ⟨B3, e4, h⟩ := qlet_s h
  refine r_putM E hw hM 18 (by decide) q1371 rfl rfl rfl (fun _ _ => rfl) dX2_parsed_7 (fun H locs hw => ?_)
  rw [← e4] at hw
  refine lv_aload_n hx hb dX2_parsed_10 rfl (lv_at hl 0 rfl) ?_
  refine lv_iconst (v := (0:Int32)) hx hb dX2_parsed_11 (by decide) ?_
  obtain ⟨B5, e6, h⟩ := qlet_s h
  refine r_putM E hw hM 19 (by decide) q1372 rfl rfl rfl (fun _ _ => rfl) dX2_parsed_12 (fun H locs hw => ?_)
  rw [← e6] at hw
  refine lv_aload_n hx hb dX2_parsed_15 rfl (lv_at hl 0 rfl) ?_
  refine lv_iconst (v := (0:Int32)) hx hb dX2_parsed_16 (by decide) ?_
  obtain ⟨B7, e8, h⟩ := qlet_s h
  refine r_putM E hw hM 20 (by decide) q1373 rfl rfl rfl (fun _ _ => rfl) dX2_parsed_17 (fun H locs hw => ?_)
  rw [← e8] at hw
  refine lv_aload_n hx hb dX2_parsed_20 rfl (lv_at hl 0 rfl) ?_
  refine lv_iload_n hx hb dX2_parsed_21 rfl (lv_at hl 1 rfl) ?_
  obtain ⟨z9, h⟩ := qif_s h
  obtain ⟨B10, e11, h⟩ := qlet_s h
  refine r_putM E hw hM 21 (by decide) q1374 rfl (qbo_n z9) (qbo_f z9) (fun _ _ => rfl) dX2_parsed_22 (fun H locs hw => ?_)
  rw [← e11] at hw
  refine lv_aload_n hx hb dX2_parsed_25 rfl (lv_at hl 0 rfl) ?_
  refine lv_iconst (v := (0:Int32)) hx hb dX2_parsed_26 (by decide) ?_
  obtain ⟨B12, e13, h⟩ := qlet_s h
  refine r_putM E hw hM 22 (by decide) q1375 rfl rfl rfl (fun _ _ => rfl) dX2_parsed_27 (fun H locs hw => ?_)
  rw [← e13] at hw
  exact w_X2_parsed_30 hG hM E hr  _ _ _ _   h hw (lv_sub hl [0, 1] rfl)

theorem m_X2_parsed (l : Launch) {K : QK} {G : State → Prop} (hG : QG G) (hM : QMl K) {A : QA} {rs : QX × QM} {x1 : Int32} {B : QA} {L : QL} {ro : Int32} {Bo : QA} {Lo : QL} (h : f_X2_parsed x1 B L = some (ro, Bo, Lo)) : MC l K G yX2_parsed (ws_ yX2_parsed cX2_parsed 3 (some .int)) 8 198 0 0 [.ref (K.2.1 1000), .int x1] (A, B, L, rs) (QR (some (.int ro)) (A, Bo, Lo, rs)) := by
  refine MC.of (by decide) (Nat.le_of_ble_eq_true rfl) (lv := [(0, .ref (K.2.1 1000)), (1, .int x1)]) rfl (fun p e s m below meth c ls E hr hl hw => ?_)
  exact w_X2_parsed_0 hG hM E hr _ _ _  h hw hl

def f_X2_lawClause (x1 : Int32) (x2 : Int32) (B : QA) (L : QL) : Option (Int32 × QA × QL) :=
  qif (qok (x1 + (1:Int32)) 2820) <|
  qlet (qu B 1003 (x1 + (1:Int32)).toNatClampNeg (B 1000 13)) fun B2 =>
  qb3 (f_X2_parsed x2 B2 L) fun u4 B5 L6 =>
  qif (qok (x1 + (2:Int32)) 2820) <|
  qlet (qu B5 1003 (x1 + (2:Int32)).toNatClampNeg (B5 1000 13)) fun B9 =>
  some (u4, B9, L6)
set_option maxHeartbeats 4000000 in
theorem w_X2_lawClause_0 {p : Program} {l : Launch} {e : Env} {s : State} {m : MethodId} {args : Array Value} {below : List Frame} {meth : Method} {c : Code} {K : QK} {G : State → Prop} {A : QA} {rs : QX × QM} {ro : Int32} {Bo : QA} {Lo : QL} (hG : QG G) (hM : QMl K) (E : EV K G p s m args meth c cX2_lawClause "VaneCourtModel" 4) (hr : meth.sig.returnType = (some .int)) : ∀ (x1 : Int32) (x2 : Int32) (B : QA) (L : QL) {H : Heap} {locs : List Loc} {ls : Array Slot}, f_X2_lawClause x1 x2 B L = some (ro, Bo, Lo) → WP K (A, B, L, rs) H locs → lv_has ls 4 [(0, .ref (K.2.1 1000)), (1, .int x1), (2, .int x2)] → W p l e (qrm 9 220 0 0) s m args below meth c H locs 0 0 (MQ below (QE K (QR (some (.int ro)) (A, Bo, Lo, rs))) args s 0 0 (qA K)) (F0 m 0 ls []) := by
  have hx := E.1
  have hb := E.2.1
  have hown := E.2.2.1
  have hts := E.2.2.2.2.1
  intro x1 x2 B L H locs ls  h hw hl
  rw [f_X2_lawClause] at h
  refine lv_aload_n hx hb dX2_lawClause_0 rfl (lv_at hl 0 rfl) ?_
  refine r_getM (v := .ref (K.2.1 1003)) E hw hM 2 (by decide) q1355 rfl dX2_lawClause_1 ?_
  refine lv_iload_n hx hb dX2_lawClause_4 rfl (lv_at hl 1 rfl) ?_
  refine lv_iconst (v := (1:Int32)) hx hb dX2_lawClause_5 (by decide) ?_
  refine lv_iadd hx hb dX2_lawClause_6 ?_
  refine lv_aload_n hx hb dX2_lawClause_7 rfl (lv_at hl 0 rfl) ?_
  refine r_getM (v := .int (B 1000 13)) E hw hM 13 (by decide) q1366 rfl dX2_lawClause_8 ?_
  obtain ⟨z1, h⟩ := qif_s h
  obtain ⟨B2, e3, h⟩ := qlet_s h
  refine r_iastB (j := (x1 + (1:Int32)).toNatClampNeg) E hw (qi_1003 hM) (qok_in z1) rfl dX2_lawClause_11 (fun H locs hw => ?_)
  rw [← e3] at hw
  refine lv_aload_n hx hb dX2_lawClause_12 rfl (lv_at hl 0 rfl) ?_
  refine lv_iload_n hx hb dX2_lawClause_13 rfl (lv_at hl 2 rfl) ?_
  obtain ⟨u4, B5, L6, g7, h⟩ := qb3_s h
  refine d_V (As := [.int x2]) (v0 := some (.int u4)) (w0 := (A, B5, L6, rs)) hG E hw hl (m_X2_parsed l hG hM  g7) (qM0 hM) rfl (cwV 1 hts (lw_V q1584 q1586 qs73 q140 q1587) rfl rfl rfl ⟨rfl, kd_X2_parsed⟩ ⟨Nat.le_of_ble_eq_true rfl, Nat.le_of_ble_eq_true rfl⟩) rfl (rest := []) (st1 := [.int u4]) rfl rfl rfl dX2_lawClause_14 ⟨Nat.le_of_ble_eq_true rfl, Nat.le_of_ble_eq_true rfl⟩ (fun H locs hw => ?_)
  refine lv_istore_n (lv' := [(3, .int u4), (0, .ref (K.2.1 1000)), (1, .int x1), (2, .int x2)]) hx hb dX2_lawClause_17 rfl hl (by decide) rfl (fun ls hl => ?_)
  refine lv_aload_n hx hb dX2_lawClause_18 rfl (lv_at hl 1 rfl) ?_
  refine r_getM (v := .ref (K.2.1 1003)) E hw hM 2 (by decide) q1355 rfl dX2_lawClause_19 ?_
  refine lv_iload_n hx hb dX2_lawClause_22 rfl (lv_at hl 2 rfl) ?_
  refine lv_iconst (v := (2:Int32)) hx hb dX2_lawClause_23 (by decide) ?_
  refine lv_iadd hx hb dX2_lawClause_24 ?_
  refine lv_aload_n hx hb dX2_lawClause_25 rfl (lv_at hl 1 rfl) ?_
  refine r_getM (v := .int (B5 1000 13)) E hw hM 13 (by decide) q1366 rfl dX2_lawClause_26 ?_
  obtain ⟨z8, h⟩ := qif_s h
  obtain ⟨B9, e10, h⟩ := qlet_s h
  refine r_iastB (j := (x1 + (2:Int32)).toNatClampNeg) E hw (qi_1003 hM) (qok_in z8) rfl dX2_lawClause_29 (fun H locs hw => ?_)
  rw [← e10] at hw
  refine lv_iload_n hx hb dX2_lawClause_30 rfl (lv_at hl 0 rfl) ?_
  have h := Option.some.inj h
  obtain ⟨h1, h2⟩ := Prod.mk.inj h
  obtain ⟨h2, h3⟩ := Prod.mk.inj h2
  exact d_iret E hr rfl hw h1 (by rw [h2, h3]) dX2_lawClause_31

theorem m_X2_lawClause (l : Launch) {K : QK} {G : State → Prop} (hG : QG G) (hM : QMl K) {A : QA} {rs : QX × QM} {x1 : Int32} {x2 : Int32} {B : QA} {L : QL} {ro : Int32} {Bo : QA} {Lo : QL} (h : f_X2_lawClause x1 x2 B L = some (ro, Bo, Lo)) : MC l K G yX2_lawClause (ws_ yX2_lawClause cX2_lawClause 4 (some .int)) 9 220 0 0 [.ref (K.2.1 1000), .int x1, .int x2] (A, B, L, rs) (QR (some (.int ro)) (A, Bo, Lo, rs)) := by
  refine MC.of (by decide) (Nat.le_of_ble_eq_true rfl) (lv := [(0, .ref (K.2.1 1000)), (1, .int x1), (2, .int x2)]) rfl (fun p e s m below meth c ls E hr hl hw => ?_)
  exact w_X2_lawClause_0 hG hM E hr _ _ _ _  h hw hl

def f_X2_codeClause_32 (x1 : Int32) (B : QA) (L : QL) : Option (Int32 × QA × QL) :=
  qb3 (f_X2_figure (x1 + (3:Int32)) (0:Int32) (3:Int32) B L) fun u1 B2 L3 =>
  if u1 = (0:Int32) then (
  qif (qok (x1 + (3:Int32)) 2820) <|
  qlet (qu B2 1000 23 ((B2 1000 23) ||| ((1:Int32) <<< ((B2 1003 (x1 + (3:Int32)).toNatClampNeg) &&& 31)))) fun B6 =>
  if (B6 1000 9) = (58:Int32) then (
  qb2 (f_X2_nextToken B6 L3) fun B8 L9 =>
  qb3 (f_X2_lawClause x1 (1:Int32) B8 L9) fun u11 B12 L13 =>
  some (u11, B12, L13)) else (
  some ((1:Int32), B6, L3))) else (
  some (u1, B2, L3))
set_option maxHeartbeats 4000000 in
theorem w_X2_codeClause_32 {p : Program} {l : Launch} {e : Env} {s : State} {m : MethodId} {args : Array Value} {below : List Frame} {meth : Method} {c : Code} {K : QK} {G : State → Prop} {A : QA} {rs : QX × QM} {ro : Int32} {Bo : QA} {Lo : QL} (hG : QG G) (hM : QMl K) (E : EV K G p s m args meth c cX2_codeClause "VaneCourtModel" 3) (hr : meth.sig.returnType = (some .int)) : ∀ (x1 : Int32) (B : QA) (L : QL) {H : Heap} {locs : List Loc} {ls : Array Slot}, f_X2_codeClause_32 x1 B L = some (ro, Bo, Lo) → WP K (A, B, L, rs) H locs → lv_has ls 3 [(0, .ref (K.2.1 1000)), (1, .int x1)] → W p l e (qrm 10 243 0 0) s m args below meth c H locs 0 0 (MQ below (QE K (QR (some (.int ro)) (A, Bo, Lo, rs))) args s 0 0 (qA K)) (F0 m 32 ls []) := by
  have hx := E.1
  have hb := E.2.1
  have hown := E.2.2.1
  have hts := E.2.2.2.2.1
  intro x1 B L H locs ls  h hw hl
  rw [f_X2_codeClause_32] at h
  refine lv_aload_n hx hb dX2_codeClause_32 rfl (lv_at hl 0 rfl) ?_
  refine lv_iload_n hx hb dX2_codeClause_33 rfl (lv_at hl 1 rfl) ?_
  refine lv_iconst (v := (3:Int32)) hx hb dX2_codeClause_34 (by decide) ?_
  refine lv_iadd hx hb dX2_codeClause_35 ?_
  refine lv_iconst (v := (0:Int32)) hx hb dX2_codeClause_36 (by decide) ?_
  refine lv_iconst (v := (3:Int32)) hx hb dX2_codeClause_37 (by decide) ?_
  obtain ⟨u1, B2, L3, g4, h⟩ := qb3_s h
  refine d_V (As := [.int (x1 + (3:Int32)), .int (0:Int32), .int (3:Int32)]) (v0 := some (.int u1)) (w0 := (A, B2, L3, rs)) hG E hw hl (m_X2_figure l hG hM  g4) (qM0 hM) rfl (cwV 3 hts (lw_V q1576 q1578 qs71 q140 q1579) rfl rfl rfl ⟨rfl, kd_X2_figure⟩ ⟨Nat.le_of_ble_eq_true rfl, Nat.le_of_ble_eq_true rfl⟩) rfl (rest := []) (st1 := [.int u1]) rfl rfl rfl dX2_codeClause_38 ⟨Nat.le_of_ble_eq_true rfl, Nat.le_of_ble_eq_true rfl⟩ (fun H locs hw => ?_)
  refine lv_istore_n (lv' := [(2, .int u1), (0, .ref (K.2.1 1000)), (1, .int x1)]) hx hb dX2_codeClause_41 rfl hl (by decide) rfl (fun ls hl => ?_)
  refine lv_iload_n hx hb dX2_codeClause_42 rfl (lv_at hl 0 rfl) ?_
  refine lv_if_eq (tgt := 48) hx hb dX2_codeClause_43 (by decide) (fun c => ?_) (fun c => ?_)
  · have h := qi_t c h
    refine lv_aload_n hx hb dX2_codeClause_48 rfl (lv_at hl 1 rfl) ?_
    refine lv_dup hx hb dX2_codeClause_49 rfl ?_
    refine r_getM (v := .int (B2 1000 23)) E hw hM 23 (by decide) q1376 rfl dX2_codeClause_50 ?_
    refine lv_iconst (v := (1:Int32)) hx hb dX2_codeClause_53 (by decide) ?_
    refine lv_aload_n hx hb dX2_codeClause_54 rfl (lv_at hl 1 rfl) ?_
    refine r_getM (v := .ref (K.2.1 1003)) E hw hM 2 (by decide) q1355 rfl dX2_codeClause_55 ?_
    refine lv_iload_n hx hb dX2_codeClause_58 rfl (lv_at hl 2 rfl) ?_
    refine lv_iconst (v := (3:Int32)) hx hb dX2_codeClause_59 (by decide) ?_
    refine lv_iadd hx hb dX2_codeClause_60 ?_
    obtain ⟨z5, h⟩ := qif_s h
    refine r_iald (j := (x1 + (3:Int32)).toNatClampNeg) E hw (qi_1003 hM).at (qok_in z5) rfl dX2_codeClause_61 ?_
    refine lv_ishl hx hb dX2_codeClause_62 ?_
    refine lv_ior hx hb dX2_codeClause_63 ?_
    obtain ⟨B6, e7, h⟩ := qlet_s h
    refine r_putM E hw hM 23 (by decide) q1376 rfl rfl rfl (fun _ _ => rfl) dX2_codeClause_64 (fun H locs hw => ?_)
    rw [← e7] at hw
    refine lv_aload_n hx hb dX2_codeClause_67 rfl (lv_at hl 1 rfl) ?_
    refine r_getM (v := .int (B6 1000 9)) E hw hM 9 (by decide) q1362 rfl dX2_codeClause_68 ?_
    refine lv_bipush (v := (58:Int32)) hx hb dX2_codeClause_71 (by decide) ?_
    refine lv_icmp_eq (tgt := 78) hx hb dX2_codeClause_73 (by decide) (fun c => ?_) (fun c => ?_)
    · have h := qi_t c h
      refine lv_aload_n hx hb dX2_codeClause_78 rfl (lv_at hl 1 rfl) ?_
      obtain ⟨B8, L9, g10, h⟩ := qb2_s h
      refine d_V (As := []) (v0 := none) (w0 := (A, B8, L9, rs)) hG E hw hl (m_X2_nextToken l hG hM  g10) (qM0 hM) rfl (cwV 0 hts (lw_V q1507 q1509 qs61 q140 q1510) rfl rfl rfl ⟨rfl, kd_X2_nextToken⟩ ⟨Nat.le_of_ble_eq_true rfl, Nat.le_of_ble_eq_true rfl⟩) rfl (rest := []) (st1 := []) rfl rfl rfl dX2_codeClause_79 ⟨Nat.le_of_ble_eq_true rfl, Nat.le_of_ble_eq_true rfl⟩ (fun H locs hw => ?_)
      refine lv_aload_n hx hb dX2_codeClause_82 rfl (lv_at hl 1 rfl) ?_
      refine lv_iload_n hx hb dX2_codeClause_83 rfl (lv_at hl 2 rfl) ?_
      refine lv_iconst (v := (1:Int32)) hx hb dX2_codeClause_84 (by decide) ?_
      obtain ⟨u11, B12, L13, g14, h⟩ := qb3_s h
      refine d_V (As := [.int x1, .int (1:Int32)]) (v0 := some (.int u11)) (w0 := (A, B12, L13, rs)) hG E hw hl (m_X2_lawClause l hG hM  g14) (qM0 hM) rfl (cwV 2 hts (lw_V q1580 q1582 qs72 q140 q1583) rfl rfl rfl ⟨rfl, kd_X2_lawClause⟩ ⟨Nat.le_of_ble_eq_true rfl, Nat.le_of_ble_eq_true rfl⟩) rfl (rest := []) (st1 := [.int u11]) rfl rfl rfl dX2_codeClause_85 ⟨Nat.le_of_ble_eq_true rfl, Nat.le_of_ble_eq_true rfl⟩ (fun H locs hw => ?_)
      have h := Option.some.inj h
      obtain ⟨h1, h2⟩ := Prod.mk.inj h
      obtain ⟨h2, h3⟩ := Prod.mk.inj h2
      exact d_iret E hr rfl hw h1 (by rw [h2, h3]) dX2_codeClause_88
    · have h := qi_f c h
      refine lv_iconst (v := (1:Int32)) hx hb dX2_codeClause_76 (by decide) ?_
      have h := Option.some.inj h
      obtain ⟨h1, h2⟩ := Prod.mk.inj h
      obtain ⟨h2, h3⟩ := Prod.mk.inj h2
      exact d_iret E hr rfl hw h1 (by rw [h2, h3]) dX2_codeClause_77
  · have h := qi_f c h
    refine lv_iload_n hx hb dX2_codeClause_46 rfl (lv_at hl 0 rfl) ?_
    have h := Option.some.inj h
    obtain ⟨h1, h2⟩ := Prod.mk.inj h
    obtain ⟨h2, h3⟩ := Prod.mk.inj h2
    exact d_iret E hr rfl hw h1 (by rw [h2, h3]) dX2_codeClause_47

def f_X2_codeClause (x1 : Int32) (B : QA) (L : QL) : Option (Int32 × QA × QL) :=
  if (B 1000 9) = (1:Int32) then (
  if (4:Int32) ≤ (B 1000 10) then (
  f_X2_codeClause_32 x1 B L) else (
  qb1 (f_X2_has (B 1000 23) (B 1000 10)) fun u15 =>
  if u15 = (0:Int32) then (
  f_X2_codeClause_32 x1 B L) else (
  some ((4:Int32), B, L)))) else (
  f_X2_codeClause_32 x1 B L)
set_option maxHeartbeats 4000000 in
theorem w_X2_codeClause_0 {p : Program} {l : Launch} {e : Env} {s : State} {m : MethodId} {args : Array Value} {below : List Frame} {meth : Method} {c : Code} {K : QK} {G : State → Prop} {A : QA} {rs : QX × QM} {ro : Int32} {Bo : QA} {Lo : QL} (hG : QG G) (hM : QMl K) (E : EV K G p s m args meth c cX2_codeClause "VaneCourtModel" 3) (hr : meth.sig.returnType = (some .int)) : ∀ (x1 : Int32) (B : QA) (L : QL) {H : Heap} {locs : List Loc} {ls : Array Slot}, f_X2_codeClause x1 B L = some (ro, Bo, Lo) → WP K (A, B, L, rs) H locs → lv_has ls 3 [(0, .ref (K.2.1 1000)), (1, .int x1)] → W p l e (qrm 10 243 0 0) s m args below meth c H locs 0 0 (MQ below (QE K (QR (some (.int ro)) (A, Bo, Lo, rs))) args s 0 0 (qA K)) (F0 m 0 ls []) := by
  have hx := E.1
  have hb := E.2.1
  have hown := E.2.2.1
  have hts := E.2.2.2.2.1
  intro x1 B L H locs ls  h hw hl
  rw [f_X2_codeClause] at h
  refine lv_aload_n hx hb dX2_codeClause_0 rfl (lv_at hl 0 rfl) ?_
  refine r_getM (v := .int (B 1000 9)) E hw hM 9 (by decide) q1362 rfl dX2_codeClause_1 ?_
  refine lv_iconst (v := (1:Int32)) hx hb dX2_codeClause_4 (by decide) ?_
  refine lv_icmp_ne (tgt := 32) hx hb dX2_codeClause_5 (by decide) (fun c => ?_) (fun c => ?_)
  · have h := qi_f c h
    exact w_X2_codeClause_32 hG hM E hr  _ _ _   h hw (lv_sub hl [0, 1] rfl)
  · have h := qi_t c h
    refine lv_aload_n hx hb dX2_codeClause_8 rfl (lv_at hl 0 rfl) ?_
    refine r_getM (v := .int (B 1000 10)) E hw hM 10 (by decide) q1363 rfl dX2_codeClause_9 ?_
    refine lv_iconst (v := (4:Int32)) hx hb dX2_codeClause_12 (by decide) ?_
    refine lv_icmp_ge (tgt := 32) hx hb dX2_codeClause_13 (by decide) (fun c => ?_) (fun c => ?_)
    · have h := qi_t c h
      exact w_X2_codeClause_32 hG hM E hr  _ _ _   h hw (lv_sub hl [0, 1] rfl)
    · have h := qi_f c h
      refine lv_aload_n hx hb dX2_codeClause_16 rfl (lv_at hl 0 rfl) ?_
      refine r_getM (v := .int (B 1000 23)) E hw hM 23 (by decide) q1376 rfl dX2_codeClause_17 ?_
      refine lv_aload_n hx hb dX2_codeClause_20 rfl (lv_at hl 0 rfl) ?_
      refine r_getM (v := .int (B 1000 10)) E hw hM 10 (by decide) q1363 rfl dX2_codeClause_21 ?_
      obtain ⟨u15, g16, h⟩ := qb1_s h
      refine d_S (As := [.int (B 1000 23), .int (B 1000 10)]) (v0 := some (.int u15)) (w0 := (A, B, L, rs)) hG E hw hl (m_X2_has l hG hM  g16) (va_cwS 2 hts (lw_S q1565 q1566 q140 q1567) rfl rfl rfl kd_X2_has ⟨Nat.le_of_ble_eq_true rfl, Nat.le_of_ble_eq_true rfl⟩) rfl (rest := []) (st1 := [.int u15]) rfl rfl rfl dX2_codeClause_24 ⟨Nat.le_of_ble_eq_true rfl, Nat.le_of_ble_eq_true rfl⟩ (fun H locs hw => ?_)
      refine lv_if_eq (tgt := 32) hx hb dX2_codeClause_27 (by decide) (fun c => ?_) (fun c => ?_)
      · have h := qi_t c h
        exact w_X2_codeClause_32 hG hM E hr  _ _ _   h hw (lv_sub hl [0, 1] rfl)
      · have h := qi_f c h
        refine lv_iconst (v := (4:Int32)) hx hb dX2_codeClause_30 (by decide) ?_
        have h := Option.some.inj h
        obtain ⟨h1, h2⟩ := Prod.mk.inj h
        obtain ⟨h2, h3⟩ := Prod.mk.inj h2
        exact d_iret E hr rfl hw h1 (by rw [h2, h3]) dX2_codeClause_31

theorem m_X2_codeClause (l : Launch) {K : QK} {G : State → Prop} (hG : QG G) (hM : QMl K) {A : QA} {rs : QX × QM} {x1 : Int32} {B : QA} {L : QL} {ro : Int32} {Bo : QA} {Lo : QL} (h : f_X2_codeClause x1 B L = some (ro, Bo, Lo)) : MC l K G yX2_codeClause (ws_ yX2_codeClause cX2_codeClause 3 (some .int)) 10 243 0 0 [.ref (K.2.1 1000), .int x1] (A, B, L, rs) (QR (some (.int ro)) (A, Bo, Lo, rs)) := by
  refine MC.of (by decide) (Nat.le_of_ble_eq_true rfl) (lv := [(0, .ref (K.2.1 1000)), (1, .int x1)]) rfl (fun p e s m below meth c ls E hr hl hw => ?_)
  exact w_X2_codeClause_0 hG hM E hr _ _ _  h hw hl

def f_X2_caseClause (x1 : Int32) (B : QA) (L : QL) : Option (Int32 × QA × QL) :=
  qb3 (f_X2_figure (x1 + (1:Int32)) (0:Int32) (5:Int32) B L) fun u1 B2 L3 =>
  if u1 = (0:Int32) then (
  qb1 (f_X2_isGravity B2) fun u5 =>
  if u5 = (0:Int32) then (
  some ((1:Int32), B2, L3)) else (
  qb2 (f_X2_nextToken B2 L3) fun B7 L8 =>
  qb3 (f_X2_figure (x1 + (2:Int32)) (1:Int32) (9:Int32) B7 L8) fun u10 B11 L12 =>
  if u10 = (0:Int32) then (
  qb1 (f_X2_w5 (110:Int32) (101:Int32) (101:Int32) (100:Int32) (115:Int32)) fun u14 =>
  qb1 (f_X2_isWord u14 B11 L12) fun u16 =>
  if u16 = (0:Int32) then (
  some ((1:Int32), B11, L12)) else (
  qb2 (f_X2_nextToken B11 L12) fun B18 L19 =>
  qb3 (f_X2_figure (x1 + (3:Int32)) (1:Int32) (9:Int32) B18 L19) fun u21 B22 L23 =>
  some (u21, B22, L23))) else (
  some (u10, B11, L12)))) else (
  some (u1, B2, L3))
set_option maxHeartbeats 4000000 in
theorem w_X2_caseClause_0 {p : Program} {l : Launch} {e : Env} {s : State} {m : MethodId} {args : Array Value} {below : List Frame} {meth : Method} {c : Code} {K : QK} {G : State → Prop} {A : QA} {rs : QX × QM} {ro : Int32} {Bo : QA} {Lo : QL} (hG : QG G) (hM : QMl K) (E : EV K G p s m args meth c cX2_caseClause "VaneCourtModel" 3) (hr : meth.sig.returnType = (some .int)) : ∀ (x1 : Int32) (B : QA) (L : QL) {H : Heap} {locs : List Loc} {ls : Array Slot}, f_X2_caseClause x1 B L = some (ro, Bo, Lo) → WP K (A, B, L, rs) H locs → lv_has ls 3 [(0, .ref (K.2.1 1000)), (1, .int x1)] → W p l e (qrm 6 153 0 0) s m args below meth c H locs 0 0 (MQ below (QE K (QR (some (.int ro)) (A, Bo, Lo, rs))) args s 0 0 (qA K)) (F0 m 0 ls []) := by
  have hx := E.1
  have hb := E.2.1
  have hown := E.2.2.1
  have hts := E.2.2.2.2.1
  intro x1 B L H locs ls  h hw hl
  rw [f_X2_caseClause] at h
  refine lv_aload_n hx hb dX2_caseClause_0 rfl (lv_at hl 0 rfl) ?_
  refine lv_iload_n hx hb dX2_caseClause_1 rfl (lv_at hl 1 rfl) ?_
  refine lv_iconst (v := (1:Int32)) hx hb dX2_caseClause_2 (by decide) ?_
  refine lv_iadd hx hb dX2_caseClause_3 ?_
  refine lv_iconst (v := (0:Int32)) hx hb dX2_caseClause_4 (by decide) ?_
  refine lv_iconst (v := (5:Int32)) hx hb dX2_caseClause_5 (by decide) ?_
  obtain ⟨u1, B2, L3, g4, h⟩ := qb3_s h
  refine d_V (As := [.int (x1 + (1:Int32)), .int (0:Int32), .int (5:Int32)]) (v0 := some (.int u1)) (w0 := (A, B2, L3, rs)) hG E hw hl (m_X2_figure l hG hM  g4) (qM0 hM) rfl (cwV 3 hts (lw_V q1576 q1578 qs71 q140 q1579) rfl rfl rfl ⟨rfl, kd_X2_figure⟩ ⟨Nat.le_of_ble_eq_true rfl, Nat.le_of_ble_eq_true rfl⟩) rfl (rest := []) (st1 := [.int u1]) rfl rfl rfl dX2_caseClause_6 ⟨Nat.le_of_ble_eq_true rfl, Nat.le_of_ble_eq_true rfl⟩ (fun H locs hw => ?_)
  refine lv_istore_n (lv' := [(2, .int u1), (0, .ref (K.2.1 1000)), (1, .int x1)]) hx hb dX2_caseClause_9 rfl hl (by decide) rfl (fun ls hl => ?_)
  refine lv_iload_n hx hb dX2_caseClause_10 rfl (lv_at hl 0 rfl) ?_
  refine lv_if_eq (tgt := 16) hx hb dX2_caseClause_11 (by decide) (fun c => ?_) (fun c => ?_)
  · have h := qi_t c h
    refine lv_aload_n hx hb dX2_caseClause_16 rfl (lv_at hl 1 rfl) ?_
    obtain ⟨u5, g6, h⟩ := qb1_s h
    refine d_V (As := []) (v0 := some (.int u5)) (w0 := (A, B2, L3, rs)) hG E hw hl (m_X2_isGravity l hG hM  g6) (qM0 hM) rfl (cwV 0 hts (lw_V q1643 q1645 qs87 q140 q1646) rfl rfl rfl ⟨rfl, kd_X2_isGravity⟩ ⟨Nat.le_of_ble_eq_true rfl, Nat.le_of_ble_eq_true rfl⟩) rfl (rest := []) (st1 := [.int u5]) rfl rfl rfl dX2_caseClause_17 ⟨Nat.le_of_ble_eq_true rfl, Nat.le_of_ble_eq_true rfl⟩ (fun H locs hw => ?_)
    refine lv_if_ne (tgt := 25) hx hb dX2_caseClause_20 (by decide) (fun c => ?_) (fun c => ?_)
    · have h := qi_f c h
      refine lv_aload_n hx hb dX2_caseClause_25 rfl (lv_at hl 1 rfl) ?_
      obtain ⟨B7, L8, g9, h⟩ := qb2_s h
      refine d_V (As := []) (v0 := none) (w0 := (A, B7, L8, rs)) hG E hw hl (m_X2_nextToken l hG hM  g9) (qM0 hM) rfl (cwV 0 hts (lw_V q1507 q1509 qs61 q140 q1510) rfl rfl rfl ⟨rfl, kd_X2_nextToken⟩ ⟨Nat.le_of_ble_eq_true rfl, Nat.le_of_ble_eq_true rfl⟩) rfl (rest := []) (st1 := []) rfl rfl rfl dX2_caseClause_26 ⟨Nat.le_of_ble_eq_true rfl, Nat.le_of_ble_eq_true rfl⟩ (fun H locs hw => ?_)
      refine lv_aload_n hx hb dX2_caseClause_29 rfl (lv_at hl 1 rfl) ?_
      refine lv_iload_n hx hb dX2_caseClause_30 rfl (lv_at hl 2 rfl) ?_
      refine lv_iconst (v := (2:Int32)) hx hb dX2_caseClause_31 (by decide) ?_
      refine lv_iadd hx hb dX2_caseClause_32 ?_
      refine lv_iconst (v := (1:Int32)) hx hb dX2_caseClause_33 (by decide) ?_
      refine lv_bipush (v := (9:Int32)) hx hb dX2_caseClause_34 (by decide) ?_
      obtain ⟨u10, B11, L12, g13, h⟩ := qb3_s h
      refine d_V (As := [.int (x1 + (2:Int32)), .int (1:Int32), .int (9:Int32)]) (v0 := some (.int u10)) (w0 := (A, B11, L12, rs)) hG E hw hl (m_X2_figure l hG hM  g13) (qM0 hM) rfl (cwV 3 hts (lw_V q1576 q1578 qs71 q140 q1579) rfl rfl rfl ⟨rfl, kd_X2_figure⟩ ⟨Nat.le_of_ble_eq_true rfl, Nat.le_of_ble_eq_true rfl⟩) rfl (rest := []) (st1 := [.int u10]) rfl rfl rfl dX2_caseClause_36 ⟨Nat.le_of_ble_eq_true rfl, Nat.le_of_ble_eq_true rfl⟩ (fun H locs hw => ?_)
      refine lv_istore_n (lv' := [(2, .int u10), (0, .ref (K.2.1 1000)), (1, .int x1)]) hx hb dX2_caseClause_39 rfl hl (by decide) rfl (fun ls hl => ?_)
      refine lv_iload_n hx hb dX2_caseClause_40 rfl (lv_at hl 0 rfl) ?_
      refine lv_if_eq (tgt := 46) hx hb dX2_caseClause_41 (by decide) (fun c => ?_) (fun c => ?_)
      · have h := qi_t c h
        refine lv_aload_n hx hb dX2_caseClause_46 rfl (lv_at hl 1 rfl) ?_
        refine lv_bipush (v := (110:Int32)) hx hb dX2_caseClause_47 (by decide) ?_
        refine lv_bipush (v := (101:Int32)) hx hb dX2_caseClause_49 (by decide) ?_
        refine lv_bipush (v := (101:Int32)) hx hb dX2_caseClause_51 (by decide) ?_
        refine lv_bipush (v := (100:Int32)) hx hb dX2_caseClause_53 (by decide) ?_
        refine lv_bipush (v := (115:Int32)) hx hb dX2_caseClause_55 (by decide) ?_
        obtain ⟨u14, g15, h⟩ := qb1_s h
        refine d_S (As := [.int (110:Int32), .int (101:Int32), .int (101:Int32), .int (100:Int32), .int (115:Int32)]) (v0 := some (.long u14)) (w0 := (A, B11, L12, rs)) hG E hw hl (m_X2_w5 l hG hM  g15) (va_cwS 5 hts (lw_S q1534 q1535 q140 q1536) rfl rfl rfl kd_X2_w5 ⟨Nat.le_of_ble_eq_true rfl, Nat.le_of_ble_eq_true rfl⟩) rfl (rest := [.ref (K.2.1 1000)]) (st1 := [.long u14, .ref (K.2.1 1000)]) rfl rfl rfl dX2_caseClause_57 ⟨Nat.le_of_ble_eq_true rfl, Nat.le_of_ble_eq_true rfl⟩ (fun H locs hw => ?_)
        obtain ⟨u16, g17, h⟩ := qb1_s h
        refine d_V (As := [.long u14]) (v0 := some (.int u16)) (w0 := (A, B11, L12, rs)) hG E hw hl (m_X2_isWord l hG hM  g17) (qM0 hM) rfl (cwV 1 hts (lw_V q1546 q1548 qs65 q140 q1549) rfl rfl rfl ⟨rfl, kd_X2_isWord⟩ ⟨Nat.le_of_ble_eq_true rfl, Nat.le_of_ble_eq_true rfl⟩) rfl (rest := []) (st1 := [.int u16]) rfl rfl rfl dX2_caseClause_60 ⟨Nat.le_of_ble_eq_true rfl, Nat.le_of_ble_eq_true rfl⟩ (fun H locs hw => ?_)
        refine lv_if_ne (tgt := 68) hx hb dX2_caseClause_63 (by decide) (fun c => ?_) (fun c => ?_)
        · have h := qi_f c h
          refine lv_aload_n hx hb dX2_caseClause_68 rfl (lv_at hl 1 rfl) ?_
          obtain ⟨B18, L19, g20, h⟩ := qb2_s h
          refine d_V (As := []) (v0 := none) (w0 := (A, B18, L19, rs)) hG E hw hl (m_X2_nextToken l hG hM  g20) (qM0 hM) rfl (cwV 0 hts (lw_V q1507 q1509 qs61 q140 q1510) rfl rfl rfl ⟨rfl, kd_X2_nextToken⟩ ⟨Nat.le_of_ble_eq_true rfl, Nat.le_of_ble_eq_true rfl⟩) rfl (rest := []) (st1 := []) rfl rfl rfl dX2_caseClause_69 ⟨Nat.le_of_ble_eq_true rfl, Nat.le_of_ble_eq_true rfl⟩ (fun H locs hw => ?_)
          refine lv_aload_n hx hb dX2_caseClause_72 rfl (lv_at hl 1 rfl) ?_
          refine lv_iload_n hx hb dX2_caseClause_73 rfl (lv_at hl 2 rfl) ?_
          refine lv_iconst (v := (3:Int32)) hx hb dX2_caseClause_74 (by decide) ?_
          refine lv_iadd hx hb dX2_caseClause_75 ?_
          refine lv_iconst (v := (1:Int32)) hx hb dX2_caseClause_76 (by decide) ?_
          refine lv_bipush (v := (9:Int32)) hx hb dX2_caseClause_77 (by decide) ?_
          obtain ⟨u21, B22, L23, g24, h⟩ := qb3_s h
          refine d_V (As := [.int (x1 + (3:Int32)), .int (1:Int32), .int (9:Int32)]) (v0 := some (.int u21)) (w0 := (A, B22, L23, rs)) hG E hw hl (m_X2_figure l hG hM  g24) (qM0 hM) rfl (cwV 3 hts (lw_V q1576 q1578 qs71 q140 q1579) rfl rfl rfl ⟨rfl, kd_X2_figure⟩ ⟨Nat.le_of_ble_eq_true rfl, Nat.le_of_ble_eq_true rfl⟩) rfl (rest := []) (st1 := [.int u21]) rfl rfl rfl dX2_caseClause_79 ⟨Nat.le_of_ble_eq_true rfl, Nat.le_of_ble_eq_true rfl⟩ (fun H locs hw => ?_)
          have h := Option.some.inj h
          obtain ⟨h1, h2⟩ := Prod.mk.inj h
          obtain ⟨h2, h3⟩ := Prod.mk.inj h2
          exact d_iret E hr rfl hw h1 (by rw [h2, h3]) dX2_caseClause_82
        · have h := qi_t c h
          refine lv_iconst (v := (1:Int32)) hx hb dX2_caseClause_66 (by decide) ?_
          have h := Option.some.inj h
          obtain ⟨h1, h2⟩ := Prod.mk.inj h
          obtain ⟨h2, h3⟩ := Prod.mk.inj h2
          exact d_iret E hr rfl hw h1 (by rw [h2, h3]) dX2_caseClause_67
      · have h := qi_f c h
        refine lv_iload_n hx hb dX2_caseClause_44 rfl (lv_at hl 0 rfl) ?_
        have h := Option.some.inj h
        obtain ⟨h1, h2⟩ := Prod.mk.inj h
        obtain ⟨h2, h3⟩ := Prod.mk.inj h2
        exact d_iret E hr rfl hw h1 (by rw [h2, h3]) dX2_caseClause_45
    · have h := qi_t c h
      refine lv_iconst (v := (1:Int32)) hx hb dX2_caseClause_23 (by decide) ?_
      have h := Option.some.inj h
      obtain ⟨h1, h2⟩ := Prod.mk.inj h
      obtain ⟨h2, h3⟩ := Prod.mk.inj h2
      exact d_iret E hr rfl hw h1 (by rw [h2, h3]) dX2_caseClause_24
  · have h := qi_f c h
    refine lv_iload_n hx hb dX2_caseClause_14 rfl (lv_at hl 0 rfl) ?_
    have h := Option.some.inj h
    obtain ⟨h1, h2⟩ := Prod.mk.inj h
    obtain ⟨h2, h3⟩ := Prod.mk.inj h2
    exact d_iret E hr rfl hw h1 (by rw [h2, h3]) dX2_caseClause_15

theorem m_X2_caseClause (l : Launch) {K : QK} {G : State → Prop} (hG : QG G) (hM : QMl K) {A : QA} {rs : QX × QM} {x1 : Int32} {B : QA} {L : QL} {ro : Int32} {Bo : QA} {Lo : QL} (h : f_X2_caseClause x1 B L = some (ro, Bo, Lo)) : MC l K G yX2_caseClause (ws_ yX2_caseClause cX2_caseClause 3 (some .int)) 6 153 0 0 [.ref (K.2.1 1000), .int x1] (A, B, L, rs) (QR (some (.int ro)) (A, Bo, Lo, rs)) := by
  refine MC.of (by decide) (Nat.le_of_ble_eq_true rfl) (lv := [(0, .ref (K.2.1 1000)), (1, .int x1)]) rfl (fun p e s m below meth c ls E hr hl hw => ?_)
  exact w_X2_caseClause_0 hG hM E hr _ _ _  h hw hl

def f_X2_gustClause (x1 : Int32) (B : QA) (L : QL) : Option (Int32 × QA × QL) :=
  qb3 (f_X2_figure (x1 + (1:Int32)) (0:Int32) (3:Int32) B L) fun u1 B2 L3 =>
  if u1 = (0:Int32) then (
  qb1 (f_X2_w5 (102:Int32) (111:Int32) (114:Int32) (99:Int32) (101:Int32)) fun u5 =>
  qb1 (f_X2_isWord u5 B2 L3) fun u7 =>
  if u7 = (0:Int32) then (
  some ((1:Int32), B2, L3)) else (
  qb2 (f_X2_nextToken B2 L3) fun B9 L10 =>
  qb3 (f_X2_figure (x1 + (2:Int32)) (0:Int32) (9:Int32) B9 L10) fun u12 B13 L14 =>
  some (u12, B13, L14))) else (
  some (u1, B2, L3))
set_option maxHeartbeats 4000000 in
theorem w_X2_gustClause_0 {p : Program} {l : Launch} {e : Env} {s : State} {m : MethodId} {args : Array Value} {below : List Frame} {meth : Method} {c : Code} {K : QK} {G : State → Prop} {A : QA} {rs : QX × QM} {ro : Int32} {Bo : QA} {Lo : QL} (hG : QG G) (hM : QMl K) (E : EV K G p s m args meth c cX2_gustClause "VaneCourtModel" 3) (hr : meth.sig.returnType = (some .int)) : ∀ (x1 : Int32) (B : QA) (L : QL) {H : Heap} {locs : List Loc} {ls : Array Slot}, f_X2_gustClause x1 B L = some (ro, Bo, Lo) → WP K (A, B, L, rs) H locs → lv_has ls 3 [(0, .ref (K.2.1 1000)), (1, .int x1)] → W p l e (qrm 5 130 0 0) s m args below meth c H locs 0 0 (MQ below (QE K (QR (some (.int ro)) (A, Bo, Lo, rs))) args s 0 0 (qA K)) (F0 m 0 ls []) := by
  have hx := E.1
  have hb := E.2.1
  have hown := E.2.2.1
  have hts := E.2.2.2.2.1
  intro x1 B L H locs ls  h hw hl
  rw [f_X2_gustClause] at h
  refine lv_aload_n hx hb dX2_gustClause_0 rfl (lv_at hl 0 rfl) ?_
  refine lv_iload_n hx hb dX2_gustClause_1 rfl (lv_at hl 1 rfl) ?_
  refine lv_iconst (v := (1:Int32)) hx hb dX2_gustClause_2 (by decide) ?_
  refine lv_iadd hx hb dX2_gustClause_3 ?_
  refine lv_iconst (v := (0:Int32)) hx hb dX2_gustClause_4 (by decide) ?_
  refine lv_iconst (v := (3:Int32)) hx hb dX2_gustClause_5 (by decide) ?_
  obtain ⟨u1, B2, L3, g4, h⟩ := qb3_s h
  refine d_V (As := [.int (x1 + (1:Int32)), .int (0:Int32), .int (3:Int32)]) (v0 := some (.int u1)) (w0 := (A, B2, L3, rs)) hG E hw hl (m_X2_figure l hG hM  g4) (qM0 hM) rfl (cwV 3 hts (lw_V q1576 q1578 qs71 q140 q1579) rfl rfl rfl ⟨rfl, kd_X2_figure⟩ ⟨Nat.le_of_ble_eq_true rfl, Nat.le_of_ble_eq_true rfl⟩) rfl (rest := []) (st1 := [.int u1]) rfl rfl rfl dX2_gustClause_6 ⟨Nat.le_of_ble_eq_true rfl, Nat.le_of_ble_eq_true rfl⟩ (fun H locs hw => ?_)
  refine lv_istore_n (lv' := [(2, .int u1), (0, .ref (K.2.1 1000)), (1, .int x1)]) hx hb dX2_gustClause_9 rfl hl (by decide) rfl (fun ls hl => ?_)
  refine lv_iload_n hx hb dX2_gustClause_10 rfl (lv_at hl 0 rfl) ?_
  refine lv_if_eq (tgt := 16) hx hb dX2_gustClause_11 (by decide) (fun c => ?_) (fun c => ?_)
  · have h := qi_t c h
    refine lv_aload_n hx hb dX2_gustClause_16 rfl (lv_at hl 1 rfl) ?_
    refine lv_bipush (v := (102:Int32)) hx hb dX2_gustClause_17 (by decide) ?_
    refine lv_bipush (v := (111:Int32)) hx hb dX2_gustClause_19 (by decide) ?_
    refine lv_bipush (v := (114:Int32)) hx hb dX2_gustClause_21 (by decide) ?_
    refine lv_bipush (v := (99:Int32)) hx hb dX2_gustClause_23 (by decide) ?_
    refine lv_bipush (v := (101:Int32)) hx hb dX2_gustClause_25 (by decide) ?_
    obtain ⟨u5, g6, h⟩ := qb1_s h
    refine d_S (As := [.int (102:Int32), .int (111:Int32), .int (114:Int32), .int (99:Int32), .int (101:Int32)]) (v0 := some (.long u5)) (w0 := (A, B2, L3, rs)) hG E hw hl (m_X2_w5 l hG hM  g6) (va_cwS 5 hts (lw_S q1534 q1535 q140 q1536) rfl rfl rfl kd_X2_w5 ⟨Nat.le_of_ble_eq_true rfl, Nat.le_of_ble_eq_true rfl⟩) rfl (rest := [.ref (K.2.1 1000)]) (st1 := [.long u5, .ref (K.2.1 1000)]) rfl rfl rfl dX2_gustClause_27 ⟨Nat.le_of_ble_eq_true rfl, Nat.le_of_ble_eq_true rfl⟩ (fun H locs hw => ?_)
    obtain ⟨u7, g8, h⟩ := qb1_s h
    refine d_V (As := [.long u5]) (v0 := some (.int u7)) (w0 := (A, B2, L3, rs)) hG E hw hl (m_X2_isWord l hG hM  g8) (qM0 hM) rfl (cwV 1 hts (lw_V q1546 q1548 qs65 q140 q1549) rfl rfl rfl ⟨rfl, kd_X2_isWord⟩ ⟨Nat.le_of_ble_eq_true rfl, Nat.le_of_ble_eq_true rfl⟩) rfl (rest := []) (st1 := [.int u7]) rfl rfl rfl dX2_gustClause_30 ⟨Nat.le_of_ble_eq_true rfl, Nat.le_of_ble_eq_true rfl⟩ (fun H locs hw => ?_)
    refine lv_if_ne (tgt := 38) hx hb dX2_gustClause_33 (by decide) (fun c => ?_) (fun c => ?_)
    · have h := qi_f c h
      refine lv_aload_n hx hb dX2_gustClause_38 rfl (lv_at hl 1 rfl) ?_
      obtain ⟨B9, L10, g11, h⟩ := qb2_s h
      refine d_V (As := []) (v0 := none) (w0 := (A, B9, L10, rs)) hG E hw hl (m_X2_nextToken l hG hM  g11) (qM0 hM) rfl (cwV 0 hts (lw_V q1507 q1509 qs61 q140 q1510) rfl rfl rfl ⟨rfl, kd_X2_nextToken⟩ ⟨Nat.le_of_ble_eq_true rfl, Nat.le_of_ble_eq_true rfl⟩) rfl (rest := []) (st1 := []) rfl rfl rfl dX2_gustClause_39 ⟨Nat.le_of_ble_eq_true rfl, Nat.le_of_ble_eq_true rfl⟩ (fun H locs hw => ?_)
      refine lv_aload_n hx hb dX2_gustClause_42 rfl (lv_at hl 1 rfl) ?_
      refine lv_iload_n hx hb dX2_gustClause_43 rfl (lv_at hl 2 rfl) ?_
      refine lv_iconst (v := (2:Int32)) hx hb dX2_gustClause_44 (by decide) ?_
      refine lv_iadd hx hb dX2_gustClause_45 ?_
      refine lv_iconst (v := (0:Int32)) hx hb dX2_gustClause_46 (by decide) ?_
      refine lv_bipush (v := (9:Int32)) hx hb dX2_gustClause_47 (by decide) ?_
      obtain ⟨u12, B13, L14, g15, h⟩ := qb3_s h
      refine d_V (As := [.int (x1 + (2:Int32)), .int (0:Int32), .int (9:Int32)]) (v0 := some (.int u12)) (w0 := (A, B13, L14, rs)) hG E hw hl (m_X2_figure l hG hM  g15) (qM0 hM) rfl (cwV 3 hts (lw_V q1576 q1578 qs71 q140 q1579) rfl rfl rfl ⟨rfl, kd_X2_figure⟩ ⟨Nat.le_of_ble_eq_true rfl, Nat.le_of_ble_eq_true rfl⟩) rfl (rest := []) (st1 := [.int u12]) rfl rfl rfl dX2_gustClause_49 ⟨Nat.le_of_ble_eq_true rfl, Nat.le_of_ble_eq_true rfl⟩ (fun H locs hw => ?_)
      have h := Option.some.inj h
      obtain ⟨h1, h2⟩ := Prod.mk.inj h
      obtain ⟨h2, h3⟩ := Prod.mk.inj h2
      exact d_iret E hr rfl hw h1 (by rw [h2, h3]) dX2_gustClause_52
    · have h := qi_t c h
      refine lv_iconst (v := (1:Int32)) hx hb dX2_gustClause_36 (by decide) ?_
      have h := Option.some.inj h
      obtain ⟨h1, h2⟩ := Prod.mk.inj h
      obtain ⟨h2, h3⟩ := Prod.mk.inj h2
      exact d_iret E hr rfl hw h1 (by rw [h2, h3]) dX2_gustClause_37
  · have h := qi_f c h
    refine lv_iload_n hx hb dX2_gustClause_14 rfl (lv_at hl 0 rfl) ?_
    have h := Option.some.inj h
    obtain ⟨h1, h2⟩ := Prod.mk.inj h
    obtain ⟨h2, h3⟩ := Prod.mk.inj h2
    exact d_iret E hr rfl hw h1 (by rw [h2, h3]) dX2_gustClause_15

theorem m_X2_gustClause (l : Launch) {K : QK} {G : State → Prop} (hG : QG G) (hM : QMl K) {A : QA} {rs : QX × QM} {x1 : Int32} {B : QA} {L : QL} {ro : Int32} {Bo : QA} {Lo : QL} (h : f_X2_gustClause x1 B L = some (ro, Bo, Lo)) : MC l K G yX2_gustClause (ws_ yX2_gustClause cX2_gustClause 3 (some .int)) 5 130 0 0 [.ref (K.2.1 1000), .int x1] (A, B, L, rs) (QR (some (.int ro)) (A, Bo, Lo, rs)) := by
  refine MC.of (by decide) (Nat.le_of_ble_eq_true rfl) (lv := [(0, .ref (K.2.1 1000)), (1, .int x1)]) rfl (fun p e s m below meth c ls E hr hl hw => ?_)
  exact w_X2_gustClause_0 hG hM E hr _ _ _  h hw hl

def f_X2_body_115 (s1 : Int32) (s2 : Int32) (B : QA) (L : QL) : Option (Int32 × QA × QL) :=
  qb3 (f_X2_lawClause s1 s2 B L) fun u25 B26 L27 =>
  some (u25, B26, L27)
set_option maxHeartbeats 4000000 in
theorem w_X2_body_115 {p : Program} {l : Launch} {e : Env} {s : State} {m : MethodId} {args : Array Value} {below : List Frame} {meth : Method} {c : Code} {K : QK} {G : State → Prop} {A : QA} {rs : QX × QM} {ro : Int32} {Bo : QA} {Lo : QL} (hG : QG G) (hM : QMl K) (E : EV K G p s m args meth c cX2_body "VaneCourtModel" 3) (hr : meth.sig.returnType = (some .int)) : ∀ (s1 : Int32) (s2 : Int32) (B : QA) (L : QL) {H : Heap} {locs : List Loc} {ls : Array Slot}, f_X2_body_115 s1 s2 B L = some (ro, Bo, Lo) → WP K (A, B, L, rs) H locs → lv_has ls 3 [] → W p l e (qrm 11 265 0 0) s m args below meth c H locs 0 0 (MQ below (QE K (QR (some (.int ro)) (A, Bo, Lo, rs))) args s 0 0 (qA K)) (F0 m 115 ls [.int s2, .int s1, .ref (K.2.1 1000)]) := by
  have hx := E.1
  have hb := E.2.1
  have hown := E.2.2.1
  have hts := E.2.2.2.2.1
  intro s1 s2 B L H locs ls  h hw hl
  rw [f_X2_body_115] at h
  obtain ⟨u25, B26, L27, g28, h⟩ := qb3_s h
  refine d_V (As := [.int s1, .int s2]) (v0 := some (.int u25)) (w0 := (A, B26, L27, rs)) hG E hw hl (m_X2_lawClause l hG hM  g28) (qM0 hM) rfl (cwV 2 hts (lw_V q1580 q1582 qs72 q140 q1583) rfl rfl rfl ⟨rfl, kd_X2_lawClause⟩ ⟨Nat.le_of_ble_eq_true rfl, Nat.le_of_ble_eq_true rfl⟩) rfl (rest := []) (st1 := [.int u25]) rfl rfl rfl dX2_body_115 ⟨Nat.le_of_ble_eq_true rfl, Nat.le_of_ble_eq_true rfl⟩ (fun H locs hw => ?_)
  have h := Option.some.inj h
  obtain ⟨h1, h2⟩ := Prod.mk.inj h
  obtain ⟨h2, h3⟩ := Prod.mk.inj h2
  exact d_iret E hr rfl hw h1 (by rw [h2, h3]) dX2_body_118

def f_X2_body (x1 : Int32) (x2 : Int32) (B : QA) (L : QL) : Option (Int32 × QA × QL) :=
  if x1 = (4:Int32) then (
  qb3 (f_X2_codeClause x2 B L) fun u1 B2 L3 =>
  some (u1, B2, L3)) else (
  if x1 = (5:Int32) then (
  qb3 (f_X2_caseClause x2 B L) fun u5 B6 L7 =>
  some (u5, B6, L7)) else (
  if x1 = (6:Int32) then (
  qb3 (f_X2_figure (x2 + (1:Int32)) (0:Int32) (7:Int32) B L) fun u9 B10 L11 =>
  some (u9, B10, L11)) else (
  if x1 = (7:Int32) then (
  some ((0:Int32), B, L)) else (
  if x1 = (8:Int32) then (
  qb3 (f_X2_figure (x2 + (1:Int32)) (0:Int32) (7:Int32) B L) fun u13 B14 L15 =>
  some (u13, B14, L15)) else (
  if x1 = (9:Int32) then (
  qb3 (f_X2_gustClause x2 B L) fun u17 B18 L19 =>
  some (u17, B18, L19)) else (
  if x1 = (10:Int32) then (
  some ((0:Int32), B, L)) else (
  if x1 = (11:Int32) then (
  qb3 (f_X2_figure (x2 + (1:Int32)) (1:Int32) (60:Int32) B L) fun u21 B22 L23 =>
  some (u21, B22, L23)) else (
  if x1 = (2:Int32) then (
  f_X2_body_115 x2 (1:Int32) B L) else (
  f_X2_body_115 x2 (0:Int32) B L)))))))))
set_option maxHeartbeats 4000000 in
theorem w_X2_body_0 {p : Program} {l : Launch} {e : Env} {s : State} {m : MethodId} {args : Array Value} {below : List Frame} {meth : Method} {c : Code} {K : QK} {G : State → Prop} {A : QA} {rs : QX × QM} {ro : Int32} {Bo : QA} {Lo : QL} (hG : QG G) (hM : QMl K) (E : EV K G p s m args meth c cX2_body "VaneCourtModel" 3) (hr : meth.sig.returnType = (some .int)) : ∀ (x1 : Int32) (x2 : Int32) (B : QA) (L : QL) {H : Heap} {locs : List Loc} {ls : Array Slot}, f_X2_body x1 x2 B L = some (ro, Bo, Lo) → WP K (A, B, L, rs) H locs → lv_has ls 3 [(0, .ref (K.2.1 1000)), (1, .int x1), (2, .int x2)] → W p l e (qrm 11 265 0 0) s m args below meth c H locs 0 0 (MQ below (QE K (QR (some (.int ro)) (A, Bo, Lo, rs))) args s 0 0 (qA K)) (F0 m 0 ls []) := by
  have hx := E.1
  have hb := E.2.1
  have hown := E.2.2.1
  have hts := E.2.2.2.2.1
  intro x1 x2 B L H locs ls  h hw hl
  rw [f_X2_body] at h
  refine lv_iload_n hx hb dX2_body_0 rfl (lv_at hl 1 rfl) ?_
  by_cases c : x1 = (4:Int32)
  · have h := qi_t c h
    refine lv_tableIn (tgt := 48) (off := 47) hx hb dX2_body_1 (by rw [c]; decide) (by rw [c]; decide) (by rw [c]; rfl) (by decide) ?_
    refine lv_aload_n hx hb dX2_body_48 rfl (lv_at hl 0 rfl) ?_
    refine lv_iload_n hx hb dX2_body_49 rfl (lv_at hl 2 rfl) ?_
    obtain ⟨u1, B2, L3, g4, h⟩ := qb3_s h
    refine d_V (As := [.int x2]) (v0 := some (.int u1)) (w0 := (A, B2, L3, rs)) hG E hw hl (m_X2_codeClause l hG hM  g4) (qM0 hM) rfl (cwV 1 hts (lw_V q1572 q1574 qs70 q140 q1575) rfl rfl rfl ⟨rfl, kd_X2_codeClause⟩ ⟨Nat.le_of_ble_eq_true rfl, Nat.le_of_ble_eq_true rfl⟩) rfl (rest := []) (st1 := [.int u1]) rfl rfl rfl dX2_body_50 ⟨Nat.le_of_ble_eq_true rfl, Nat.le_of_ble_eq_true rfl⟩ (fun H locs hw => ?_)
    have h := Option.some.inj h
    obtain ⟨h1, h2⟩ := Prod.mk.inj h
    obtain ⟨h2, h3⟩ := Prod.mk.inj h2
    exact d_iret E hr rfl hw h1 (by rw [h2, h3]) dX2_body_53
  · have h := qi_f c h
    have n4 := qne32 c
    by_cases c : x1 = (5:Int32)
    · have h := qi_t c h
      refine lv_tableIn (tgt := 54) (off := 53) hx hb dX2_body_1 (by rw [c]; decide) (by rw [c]; decide) (by rw [c]; rfl) (by decide) ?_
      refine lv_aload_n hx hb dX2_body_54 rfl (lv_at hl 0 rfl) ?_
      refine lv_iload_n hx hb dX2_body_55 rfl (lv_at hl 2 rfl) ?_
      obtain ⟨u5, B6, L7, g8, h⟩ := qb3_s h
      refine d_V (As := [.int x2]) (v0 := some (.int u5)) (w0 := (A, B6, L7, rs)) hG E hw hl (m_X2_caseClause l hG hM  g8) (qM0 hM) rfl (cwV 1 hts (lw_V q1663 q1665 qs92 q140 q1666) rfl rfl rfl ⟨rfl, kd_X2_caseClause⟩ ⟨Nat.le_of_ble_eq_true rfl, Nat.le_of_ble_eq_true rfl⟩) rfl (rest := []) (st1 := [.int u5]) rfl rfl rfl dX2_body_56 ⟨Nat.le_of_ble_eq_true rfl, Nat.le_of_ble_eq_true rfl⟩ (fun H locs hw => ?_)
      have h := Option.some.inj h
      obtain ⟨h1, h2⟩ := Prod.mk.inj h
      obtain ⟨h2, h3⟩ := Prod.mk.inj h2
      exact d_iret E hr rfl hw h1 (by rw [h2, h3]) dX2_body_59
    · have h := qi_f c h
      have n5 := qne32 c
      by_cases c : x1 = (6:Int32)
      · have h := qi_t c h
        refine lv_tableIn (tgt := 60) (off := 59) hx hb dX2_body_1 (by rw [c]; decide) (by rw [c]; decide) (by rw [c]; rfl) (by decide) ?_
        refine lv_aload_n hx hb dX2_body_60 rfl (lv_at hl 0 rfl) ?_
        refine lv_iload_n hx hb dX2_body_61 rfl (lv_at hl 2 rfl) ?_
        refine lv_iconst (v := (1:Int32)) hx hb dX2_body_62 (by decide) ?_
        refine lv_iadd hx hb dX2_body_63 ?_
        refine lv_iconst (v := (0:Int32)) hx hb dX2_body_64 (by decide) ?_
        refine lv_bipush (v := (7:Int32)) hx hb dX2_body_65 (by decide) ?_
        obtain ⟨u9, B10, L11, g12, h⟩ := qb3_s h
        refine d_V (As := [.int (x2 + (1:Int32)), .int (0:Int32), .int (7:Int32)]) (v0 := some (.int u9)) (w0 := (A, B10, L11, rs)) hG E hw hl (m_X2_figure l hG hM  g12) (qM0 hM) rfl (cwV 3 hts (lw_V q1576 q1578 qs71 q140 q1579) rfl rfl rfl ⟨rfl, kd_X2_figure⟩ ⟨Nat.le_of_ble_eq_true rfl, Nat.le_of_ble_eq_true rfl⟩) rfl (rest := []) (st1 := [.int u9]) rfl rfl rfl dX2_body_67 ⟨Nat.le_of_ble_eq_true rfl, Nat.le_of_ble_eq_true rfl⟩ (fun H locs hw => ?_)
        have h := Option.some.inj h
        obtain ⟨h1, h2⟩ := Prod.mk.inj h
        obtain ⟨h2, h3⟩ := Prod.mk.inj h2
        exact d_iret E hr rfl hw h1 (by rw [h2, h3]) dX2_body_70
      · have h := qi_f c h
        have n6 := qne32 c
        by_cases c : x1 = (7:Int32)
        · have h := qi_t c h
          refine lv_tableIn (tgt := 71) (off := 70) hx hb dX2_body_1 (by rw [c]; decide) (by rw [c]; decide) (by rw [c]; rfl) (by decide) ?_
          refine lv_iconst (v := (0:Int32)) hx hb dX2_body_71 (by decide) ?_
          have h := Option.some.inj h
          obtain ⟨h1, h2⟩ := Prod.mk.inj h
          obtain ⟨h2, h3⟩ := Prod.mk.inj h2
          exact d_iret E hr rfl hw h1 (by rw [h2, h3]) dX2_body_72
        · have h := qi_f c h
          have n7 := qne32 c
          by_cases c : x1 = (8:Int32)
          · have h := qi_t c h
            refine lv_tableIn (tgt := 73) (off := 72) hx hb dX2_body_1 (by rw [c]; decide) (by rw [c]; decide) (by rw [c]; rfl) (by decide) ?_
            refine lv_aload_n hx hb dX2_body_73 rfl (lv_at hl 0 rfl) ?_
            refine lv_iload_n hx hb dX2_body_74 rfl (lv_at hl 2 rfl) ?_
            refine lv_iconst (v := (1:Int32)) hx hb dX2_body_75 (by decide) ?_
            refine lv_iadd hx hb dX2_body_76 ?_
            refine lv_iconst (v := (0:Int32)) hx hb dX2_body_77 (by decide) ?_
            refine lv_bipush (v := (7:Int32)) hx hb dX2_body_78 (by decide) ?_
            obtain ⟨u13, B14, L15, g16, h⟩ := qb3_s h
            refine d_V (As := [.int (x2 + (1:Int32)), .int (0:Int32), .int (7:Int32)]) (v0 := some (.int u13)) (w0 := (A, B14, L15, rs)) hG E hw hl (m_X2_figure l hG hM  g16) (qM0 hM) rfl (cwV 3 hts (lw_V q1576 q1578 qs71 q140 q1579) rfl rfl rfl ⟨rfl, kd_X2_figure⟩ ⟨Nat.le_of_ble_eq_true rfl, Nat.le_of_ble_eq_true rfl⟩) rfl (rest := []) (st1 := [.int u13]) rfl rfl rfl dX2_body_80 ⟨Nat.le_of_ble_eq_true rfl, Nat.le_of_ble_eq_true rfl⟩ (fun H locs hw => ?_)
            have h := Option.some.inj h
            obtain ⟨h1, h2⟩ := Prod.mk.inj h
            obtain ⟨h2, h3⟩ := Prod.mk.inj h2
            exact d_iret E hr rfl hw h1 (by rw [h2, h3]) dX2_body_83
          · have h := qi_f c h
            have n8 := qne32 c
            by_cases c : x1 = (9:Int32)
            · have h := qi_t c h
              refine lv_tableIn (tgt := 84) (off := 83) hx hb dX2_body_1 (by rw [c]; decide) (by rw [c]; decide) (by rw [c]; rfl) (by decide) ?_
              refine lv_aload_n hx hb dX2_body_84 rfl (lv_at hl 0 rfl) ?_
              refine lv_iload_n hx hb dX2_body_85 rfl (lv_at hl 2 rfl) ?_
              obtain ⟨u17, B18, L19, g20, h⟩ := qb3_s h
              refine d_V (As := [.int x2]) (v0 := some (.int u17)) (w0 := (A, B18, L19, rs)) hG E hw hl (m_X2_gustClause l hG hM  g20) (qM0 hM) rfl (cwV 1 hts (lw_V q1667 q1669 qs93 q140 q1670) rfl rfl rfl ⟨rfl, kd_X2_gustClause⟩ ⟨Nat.le_of_ble_eq_true rfl, Nat.le_of_ble_eq_true rfl⟩) rfl (rest := []) (st1 := [.int u17]) rfl rfl rfl dX2_body_86 ⟨Nat.le_of_ble_eq_true rfl, Nat.le_of_ble_eq_true rfl⟩ (fun H locs hw => ?_)
              have h := Option.some.inj h
              obtain ⟨h1, h2⟩ := Prod.mk.inj h
              obtain ⟨h2, h3⟩ := Prod.mk.inj h2
              exact d_iret E hr rfl hw h1 (by rw [h2, h3]) dX2_body_89
            · have h := qi_f c h
              have n9 := qne32 c
              by_cases c : x1 = (10:Int32)
              · have h := qi_t c h
                refine lv_tableIn (tgt := 90) (off := 89) hx hb dX2_body_1 (by rw [c]; decide) (by rw [c]; decide) (by rw [c]; rfl) (by decide) ?_
                refine lv_iconst (v := (0:Int32)) hx hb dX2_body_90 (by decide) ?_
                have h := Option.some.inj h
                obtain ⟨h1, h2⟩ := Prod.mk.inj h
                obtain ⟨h2, h3⟩ := Prod.mk.inj h2
                exact d_iret E hr rfl hw h1 (by rw [h2, h3]) dX2_body_91
              · have h := qi_f c h
                have n10 := qne32 c
                by_cases c : x1 = (11:Int32)
                · have h := qi_t c h
                  refine lv_tableIn (tgt := 92) (off := 91) hx hb dX2_body_1 (by rw [c]; decide) (by rw [c]; decide) (by rw [c]; rfl) (by decide) ?_
                  refine lv_aload_n hx hb dX2_body_92 rfl (lv_at hl 0 rfl) ?_
                  refine lv_iload_n hx hb dX2_body_93 rfl (lv_at hl 2 rfl) ?_
                  refine lv_iconst (v := (1:Int32)) hx hb dX2_body_94 (by decide) ?_
                  refine lv_iadd hx hb dX2_body_95 ?_
                  refine lv_iconst (v := (1:Int32)) hx hb dX2_body_96 (by decide) ?_
                  refine lv_bipush (v := (60:Int32)) hx hb dX2_body_97 (by decide) ?_
                  obtain ⟨u21, B22, L23, g24, h⟩ := qb3_s h
                  refine d_V (As := [.int (x2 + (1:Int32)), .int (1:Int32), .int (60:Int32)]) (v0 := some (.int u21)) (w0 := (A, B22, L23, rs)) hG E hw hl (m_X2_figure l hG hM  g24) (qM0 hM) rfl (cwV 3 hts (lw_V q1576 q1578 qs71 q140 q1579) rfl rfl rfl ⟨rfl, kd_X2_figure⟩ ⟨Nat.le_of_ble_eq_true rfl, Nat.le_of_ble_eq_true rfl⟩) rfl (rest := []) (st1 := [.int u21]) rfl rfl rfl dX2_body_99 ⟨Nat.le_of_ble_eq_true rfl, Nat.le_of_ble_eq_true rfl⟩ (fun H locs hw => ?_)
                  have h := Option.some.inj h
                  obtain ⟨h1, h2⟩ := Prod.mk.inj h
                  obtain ⟨h2, h3⟩ := Prod.mk.inj h2
                  exact d_iret E hr rfl hw h1 (by rw [h2, h3]) dX2_body_102
                · have h := qi_f c h
                  have n11 := qne32 c
                  refine lv_tableOut (tgt := 103) hx hb dX2_body_1 (by have m4 : (x1).toInt ≠ 4 := n4; have m5 : (x1).toInt ≠ 5 := n5; have m6 : (x1).toInt ≠ 6 := n6; have m7 : (x1).toInt ≠ 7 := n7; have m8 : (x1).toInt ≠ 8 := n8; have m9 : (x1).toInt ≠ 9 := n9; have m10 : (x1).toInt ≠ 10 := n10; have m11 : (x1).toInt ≠ 11 := n11; omega) (by decide) ?_
                  refine lv_aload_n hx hb dX2_body_103 rfl (lv_at hl 0 rfl) ?_
                  refine lv_iload_n hx hb dX2_body_104 rfl (lv_at hl 2 rfl) ?_
                  refine lv_iload_n hx hb dX2_body_105 rfl (lv_at hl 1 rfl) ?_
                  refine lv_iconst (v := (2:Int32)) hx hb dX2_body_106 (by decide) ?_
                  refine lv_icmp_ne (tgt := 114) hx hb dX2_body_107 (by decide) (fun c => ?_) (fun c => ?_)
                  · have h := qi_f c h
                    refine lv_iconst (v := (0:Int32)) hx hb dX2_body_114 (by decide) ?_
                    exact w_X2_body_115 hG hM E hr  _ _ _ _   h hw (lv_sub hl [] rfl)
                  · have h := qi_t c h
                    refine lv_iconst (v := (1:Int32)) hx hb dX2_body_110 (by decide) ?_
                    refine lv_goto (tgt := 115) hx hb dX2_body_111 (by decide) ?_
                    exact w_X2_body_115 hG hM E hr  _ _ _ _   h hw (lv_sub hl [] rfl)

theorem m_X2_body (l : Launch) {K : QK} {G : State → Prop} (hG : QG G) (hM : QMl K) {A : QA} {rs : QX × QM} {x1 : Int32} {x2 : Int32} {B : QA} {L : QL} {ro : Int32} {Bo : QA} {Lo : QL} (h : f_X2_body x1 x2 B L = some (ro, Bo, Lo)) : MC l K G yX2_body (ws_ yX2_body cX2_body 3 (some .int)) 11 265 0 0 [.ref (K.2.1 1000), .int x1, .int x2] (A, B, L, rs) (QR (some (.int ro)) (A, Bo, Lo, rs)) := by
  refine MC.of (by decide) (Nat.le_of_ble_eq_true rfl) (lv := [(0, .ref (K.2.1 1000)), (1, .int x1), (2, .int x2)]) rfl (fun p e s m below meth c ls E hr hl hw => ?_)
  exact w_X2_body_0 hG hM E hr _ _ _ _  h hw hl

def f_X2_clause_65 (x1 : Int32) (x2 : Int32) (B : QA) (L : QL) : Option (Int32 × QA × QL) :=
  qlet (qu B 1000 14 x1) fun B6 =>
  qb2 (f_X2_nextToken B6 L) fun B8 L9 =>
  qlet (((B8 1000 12) + (1:Int32)) + ((4:Int32) * x2)) fun x3_11 =>
  qif (qok x3_11 2820) <|
  qlet (qu B8 1003 x3_11.toNatClampNeg x1) fun B14 =>
  qb3 (f_X2_body x1 x3_11 B14 L9) fun u16 B17 L18 =>
  if u16 = (0:Int32) then (
  qif (qok (B17 1000 12) 2820) <|
  qlet (qu B17 1003 (B17 1000 12).toNatClampNeg ((B17 1003 (B17 1000 12).toNatClampNeg) + (1:Int32))) fun B21 =>
  if (B21 1000 9) = (59:Int32) then (
  qb2 (f_X2_nextToken B21 L18) fun B23 L24 =>
  some ((0:Int32), B23, L24)) else (
  some ((1:Int32), B21, L18))) else (
  some (u16, B17, L18))
set_option maxHeartbeats 4000000 in
theorem w_X2_clause_65 {p : Program} {l : Launch} {e : Env} {s : State} {m : MethodId} {args : Array Value} {below : List Frame} {meth : Method} {c : Code} {K : QK} {G : State → Prop} {A : QA} {rs : QX × QM} {ro : Int32} {Bo : QA} {Lo : QL} (hG : QG G) (hM : QMl K) (E : EV K G p s m args meth c cX2_clause "VaneCourtModel" 5) (hr : meth.sig.returnType = (some .int)) : ∀ (x1 : Int32) (x2 : Int32) (B : QA) (L : QL) {H : Heap} {locs : List Loc} {ls : Array Slot}, f_X2_clause_65 x1 x2 B L = some (ro, Bo, Lo) → WP K (A, B, L, rs) H locs → lv_has ls 5 [(0, .ref (K.2.1 1000)), (1, .int x1), (2, .int x2)] → W p l e (qrm 12 287 0 0) s m args below meth c H locs 0 0 (MQ below (QE K (QR (some (.int ro)) (A, Bo, Lo, rs))) args s 0 0 (qA K)) (F0 m 65 ls []) := by
  have hx := E.1
  have hb := E.2.1
  have hown := E.2.2.1
  have hts := E.2.2.2.2.1
  intro x1 x2 B L H locs ls  h hw hl
  rw [f_X2_clause_65] at h
  refine lv_aload_n hx hb dX2_clause_65 rfl (lv_at hl 0 rfl) ?_
  refine lv_iload_n hx hb dX2_clause_66 rfl (lv_at hl 1 rfl) ?_
  obtain ⟨B6, e7, h⟩ := qlet_s h
  refine r_putM E hw hM 14 (by decide) q1367 rfl rfl rfl (fun _ _ => rfl) dX2_clause_67 (fun H locs hw => ?_)
  rw [← e7] at hw
  refine lv_aload_n hx hb dX2_clause_70 rfl (lv_at hl 0 rfl) ?_
  obtain ⟨B8, L9, g10, h⟩ := qb2_s h
  refine d_V (As := []) (v0 := none) (w0 := (A, B8, L9, rs)) hG E hw hl (m_X2_nextToken l hG hM  g10) (qM0 hM) rfl (cwV 0 hts (lw_V q1507 q1509 qs61 q140 q1510) rfl rfl rfl ⟨rfl, kd_X2_nextToken⟩ ⟨Nat.le_of_ble_eq_true rfl, Nat.le_of_ble_eq_true rfl⟩) rfl (rest := []) (st1 := []) rfl rfl rfl dX2_clause_71 ⟨Nat.le_of_ble_eq_true rfl, Nat.le_of_ble_eq_true rfl⟩ (fun H locs hw => ?_)
  refine lv_aload_n hx hb dX2_clause_74 rfl (lv_at hl 0 rfl) ?_
  refine r_getM (v := .int (B8 1000 12)) E hw hM 12 (by decide) q1365 rfl dX2_clause_75 ?_
  refine lv_iconst (v := (1:Int32)) hx hb dX2_clause_78 (by decide) ?_
  refine lv_iadd hx hb dX2_clause_79 ?_
  refine lv_iconst (v := (4:Int32)) hx hb dX2_clause_80 (by decide) ?_
  refine lv_iload_n hx hb dX2_clause_81 rfl (lv_at hl 2 rfl) ?_
  refine lv_imul hx hb dX2_clause_82 ?_
  refine lv_iadd hx hb dX2_clause_83 ?_
  obtain ⟨x3_11, e12, h⟩ := qlet_s h
  refine r_nm e12 ?_
  refine lv_istore_n (lv' := [(3, .int x3_11), (0, .ref (K.2.1 1000)), (1, .int x1), (2, .int x2)]) hx hb dX2_clause_84 rfl hl (by decide) rfl (fun ls hl => ?_)
  refine lv_aload_n hx hb dX2_clause_85 rfl (lv_at hl 1 rfl) ?_
  refine r_getM (v := .ref (K.2.1 1003)) E hw hM 2 (by decide) q1355 rfl dX2_clause_86 ?_
  refine lv_iload_n hx hb dX2_clause_89 rfl (lv_at hl 0 rfl) ?_
  refine lv_iload_n hx hb dX2_clause_90 rfl (lv_at hl 2 rfl) ?_
  obtain ⟨z13, h⟩ := qif_s h
  obtain ⟨B14, e15, h⟩ := qlet_s h
  refine r_iastB (j := x3_11.toNatClampNeg) E hw (qi_1003 hM) (qok_in z13) rfl dX2_clause_91 (fun H locs hw => ?_)
  rw [← e15] at hw
  refine lv_aload_n hx hb dX2_clause_92 rfl (lv_at hl 1 rfl) ?_
  refine lv_iload_n hx hb dX2_clause_93 rfl (lv_at hl 2 rfl) ?_
  refine lv_iload_n hx hb dX2_clause_94 rfl (lv_at hl 0 rfl) ?_
  obtain ⟨u16, B17, L18, g19, h⟩ := qb3_s h
  refine d_V (As := [.int x1, .int x3_11]) (v0 := some (.int u16)) (w0 := (A, B17, L18, rs)) hG E hw hl (m_X2_body l hG hM  g19) (qM0 hM) rfl (cwV 2 hts (lw_V q1568 q1570 qs69 q140 q1571) rfl rfl rfl ⟨rfl, kd_X2_body⟩ ⟨Nat.le_of_ble_eq_true rfl, Nat.le_of_ble_eq_true rfl⟩) rfl (rest := []) (st1 := [.int u16]) rfl rfl rfl dX2_clause_95 ⟨Nat.le_of_ble_eq_true rfl, Nat.le_of_ble_eq_true rfl⟩ (fun H locs hw => ?_)
  refine lv_istore (lv' := [(4, .int u16), (3, .int x3_11), (0, .ref (K.2.1 1000)), (1, .int x1), (2, .int x2)]) hx hb dX2_clause_98 hl (by decide) rfl (fun ls hl => ?_)
  refine lv_iload hx hb dX2_clause_100 (lv_at hl 0 rfl) ?_
  refine lv_if_eq (tgt := 108) hx hb dX2_clause_102 (by decide) (fun c => ?_) (fun c => ?_)
  · have h := qi_t c h
    refine lv_aload_n hx hb dX2_clause_108 rfl (lv_at hl 2 rfl) ?_
    refine r_getM (v := .ref (K.2.1 1003)) E hw hM 2 (by decide) q1355 rfl dX2_clause_109 ?_
    refine lv_aload_n hx hb dX2_clause_112 rfl (lv_at hl 2 rfl) ?_
    refine r_getM (v := .int (B17 1000 12)) E hw hM 12 (by decide) q1365 rfl dX2_clause_113 ?_
    refine lv_dup2_11 hx hb dX2_clause_116 rfl rfl ?_
    obtain ⟨z20, h⟩ := qif_s h
    refine r_iald (j := (B17 1000 12).toNatClampNeg) E hw (qi_1003 hM).at (qok_in z20) rfl dX2_clause_117 ?_
    refine lv_iconst (v := (1:Int32)) hx hb dX2_clause_118 (by decide) ?_
    refine lv_iadd hx hb dX2_clause_119 ?_
    obtain ⟨B21, e22, h⟩ := qlet_s h
    refine r_iastB (j := (B17 1000 12).toNatClampNeg) E hw (qi_1003 hM) (qok_in z20) rfl dX2_clause_120 (fun H locs hw => ?_)
    rw [← e22] at hw
    refine lv_aload_n hx hb dX2_clause_121 rfl (lv_at hl 2 rfl) ?_
    refine r_getM (v := .int (B21 1000 9)) E hw hM 9 (by decide) q1362 rfl dX2_clause_122 ?_
    refine lv_bipush (v := (59:Int32)) hx hb dX2_clause_125 (by decide) ?_
    refine lv_icmp_eq (tgt := 132) hx hb dX2_clause_127 (by decide) (fun c => ?_) (fun c => ?_)
    · have h := qi_t c h
      refine lv_aload_n hx hb dX2_clause_132 rfl (lv_at hl 2 rfl) ?_
      obtain ⟨B23, L24, g25, h⟩ := qb2_s h
      refine d_V (As := []) (v0 := none) (w0 := (A, B23, L24, rs)) hG E hw hl (m_X2_nextToken l hG hM  g25) (qM0 hM) rfl (cwV 0 hts (lw_V q1507 q1509 qs61 q140 q1510) rfl rfl rfl ⟨rfl, kd_X2_nextToken⟩ ⟨Nat.le_of_ble_eq_true rfl, Nat.le_of_ble_eq_true rfl⟩) rfl (rest := []) (st1 := []) rfl rfl rfl dX2_clause_133 ⟨Nat.le_of_ble_eq_true rfl, Nat.le_of_ble_eq_true rfl⟩ (fun H locs hw => ?_)
      refine lv_iconst (v := (0:Int32)) hx hb dX2_clause_136 (by decide) ?_
      have h := Option.some.inj h
      obtain ⟨h1, h2⟩ := Prod.mk.inj h
      obtain ⟨h2, h3⟩ := Prod.mk.inj h2
      exact d_iret E hr rfl hw h1 (by rw [h2, h3]) dX2_clause_137
    · have h := qi_f c h
      refine lv_iconst (v := (1:Int32)) hx hb dX2_clause_130 (by decide) ?_
      have h := Option.some.inj h
      obtain ⟨h1, h2⟩ := Prod.mk.inj h
      obtain ⟨h2, h3⟩ := Prod.mk.inj h2
      exact d_iret E hr rfl hw h1 (by rw [h2, h3]) dX2_clause_131
  · have h := qi_f c h
    refine lv_iload hx hb dX2_clause_105 (lv_at hl 0 rfl) ?_
    have h := Option.some.inj h
    obtain ⟨h1, h2⟩ := Prod.mk.inj h
    obtain ⟨h2, h3⟩ := Prod.mk.inj h2
    exact d_iret E hr rfl hw h1 (by rw [h2, h3]) dX2_clause_107

def f_X2_clause_29 (x1 : Int32) (B : QA) (L : QL) : Option (Int32 × QA × QL) :=
  qif (qok (B 1000 12) 2820) <|
  qlet (B 1003 (B 1000 12).toNatClampNeg) fun x2_4 =>
  if x2_4 = (24:Int32) then (
  some ((6:Int32), B, L)) else (
  if (3:Int32) < x1 then (
  f_X2_clause_65 x1 x2_4 B L) else (
  qlet (qu B 1000 24 ((B 1000 24) ||| ((1:Int32) <<< (x1 &&& 31)))) fun B26 =>
  f_X2_clause_65 x1 x2_4 B26 L))
set_option maxHeartbeats 4000000 in
theorem w_X2_clause_29 {p : Program} {l : Launch} {e : Env} {s : State} {m : MethodId} {args : Array Value} {below : List Frame} {meth : Method} {c : Code} {K : QK} {G : State → Prop} {A : QA} {rs : QX × QM} {ro : Int32} {Bo : QA} {Lo : QL} (hG : QG G) (hM : QMl K) (E : EV K G p s m args meth c cX2_clause "VaneCourtModel" 5) (hr : meth.sig.returnType = (some .int)) : ∀ (x1 : Int32) (B : QA) (L : QL) {H : Heap} {locs : List Loc} {ls : Array Slot}, f_X2_clause_29 x1 B L = some (ro, Bo, Lo) → WP K (A, B, L, rs) H locs → lv_has ls 5 [(0, .ref (K.2.1 1000)), (1, .int x1)] → W p l e (qrm 12 287 0 0) s m args below meth c H locs 0 0 (MQ below (QE K (QR (some (.int ro)) (A, Bo, Lo, rs))) args s 0 0 (qA K)) (F0 m 29 ls []) := by
  have hx := E.1
  have hb := E.2.1
  have hown := E.2.2.1
  have hts := E.2.2.2.2.1
  intro x1 B L H locs ls  h hw hl
  rw [f_X2_clause_29] at h
  refine lv_aload_n hx hb dX2_clause_29 rfl (lv_at hl 0 rfl) ?_
  refine r_getM (v := .ref (K.2.1 1003)) E hw hM 2 (by decide) q1355 rfl dX2_clause_30 ?_
  refine lv_aload_n hx hb dX2_clause_33 rfl (lv_at hl 0 rfl) ?_
  refine r_getM (v := .int (B 1000 12)) E hw hM 12 (by decide) q1365 rfl dX2_clause_34 ?_
  obtain ⟨z3, h⟩ := qif_s h
  refine r_iald (j := (B 1000 12).toNatClampNeg) E hw (qi_1003 hM).at (qok_in z3) rfl dX2_clause_37 ?_
  obtain ⟨x2_4, e5, h⟩ := qlet_s h
  refine r_nm e5 ?_
  refine lv_istore_n (lv' := [(2, .int x2_4), (0, .ref (K.2.1 1000)), (1, .int x1)]) hx hb dX2_clause_38 rfl hl (by decide) rfl (fun ls hl => ?_)
  refine lv_iload_n hx hb dX2_clause_39 rfl (lv_at hl 0 rfl) ?_
  refine lv_bipush (v := (24:Int32)) hx hb dX2_clause_40 (by decide) ?_
  refine lv_icmp_ne (tgt := 48) hx hb dX2_clause_42 (by decide) (fun c => ?_) (fun c => ?_)
  · have h := qi_f c h
    refine lv_iload_n hx hb dX2_clause_48 rfl (lv_at hl 2 rfl) ?_
    refine lv_iconst (v := (3:Int32)) hx hb dX2_clause_49 (by decide) ?_
    refine lv_icmp_gt (tgt := 65) hx hb dX2_clause_50 (by decide) (fun c => ?_) (fun c => ?_)
    · have h := qi_t c h
      exact w_X2_clause_65 hG hM E hr  _ _ _ _   h hw (lv_sub hl [1, 2, 0] rfl)
    · have h := qi_f c h
      refine lv_aload_n hx hb dX2_clause_53 rfl (lv_at hl 1 rfl) ?_
      refine lv_dup hx hb dX2_clause_54 rfl ?_
      refine r_getM (v := .int (B 1000 24)) E hw hM 24 (by decide) q1377 rfl dX2_clause_55 ?_
      refine lv_iconst (v := (1:Int32)) hx hb dX2_clause_58 (by decide) ?_
      refine lv_iload_n hx hb dX2_clause_59 rfl (lv_at hl 2 rfl) ?_
      refine lv_ishl hx hb dX2_clause_60 ?_
      refine lv_ior hx hb dX2_clause_61 ?_
      obtain ⟨B26, e27, h⟩ := qlet_s h
      refine r_putM E hw hM 24 (by decide) q1377 rfl rfl rfl (fun _ _ => rfl) dX2_clause_62 (fun H locs hw => ?_)
      rw [← e27] at hw
      exact w_X2_clause_65 hG hM E hr  _ _ _ _   h hw (lv_sub hl [1, 2, 0] rfl)
  · have h := qi_t c h
    refine lv_bipush (v := (6:Int32)) hx hb dX2_clause_45 (by decide) ?_
    have h := Option.some.inj h
    obtain ⟨h1, h2⟩ := Prod.mk.inj h
    obtain ⟨h2, h3⟩ := Prod.mk.inj h2
    exact d_iret E hr rfl hw h1 (by rw [h2, h3]) dX2_clause_47

def f_X2_clause (B : QA) (L : QL) : Option (Int32 × QA × QL) :=
  qb1 (f_X2_sortOf B L) fun u1 =>
  if (0:Int32) ≤ u1 then (
  if (3:Int32) < u1 then (
  f_X2_clause_29 u1 B L) else (
  qb1 (f_X2_has (B 1000 24) u1) fun u28 =>
  if u28 = (0:Int32) then (
  f_X2_clause_29 u1 B L) else (
  some ((4:Int32), B, L)))) else (
  some ((1:Int32), B, L))
set_option maxHeartbeats 4000000 in
theorem w_X2_clause_0 {p : Program} {l : Launch} {e : Env} {s : State} {m : MethodId} {args : Array Value} {below : List Frame} {meth : Method} {c : Code} {K : QK} {G : State → Prop} {A : QA} {rs : QX × QM} {ro : Int32} {Bo : QA} {Lo : QL} (hG : QG G) (hM : QMl K) (E : EV K G p s m args meth c cX2_clause "VaneCourtModel" 5) (hr : meth.sig.returnType = (some .int)) : ∀ (B : QA) (L : QL) {H : Heap} {locs : List Loc} {ls : Array Slot}, f_X2_clause B L = some (ro, Bo, Lo) → WP K (A, B, L, rs) H locs → lv_has ls 5 [(0, .ref (K.2.1 1000))] → W p l e (qrm 12 287 0 0) s m args below meth c H locs 0 0 (MQ below (QE K (QR (some (.int ro)) (A, Bo, Lo, rs))) args s 0 0 (qA K)) (F0 m 0 ls []) := by
  have hx := E.1
  have hb := E.2.1
  have hown := E.2.2.1
  have hts := E.2.2.2.2.1
  intro B L H locs ls  h hw hl
  rw [f_X2_clause] at h
  refine lv_aload_n hx hb dX2_clause_0 rfl (lv_at hl 0 rfl) ?_
  obtain ⟨u1, g2, h⟩ := qb1_s h
  refine d_V (As := []) (v0 := some (.int u1)) (w0 := (A, B, L, rs)) hG E hw hl (m_X2_sortOf l hG hM  g2) (qM0 hM) rfl (cwV 0 hts (lw_V q1530 q1532 qs64 q140 q1533) rfl rfl rfl ⟨rfl, kd_X2_sortOf⟩ ⟨Nat.le_of_ble_eq_true rfl, Nat.le_of_ble_eq_true rfl⟩) rfl (rest := []) (st1 := [.int u1]) rfl rfl rfl dX2_clause_1 ⟨Nat.le_of_ble_eq_true rfl, Nat.le_of_ble_eq_true rfl⟩ (fun H locs hw => ?_)
  refine lv_istore_n (lv' := [(1, .int u1), (0, .ref (K.2.1 1000))]) hx hb dX2_clause_4 rfl hl (by decide) rfl (fun ls hl => ?_)
  refine lv_iload_n hx hb dX2_clause_5 rfl (lv_at hl 0 rfl) ?_
  refine lv_if_ge (tgt := 11) hx hb dX2_clause_6 (by decide) (fun c => ?_) (fun c => ?_)
  · have h := qi_t c h
    refine lv_iload_n hx hb dX2_clause_11 rfl (lv_at hl 0 rfl) ?_
    refine lv_iconst (v := (3:Int32)) hx hb dX2_clause_12 (by decide) ?_
    refine lv_icmp_gt (tgt := 29) hx hb dX2_clause_13 (by decide) (fun c => ?_) (fun c => ?_)
    · have h := qi_t c h
      exact w_X2_clause_29 hG hM E hr  _ _ _   h hw (lv_sub hl [1, 0] rfl)
    · have h := qi_f c h
      refine lv_aload_n hx hb dX2_clause_16 rfl (lv_at hl 1 rfl) ?_
      refine r_getM (v := .int (B 1000 24)) E hw hM 24 (by decide) q1377 rfl dX2_clause_17 ?_
      refine lv_iload_n hx hb dX2_clause_20 rfl (lv_at hl 0 rfl) ?_
      obtain ⟨u28, g29, h⟩ := qb1_s h
      refine d_S (As := [.int (B 1000 24), .int u1]) (v0 := some (.int u28)) (w0 := (A, B, L, rs)) hG E hw hl (m_X2_has l hG hM  g29) (va_cwS 2 hts (lw_S q1565 q1566 q140 q1567) rfl rfl rfl kd_X2_has ⟨Nat.le_of_ble_eq_true rfl, Nat.le_of_ble_eq_true rfl⟩) rfl (rest := []) (st1 := [.int u28]) rfl rfl rfl dX2_clause_21 ⟨Nat.le_of_ble_eq_true rfl, Nat.le_of_ble_eq_true rfl⟩ (fun H locs hw => ?_)
      refine lv_if_eq (tgt := 29) hx hb dX2_clause_24 (by decide) (fun c => ?_) (fun c => ?_)
      · have h := qi_t c h
        exact w_X2_clause_29 hG hM E hr  _ _ _   h hw (lv_sub hl [1, 0] rfl)
      · have h := qi_f c h
        refine lv_iconst (v := (4:Int32)) hx hb dX2_clause_27 (by decide) ?_
        have h := Option.some.inj h
        obtain ⟨h1, h2⟩ := Prod.mk.inj h
        obtain ⟨h2, h3⟩ := Prod.mk.inj h2
        exact d_iret E hr rfl hw h1 (by rw [h2, h3]) dX2_clause_28
  · have h := qi_f c h
    refine lv_iconst (v := (1:Int32)) hx hb dX2_clause_9 (by decide) ?_
    have h := Option.some.inj h
    obtain ⟨h1, h2⟩ := Prod.mk.inj h
    obtain ⟨h2, h3⟩ := Prod.mk.inj h2
    exact d_iret E hr rfl hw h1 (by rw [h2, h3]) dX2_clause_10

theorem m_X2_clause (l : Launch) {K : QK} {G : State → Prop} (hG : QG G) (hM : QMl K) {A : QA} {rs : QX × QM} {B : QA} {L : QL} {ro : Int32} {Bo : QA} {Lo : QL} (h : f_X2_clause B L = some (ro, Bo, Lo)) : MC l K G yX2_clause (ws_ yX2_clause cX2_clause 5 (some .int)) 12 287 0 0 [.ref (K.2.1 1000)] (A, B, L, rs) (QR (some (.int ro)) (A, Bo, Lo, rs)) := by
  refine MC.of (by decide) (Nat.le_of_ble_eq_true rfl) (lv := [(0, .ref (K.2.1 1000))]) rfl (fun p e s m below meth c ls E hr hl hw => ?_)
  exact w_X2_clause_0 hG hM E hr _ _  h hw hl

def f_X2_readText_48 : Nat → QA → QL → Option (Int32 × QA × QL)
  | 0, _, _ => none
  | n + 1, B, L => if (B 1000 9) = (0:Int32) then (
  some ((0:Int32), B, L)) else (
  qb3 (f_X2_clause B L) fun u17 B18 L19 =>
  if u17 = (0:Int32) then (
  f_X2_readText_48 n B18 L19) else (
  some (u17, B18, L19)))
set_option maxHeartbeats 4000000 in
theorem w_X2_readText_48 {p : Program} {l : Launch} {e : Env} {s : State} {m : MethodId} {args : Array Value} {below : List Frame} {meth : Method} {c : Code} {K : QK} {G : State → Prop} {A : QA} {rs : QX × QM} {ro : Int32} {Bo : QA} {Lo : QL} (hG : QG G) (hM : QMl K) (E : EV K G p s m args meth c cX2_readText "VaneCourtModel" 2) (hr : meth.sig.returnType = (some .int)) : ∀ (n : Nat) (B : QA) (L : QL) {H : Heap} {locs : List Loc} {ls : Array Slot}, f_X2_readText_48 n B L = some (ro, Bo, Lo) → WP K (A, B, L, rs) H locs → lv_has ls 2 [(0, .ref (K.2.1 1000))] → W p l e (qrm 13 311 0 0) s m args below meth c H locs 0 0 (MQ below (QE K (QR (some (.int ro)) (A, Bo, Lo, rs))) args s 0 0 (qA K)) (F0 m 48 ls []) := by
  have hx := E.1
  have hb := E.2.1
  have hown := E.2.2.1
  have hts := E.2.2.2.2.1
  intro n
  induction n with
  | zero =>
    intro B L H locs ls  h hw hl
    cases h
  | succ n ih =>
    intro B L H locs ls  h hw hl
    rw [f_X2_readText_48] at h
    refine lv_aload_n hx hb dX2_readText_48 rfl (lv_at hl 0 rfl) ?_
    refine r_getM (v := .int (B 1000 9)) E hw hM 9 (by decide) q1362 rfl dX2_readText_49 ?_
    refine lv_if_eq (tgt := 69) hx hb dX2_readText_52 (by decide) (fun c => ?_) (fun c => ?_)
    · have h := qi_t c h
      refine lv_iconst (v := (0:Int32)) hx hb dX2_readText_69 (by decide) ?_
      have h := Option.some.inj h
      obtain ⟨h1, h2⟩ := Prod.mk.inj h
      obtain ⟨h2, h3⟩ := Prod.mk.inj h2
      exact d_iret E hr rfl hw h1 (by rw [h2, h3]) dX2_readText_70
    · have h := qi_f c h
      refine lv_aload_n hx hb dX2_readText_55 rfl (lv_at hl 0 rfl) ?_
      obtain ⟨u17, B18, L19, g20, h⟩ := qb3_s h
      refine d_V (As := []) (v0 := some (.int u17)) (w0 := (A, B18, L19, rs)) hG E hw hl (m_X2_clause l hG hM  g20) (qM0 hM) rfl (cwV 0 hts (lw_V q1526 q1528 qs63 q140 q1529) rfl rfl rfl ⟨rfl, kd_X2_clause⟩ ⟨Nat.le_of_ble_eq_true rfl, Nat.le_of_ble_eq_true rfl⟩) rfl (rest := []) (st1 := [.int u17]) rfl rfl rfl dX2_readText_56 ⟨Nat.le_of_ble_eq_true rfl, Nat.le_of_ble_eq_true rfl⟩ (fun H locs hw => ?_)
      refine lv_istore_n (lv' := [(1, .int u17), (0, .ref (K.2.1 1000))]) hx hb dX2_readText_59 rfl hl (by decide) rfl (fun ls hl => ?_)
      refine lv_iload_n hx hb dX2_readText_60 rfl (lv_at hl 0 rfl) ?_
      refine lv_if_eq (tgt := 66) hx hb dX2_readText_61 (by decide) (fun c => ?_) (fun c => ?_)
      · have h := qi_t c h
        refine lv_goto (tgt := 48) hx hb dX2_readText_66 (by decide) ?_
        exact ih _ _  h hw (lv_sub hl [1] rfl)
      · have h := qi_f c h
        refine lv_iload_n hx hb dX2_readText_64 rfl (lv_at hl 0 rfl) ?_
        have h := Option.some.inj h
        obtain ⟨h1, h2⟩ := Prod.mk.inj h
        obtain ⟨h2, h3⟩ := Prod.mk.inj h2
        exact d_iret E hr rfl hw h1 (by rw [h2, h3]) dX2_readText_65

def f_X2_readText (B : QA) (L : QL) : Option (Int32 × QA × QL) :=
  qlet (qu B 1000 12 ((705:Int32) * (B 1001 1))) fun B1 =>
  qif (qok (B1 1000 12) 2820) <|
  qlet (qu B1 1003 (B1 1000 12).toNatClampNeg (0:Int32)) fun B4 =>
  qlet (qu B4 1000 13 (0:Int32)) fun B6 =>
  qlet (qu B6 1000 24 (0:Int32)) fun B8 =>
  qlet (qu B8 1000 23 (0:Int32)) fun B10 =>
  qlet (qu B10 1000 7 (0:Int32)) fun B12 =>
  qb2 (f_X2_nextToken B12 L) fun B14 L15 =>
  f_X2_readText_48 FU B14 L15
set_option maxHeartbeats 4000000 in
theorem w_X2_readText_0 {p : Program} {l : Launch} {e : Env} {s : State} {m : MethodId} {args : Array Value} {below : List Frame} {meth : Method} {c : Code} {K : QK} {G : State → Prop} {A : QA} {rs : QX × QM} {ro : Int32} {Bo : QA} {Lo : QL} (hG : QG G) (hM : QMl K) (E : EV K G p s m args meth c cX2_readText "VaneCourtModel" 2) (hr : meth.sig.returnType = (some .int)) : ∀ (B : QA) (L : QL) {H : Heap} {locs : List Loc} {ls : Array Slot}, f_X2_readText B L = some (ro, Bo, Lo) → WP K (A, B, L, rs) H locs → lv_has ls 2 [(0, .ref (K.2.1 1000))] → W p l e (qrm 13 311 0 0) s m args below meth c H locs 0 0 (MQ below (QE K (QR (some (.int ro)) (A, Bo, Lo, rs))) args s 0 0 (qA K)) (F0 m 0 ls []) := by
  have hx := E.1
  have hb := E.2.1
  have hown := E.2.2.1
  have hts := E.2.2.2.2.1
  intro B L H locs ls  h hw hl
  rw [f_X2_readText] at h
  refine lv_aload_n hx hb dX2_readText_0 rfl (lv_at hl 0 rfl) ?_
  refine lv_sipush (v := (705:Int32)) hx hb dX2_readText_1 (by decide) ?_
  refine lv_aload_n hx hb dX2_readText_4 rfl (lv_at hl 0 rfl) ?_
  refine r_getM (v := .ref (K.2.1 1001)) E hw hM 0 (by decide) q1353 rfl dX2_readText_5 ?_
  refine lv_iconst (v := (1:Int32)) hx hb dX2_readText_8 (by decide) ?_
  refine r_iald (j := 1) E hw (qi_1001 hM).at (q_lit (k := 1) (n := 3642) rfl rfl) (q_clamp (k := 1) rfl) dX2_readText_9 ?_
  refine lv_imul hx hb dX2_readText_10 ?_
  obtain ⟨B1, e2, h⟩ := qlet_s h
  refine r_putM E hw hM 12 (by decide) q1365 rfl rfl rfl (fun _ _ => rfl) dX2_readText_11 (fun H locs hw => ?_)
  rw [← e2] at hw
  refine lv_aload_n hx hb dX2_readText_14 rfl (lv_at hl 0 rfl) ?_
  refine r_getM (v := .ref (K.2.1 1003)) E hw hM 2 (by decide) q1355 rfl dX2_readText_15 ?_
  refine lv_aload_n hx hb dX2_readText_18 rfl (lv_at hl 0 rfl) ?_
  refine r_getM (v := .int (B1 1000 12)) E hw hM 12 (by decide) q1365 rfl dX2_readText_19 ?_
  refine lv_iconst (v := (0:Int32)) hx hb dX2_readText_22 (by decide) ?_
  obtain ⟨z3, h⟩ := qif_s h
  obtain ⟨B4, e5, h⟩ := qlet_s h
  refine r_iastB (j := (B1 1000 12).toNatClampNeg) E hw (qi_1003 hM) (qok_in z3) rfl dX2_readText_23 (fun H locs hw => ?_)
  rw [← e5] at hw
  refine lv_aload_n hx hb dX2_readText_24 rfl (lv_at hl 0 rfl) ?_
  refine lv_iconst (v := (0:Int32)) hx hb dX2_readText_25 (by decide) ?_
  obtain ⟨B6, e7, h⟩ := qlet_s h
  refine r_putM E hw hM 13 (by decide) q1366 rfl rfl rfl (fun _ _ => rfl) dX2_readText_26 (fun H locs hw => ?_)
  rw [← e7] at hw
  refine lv_aload_n hx hb dX2_readText_29 rfl (lv_at hl 0 rfl) ?_
  refine lv_iconst (v := (0:Int32)) hx hb dX2_readText_30 (by decide) ?_
  obtain ⟨B8, e9, h⟩ := qlet_s h
  refine r_putM E hw hM 24 (by decide) q1377 rfl rfl rfl (fun _ _ => rfl) dX2_readText_31 (fun H locs hw => ?_)
  rw [← e9] at hw
  refine lv_aload_n hx hb dX2_readText_34 rfl (lv_at hl 0 rfl) ?_
  refine lv_iconst (v := (0:Int32)) hx hb dX2_readText_35 (by decide) ?_
  obtain ⟨B10, e11, h⟩ := qlet_s h
  refine r_putM E hw hM 23 (by decide) q1376 rfl rfl rfl (fun _ _ => rfl) dX2_readText_36 (fun H locs hw => ?_)
  rw [← e11] at hw
  refine lv_aload_n hx hb dX2_readText_39 rfl (lv_at hl 0 rfl) ?_
  refine lv_iconst (v := (0:Int32)) hx hb dX2_readText_40 (by decide) ?_
  obtain ⟨B12, e13, h⟩ := qlet_s h
  refine r_putM E hw hM 7 (by decide) q1360 rfl rfl rfl (fun _ _ => rfl) dX2_readText_41 (fun H locs hw => ?_)
  rw [← e13] at hw
  refine lv_aload_n hx hb dX2_readText_44 rfl (lv_at hl 0 rfl) ?_
  obtain ⟨B14, L15, g16, h⟩ := qb2_s h
  refine d_V (As := []) (v0 := none) (w0 := (A, B14, L15, rs)) hG E hw hl (m_X2_nextToken l hG hM  g16) (qM0 hM) rfl (cwV 0 hts (lw_V q1507 q1509 qs61 q140 q1510) rfl rfl rfl ⟨rfl, kd_X2_nextToken⟩ ⟨Nat.le_of_ble_eq_true rfl, Nat.le_of_ble_eq_true rfl⟩) rfl (rest := []) (st1 := []) rfl rfl rfl dX2_readText_45 ⟨Nat.le_of_ble_eq_true rfl, Nat.le_of_ble_eq_true rfl⟩ (fun H locs hw => ?_)
  exact w_X2_readText_48 hG hM E hr  _ _ _   h hw (lv_sub hl [0] rfl)

theorem m_X2_readText (l : Launch) {K : QK} {G : State → Prop} (hG : QG G) (hM : QMl K) {A : QA} {rs : QX × QM} {B : QA} {L : QL} {ro : Int32} {Bo : QA} {Lo : QL} (h : f_X2_readText B L = some (ro, Bo, Lo)) : MC l K G yX2_readText (ws_ yX2_readText cX2_readText 2 (some .int)) 13 311 0 0 [.ref (K.2.1 1000)] (A, B, L, rs) (QR (some (.int ro)) (A, Bo, Lo, rs)) := by
  refine MC.of (by decide) (Nat.le_of_ble_eq_true rfl) (lv := [(0, .ref (K.2.1 1000))]) rfl (fun p e s m below meth c ls E hr hl hw => ?_)
  exact w_X2_readText_0 hG hM E hr _ _  h hw hl

def f_X2_text_36 (s1 : Int32) (B : QA) (L : QL) : Option (Int32 × QA × QL) :=
  qlet (qu B 1000 6 s1) fun B7 =>
  qlet (qu B7 1000 4 (0:Int32)) fun B9 =>
  if (B9 1000 5) = (0:Int32) then (
  qlet (qu B9 1001 1 ((B9 1001 1) + (1:Int32))) fun B11 =>
  some (((B11 1001 1) - (1:Int32)), B11, L)) else (
  some ((-1:Int32), B9, L))
set_option maxHeartbeats 4000000 in
theorem w_X2_text_36 {p : Program} {l : Launch} {e : Env} {s : State} {m : MethodId} {args : Array Value} {below : List Frame} {meth : Method} {c : Code} {K : QK} {G : State → Prop} {A : QA} {rs : QX × QM} {ro : Int32} {Bo : QA} {Lo : QL} (hG : QG G) (hM : QMl K) (E : EV K G p s m args meth c cX2_text "VaneCourtModel" 1) (hr : meth.sig.returnType = (some .int)) : ∀ (s1 : Int32) (B : QA) (L : QL) {H : Heap} {locs : List Loc} {ls : Array Slot}, f_X2_text_36 s1 B L = some (ro, Bo, Lo) → WP K (A, B, L, rs) H locs → lv_has ls 1 [(0, .ref (K.2.1 1000))] → W p l e (qrm 14 332 0 0) s m args below meth c H locs 0 0 (MQ below (QE K (QR (some (.int ro)) (A, Bo, Lo, rs))) args s 0 0 (qA K)) (F0 m 36 ls [.int s1, .ref (K.2.1 1000)]) := by
  have hx := E.1
  have hb := E.2.1
  have hown := E.2.2.1
  have hts := E.2.2.2.2.1
  intro s1 B L H locs ls  h hw hl
  rw [f_X2_text_36] at h
  obtain ⟨B7, e8, h⟩ := qlet_s h
  refine r_putM E hw hM 6 (by decide) q1359 rfl rfl rfl (fun _ _ => rfl) dX2_text_36 (fun H locs hw => ?_)
  rw [← e8] at hw
  refine lv_aload_n hx hb dX2_text_39 rfl (lv_at hl 0 rfl) ?_
  refine lv_iconst (v := (0:Int32)) hx hb dX2_text_40 (by decide) ?_
  obtain ⟨B9, e10, h⟩ := qlet_s h
  refine r_putM E hw hM 4 (by decide) q1357 rfl rfl rfl (fun _ _ => rfl) dX2_text_41 (fun H locs hw => ?_)
  rw [← e10] at hw
  refine lv_aload_n hx hb dX2_text_44 rfl (lv_at hl 0 rfl) ?_
  refine r_getM (v := .int (B9 1000 5)) E hw hM 5 (by decide) q1358 rfl dX2_text_45 ?_
  refine lv_if_eq (tgt := 53) hx hb dX2_text_48 (by decide) (fun c => ?_) (fun c => ?_)
  · have h := qi_t c h
    refine lv_aload_n hx hb dX2_text_53 rfl (lv_at hl 0 rfl) ?_
    refine r_getM (v := .ref (K.2.1 1001)) E hw hM 0 (by decide) q1353 rfl dX2_text_54 ?_
    refine lv_iconst (v := (1:Int32)) hx hb dX2_text_57 (by decide) ?_
    refine lv_dup2_11 hx hb dX2_text_58 rfl rfl ?_
    refine r_iald (j := 1) E hw (qi_1001 hM).at (q_lit (k := 1) (n := 3642) rfl rfl) (q_clamp (k := 1) rfl) dX2_text_59 ?_
    refine lv_iconst (v := (1:Int32)) hx hb dX2_text_60 (by decide) ?_
    refine lv_iadd hx hb dX2_text_61 ?_
    obtain ⟨B11, e12, h⟩ := qlet_s h
    refine r_iastB (j := 1) E hw (qi_1001 hM) (q_lit (k := 1) (n := 3642) rfl rfl) (q_clamp (k := 1) rfl) dX2_text_62 (fun H locs hw => ?_)
    rw [← e12] at hw
    refine lv_aload_n hx hb dX2_text_63 rfl (lv_at hl 0 rfl) ?_
    refine r_getM (v := .ref (K.2.1 1001)) E hw hM 0 (by decide) q1353 rfl dX2_text_64 ?_
    refine lv_iconst (v := (1:Int32)) hx hb dX2_text_67 (by decide) ?_
    refine r_iald (j := 1) E hw (qi_1001 hM).at (q_lit (k := 1) (n := 3642) rfl rfl) (q_clamp (k := 1) rfl) dX2_text_68 ?_
    refine lv_iconst (v := (1:Int32)) hx hb dX2_text_69 (by decide) ?_
    refine lv_isub hx hb dX2_text_70 ?_
    have h := Option.some.inj h
    obtain ⟨h1, h2⟩ := Prod.mk.inj h
    obtain ⟨h2, h3⟩ := Prod.mk.inj h2
    exact d_iret E hr rfl hw h1 (by rw [h2, h3]) dX2_text_71
  · have h := qi_f c h
    refine lv_iconst (v := (-1:Int32)) hx hb dX2_text_51 (by decide) ?_
    have h := Option.some.inj h
    obtain ⟨h1, h2⟩ := Prod.mk.inj h
    obtain ⟨h2, h3⟩ := Prod.mk.inj h2
    exact d_iret E hr rfl hw h1 (by rw [h2, h3]) dX2_text_52

def f_X2_text (B : QA) (L : QL) : Option (Int32 × QA × QL) :=
  if (B 1001 1) = (4:Int32) then (
  some ((-1:Int32), B, L)) else (
  qb3 (f_X2_readText B L) fun u1 B2 L3 =>
  qlet (qu B2 1000 5 u1) fun B5 =>
  if (B5 1000 5) = (0:Int32) then (
  f_X2_text_36 (-1:Int32) B5 L3) else (
  f_X2_text_36 (B5 1000 8) B5 L3))
set_option maxHeartbeats 4000000 in
theorem w_X2_text_0 {p : Program} {l : Launch} {e : Env} {s : State} {m : MethodId} {args : Array Value} {below : List Frame} {meth : Method} {c : Code} {K : QK} {G : State → Prop} {A : QA} {rs : QX × QM} {ro : Int32} {Bo : QA} {Lo : QL} (hG : QG G) (hM : QMl K) (E : EV K G p s m args meth c cX2_text "VaneCourtModel" 1) (hr : meth.sig.returnType = (some .int)) : ∀ (B : QA) (L : QL) {H : Heap} {locs : List Loc} {ls : Array Slot}, f_X2_text B L = some (ro, Bo, Lo) → WP K (A, B, L, rs) H locs → lv_has ls 1 [(0, .ref (K.2.1 1000))] → W p l e (qrm 14 332 0 0) s m args below meth c H locs 0 0 (MQ below (QE K (QR (some (.int ro)) (A, Bo, Lo, rs))) args s 0 0 (qA K)) (F0 m 0 ls []) := by
  have hx := E.1
  have hb := E.2.1
  have hown := E.2.2.1
  have hts := E.2.2.2.2.1
  intro B L H locs ls  h hw hl
  rw [f_X2_text] at h
  refine lv_aload_n hx hb dX2_text_0 rfl (lv_at hl 0 rfl) ?_
  refine r_getM (v := .ref (K.2.1 1001)) E hw hM 0 (by decide) q1353 rfl dX2_text_1 ?_
  refine lv_iconst (v := (1:Int32)) hx hb dX2_text_4 (by decide) ?_
  refine r_iald (j := 1) E hw (qi_1001 hM).at (q_lit (k := 1) (n := 3642) rfl rfl) (q_clamp (k := 1) rfl) dX2_text_5 ?_
  refine lv_iconst (v := (4:Int32)) hx hb dX2_text_6 (by decide) ?_
  refine lv_icmp_ne (tgt := 12) hx hb dX2_text_7 (by decide) (fun c => ?_) (fun c => ?_)
  · have h := qi_f c h
    refine lv_aload_n hx hb dX2_text_12 rfl (lv_at hl 0 rfl) ?_
    refine lv_aload_n hx hb dX2_text_13 rfl (lv_at hl 0 rfl) ?_
    obtain ⟨u1, B2, L3, g4, h⟩ := qb3_s h
    refine d_V (As := []) (v0 := some (.int u1)) (w0 := (A, B2, L3, rs)) hG E hw hl (m_X2_readText l hG hM  g4) (qM0 hM) rfl (cwV 0 hts (lw_V q1503 q1505 qs60 q140 q1506) rfl rfl rfl ⟨rfl, kd_X2_readText⟩ ⟨Nat.le_of_ble_eq_true rfl, Nat.le_of_ble_eq_true rfl⟩) rfl (rest := [.ref (K.2.1 1000)]) (st1 := [.int u1, .ref (K.2.1 1000)]) rfl rfl rfl dX2_text_14 ⟨Nat.le_of_ble_eq_true rfl, Nat.le_of_ble_eq_true rfl⟩ (fun H locs hw => ?_)
    obtain ⟨B5, e6, h⟩ := qlet_s h
    refine r_putM E hw hM 5 (by decide) q1358 rfl rfl rfl (fun _ _ => rfl) dX2_text_17 (fun H locs hw => ?_)
    rw [← e6] at hw
    refine lv_aload_n hx hb dX2_text_20 rfl (lv_at hl 0 rfl) ?_
    refine lv_aload_n hx hb dX2_text_21 rfl (lv_at hl 0 rfl) ?_
    refine r_getM (v := .int (B5 1000 5)) E hw hM 5 (by decide) q1358 rfl dX2_text_22 ?_
    refine lv_if_ne (tgt := 32) hx hb dX2_text_25 (by decide) (fun c => ?_) (fun c => ?_)
    · have h := qi_f c h
      refine lv_aload_n hx hb dX2_text_32 rfl (lv_at hl 0 rfl) ?_
      refine r_getM (v := .int (B5 1000 8)) E hw hM 8 (by decide) q1361 rfl dX2_text_33 ?_
      exact w_X2_text_36 hG hM E hr  _ _ _   h hw (lv_sub hl [0] rfl)
    · have h := qi_t c h
      refine lv_iconst (v := (-1:Int32)) hx hb dX2_text_28 (by decide) ?_
      refine lv_goto (tgt := 36) hx hb dX2_text_29 (by decide) ?_
      exact w_X2_text_36 hG hM E hr  _ _ _   h hw (lv_sub hl [0] rfl)
  · have h := qi_t c h
    refine lv_iconst (v := (-1:Int32)) hx hb dX2_text_10 (by decide) ?_
    have h := Option.some.inj h
    obtain ⟨h1, h2⟩ := Prod.mk.inj h
    obtain ⟨h2, h3⟩ := Prod.mk.inj h2
    exact d_iret E hr rfl hw h1 (by rw [h2, h3]) dX2_text_11

theorem m_X2_text (l : Launch) {K : QK} {G : State → Prop} (hG : QG G) (hM : QMl K) {A : QA} {rs : QX × QM} {B : QA} {L : QL} {ro : Int32} {Bo : QA} {Lo : QL} (h : f_X2_text B L = some (ro, Bo, Lo)) : MC l K G yX2_text (ws_ yX2_text cX2_text 1 (some .int)) 14 332 0 0 [.ref (K.2.1 1000)] (A, B, L, rs) (QR (some (.int ro)) (A, Bo, Lo, rs)) := by
  refine MC.of (by decide) (Nat.le_of_ble_eq_true rfl) (lv := [(0, .ref (K.2.1 1000))]) rfl (fun p e s m below meth c ls E hr hl hw => ?_)
  exact w_X2_text_0 hG hM E hr _ _  h hw hl

def f_X2_fault (x1 : Int32) (B : QA) : Option (Int32) :=
  if x1 = (0:Int32) then (
  some ((B 1000 5))) else (
  if x1 = (1:Int32) then (
  some ((B 1000 6))) else (
  some ((-1:Int32))))
set_option maxHeartbeats 4000000 in
theorem w_X2_fault_0 {p : Program} {l : Launch} {e : Env} {s : State} {m : MethodId} {args : Array Value} {below : List Frame} {meth : Method} {c : Code} {K : QK} {G : State → Prop} {A : QA} {rs : QX × QM} {L : QL} {ro : Int32} (hG : QG G) (hM : QMl K) (E : EV K G p s m args meth c cX2_fault "VaneCourtModel" 2) (hr : meth.sig.returnType = (some .int)) : ∀ (x1 : Int32) (B : QA) {H : Heap} {locs : List Loc} {ls : Array Slot}, f_X2_fault x1 B = some ro → WP K (A, B, L, rs) H locs → lv_has ls 2 [(0, .ref (K.2.1 1000)), (1, .int x1)] → W p l e (qrm 1 40 0 0) s m args below meth c H locs 0 0 (MQ below (QE K (QR (some (.int ro)) (A, B, L, rs))) args s 0 0 (qA K)) (F0 m 0 ls []) := by
  have hx := E.1
  have hb := E.2.1
  have hown := E.2.2.1
  have hts := E.2.2.2.2.1
  intro x1 B H locs ls  h hw hl
  rw [f_X2_fault] at h
  refine lv_iload_n hx hb dX2_fault_0 rfl (lv_at hl 1 rfl) ?_
  refine lv_if_ne (tgt := 11) hx hb dX2_fault_1 (by decide) (fun c => ?_) (fun c => ?_)
  · have h := qi_f c h
    refine lv_iload_n hx hb dX2_fault_11 rfl (lv_at hl 1 rfl) ?_
    refine lv_iconst (v := (1:Int32)) hx hb dX2_fault_12 (by decide) ?_
    refine lv_icmp_ne (tgt := 23) hx hb dX2_fault_13 (by decide) (fun c => ?_) (fun c => ?_)
    · have h := qi_f c h
      refine lv_iconst (v := (-1:Int32)) hx hb dX2_fault_23 (by decide) ?_
      have h := Option.some.inj h
      have h1 := h
      exact d_iret E hr rfl hw h1 rfl dX2_fault_24
    · have h := qi_t c h
      refine lv_aload_n hx hb dX2_fault_16 rfl (lv_at hl 0 rfl) ?_
      refine r_getM (v := .int (B 1000 6)) E hw hM 6 (by decide) q1359 rfl dX2_fault_17 ?_
      refine lv_goto (tgt := 24) hx hb dX2_fault_20 (by decide) ?_
      have h := Option.some.inj h
      have h1 := h
      exact d_iret E hr rfl hw h1 rfl dX2_fault_24
  · have h := qi_t c h
    refine lv_aload_n hx hb dX2_fault_4 rfl (lv_at hl 0 rfl) ?_
    refine r_getM (v := .int (B 1000 5)) E hw hM 5 (by decide) q1358 rfl dX2_fault_5 ?_
    refine lv_goto (tgt := 24) hx hb dX2_fault_8 (by decide) ?_
    have h := Option.some.inj h
    have h1 := h
    exact d_iret E hr rfl hw h1 rfl dX2_fault_24

theorem m_X2_fault (l : Launch) {K : QK} {G : State → Prop} (hG : QG G) (hM : QMl K) {A : QA} {rs : QX × QM} {L : QL} {x1 : Int32} {B : QA} {ro : Int32} (h : f_X2_fault x1 B = some ro) : MC l K G yX2_fault (ws_ yX2_fault cX2_fault 2 (some .int)) 1 40 0 0 [.ref (K.2.1 1000), .int x1] (A, B, L, rs) (QR (some (.int ro)) (A, B, L, rs)) := by
  refine MC.of (by decide) (Nat.le_of_ble_eq_true rfl) (lv := [(0, .ref (K.2.1 1000)), (1, .int x1)]) rfl (fun p e s m below meth c ls E hr hl hw => ?_)
  exact w_X2_fault_0 hG hM E hr _ _  h hw hl

def f_X2_by (x1 : Int32) (B : QA) : Option (Int32 × QA) :=
  qb1 (f_X2_isIn x1 (-1:Int32) ((B 1001 1) - (1:Int32))) fun u1 =>
  if u1 = (0:Int32) then (
  some ((0:Int32), B)) else (
  qlet (qu B 1001 2 x1) fun B3 =>
  some ((1:Int32), B3))
set_option maxHeartbeats 4000000 in
theorem w_X2_by_0 {p : Program} {l : Launch} {e : Env} {s : State} {m : MethodId} {args : Array Value} {below : List Frame} {meth : Method} {c : Code} {K : QK} {G : State → Prop} {A : QA} {rs : QX × QM} {L : QL} {ro : Int32} {Bo : QA} (hG : QG G) (hM : QMl K) (E : EV K G p s m args meth c cX2_by "VaneCourtModel" 2) (hr : meth.sig.returnType = (some .boolean)) : ∀ (x1 : Int32) (B : QA) {H : Heap} {locs : List Loc} {ls : Array Slot}, f_X2_by x1 B = some (ro, Bo) → WP K (A, B, L, rs) H locs → lv_has ls 2 [(0, .ref (K.2.1 1000)), (1, .int x1)] → W p l e (qrm 2 62 0 0) s m args below meth c H locs 0 0 (MQ below (QE K (QR (some (.int ro)) (A, Bo, L, rs))) args s 0 0 (qA K)) (F0 m 0 ls []) := by
  have hx := E.1
  have hb := E.2.1
  have hown := E.2.2.1
  have hts := E.2.2.2.2.1
  intro x1 B H locs ls  h hw hl
  rw [f_X2_by] at h
  refine lv_iload_n hx hb dX2_by_0 rfl (lv_at hl 1 rfl) ?_
  refine lv_iconst (v := (-1:Int32)) hx hb dX2_by_1 (by decide) ?_
  refine lv_aload_n hx hb dX2_by_2 rfl (lv_at hl 0 rfl) ?_
  refine r_getM (v := .ref (K.2.1 1001)) E hw hM 0 (by decide) q1353 rfl dX2_by_3 ?_
  refine lv_iconst (v := (1:Int32)) hx hb dX2_by_6 (by decide) ?_
  refine r_iald (j := 1) E hw (qi_1001 hM).at (q_lit (k := 1) (n := 3642) rfl rfl) (q_clamp (k := 1) rfl) dX2_by_7 ?_
  refine lv_iconst (v := (1:Int32)) hx hb dX2_by_8 (by decide) ?_
  refine lv_isub hx hb dX2_by_9 ?_
  obtain ⟨u1, g2, h⟩ := qb1_s h
  refine d_S (As := [.int x1, .int (-1:Int32), .int ((B 1001 1) - (1:Int32))]) (v0 := some (.int u1)) (w0 := (A, B, L, rs)) hG E hw hl (m_X2_isIn l hG hM  g2) (va_cwS 3 hts (lw_S q1480 q1481 q140 q1482) rfl rfl rfl kd_X2_isIn ⟨Nat.le_of_ble_eq_true rfl, Nat.le_of_ble_eq_true rfl⟩) rfl (rest := []) (st1 := [.int u1]) rfl rfl rfl dX2_by_10 ⟨Nat.le_of_ble_eq_true rfl, Nat.le_of_ble_eq_true rfl⟩ (fun H locs hw => ?_)
  refine lv_if_ne (tgt := 18) hx hb dX2_by_13 (by decide) (fun c => ?_) (fun c => ?_)
  · have h := qi_f c h
    refine lv_aload_n hx hb dX2_by_18 rfl (lv_at hl 0 rfl) ?_
    refine r_getM (v := .ref (K.2.1 1001)) E hw hM 0 (by decide) q1353 rfl dX2_by_19 ?_
    refine lv_iconst (v := (2:Int32)) hx hb dX2_by_22 (by decide) ?_
    refine lv_iload_n hx hb dX2_by_23 rfl (lv_at hl 1 rfl) ?_
    obtain ⟨B3, e4, h⟩ := qlet_s h
    refine r_iastB (j := 2) E hw (qi_1001 hM) (q_lit (k := 2) (n := 3642) rfl rfl) (q_clamp (k := 2) rfl) dX2_by_24 (fun H locs hw => ?_)
    rw [← e4] at hw
    refine lv_iconst (v := (1:Int32)) hx hb dX2_by_25 (by decide) ?_
    have h := Option.some.inj h
    obtain ⟨h1, h2⟩ := Prod.mk.inj h
    exact d_iret E hr rfl hw h1 (by rw [h2]) dX2_by_26
  · have h := qi_t c h
    refine lv_iconst (v := (0:Int32)) hx hb dX2_by_16 (by decide) ?_
    have h := Option.some.inj h
    obtain ⟨h1, h2⟩ := Prod.mk.inj h
    exact d_iret E hr rfl hw h1 (by rw [h2]) dX2_by_17

theorem m_X2_by (l : Launch) {K : QK} {G : State → Prop} (hG : QG G) (hM : QMl K) {A : QA} {rs : QX × QM} {L : QL} {x1 : Int32} {B : QA} {ro : Int32} {Bo : QA} (h : f_X2_by x1 B = some (ro, Bo)) : MC l K G yX2_by (ws_ yX2_by cX2_by 2 (some .boolean)) 2 62 0 0 [.ref (K.2.1 1000), .int x1] (A, B, L, rs) (QR (some (.int ro)) (A, Bo, L, rs)) := by
  refine MC.of (by decide) (Nat.le_of_ble_eq_true rfl) (lv := [(0, .ref (K.2.1 1000)), (1, .int x1)]) rfl (fun p e s m below meth c ls E hr hl hw => ?_)
  exact w_X2_by_0 hG hM E hr _ _  h hw hl

def f_X2_undo_121 (k70 : (Int32 → Int32 → QA → Option (Int32 × QA))) (k82 : (Int32 → Int32 → Int32 → QA → Option (Int32 × QA))) (x1 : Int32) (x2 : Int32) (x3 : Int32) (s1 : Int32) (s2 : Int32) (s3 : Int32) (B : QA) : Option (Int32 × QA) :=
  qb1 (f_X2_put s1 s2 s3 B) fun B8 =>
  qlet (x3 + (1:Int32)) fun x3_10 =>
  k82 x1 x2 x3_10 B8
set_option maxHeartbeats 4000000 in
theorem w_X2_undo_121 {p : Program} {l : Launch} {e : Env} {s : State} {m : MethodId} {args : Array Value} {below : List Frame} {meth : Method} {c : Code} {K : QK} {G : State → Prop} {A : QA} {rs : QX × QM} {L : QL} {ro : Int32} {Bo : QA} (hG : QG G) (hM : QMl K) (E : EV K G p s m args meth c cX2_undo "VaneCourtModel" 4) (hr : meth.sig.returnType = (some .int)) {k70 : (Int32 → Int32 → QA → Option (Int32 × QA))} {k82 : (Int32 → Int32 → Int32 → QA → Option (Int32 × QA))} (hk70 : ∀ (x1 : Int32) (x2 : Int32) (B : QA) {H : Heap} {locs : List Loc} {ls : Array Slot}, k70 x1 x2 B = some (ro, Bo) → WP K (A, B, L, rs) H locs → lv_has ls 4 [(0, .ref (K.2.1 1000)), (1, .int x1), (2, .int x2)] → W p l e (qrm 2 63 0 0) s m args below meth c H locs 0 0 (MQ below (QE K (QR (some (.int ro)) (A, Bo, L, rs))) args s 0 0 (qA K)) (F0 m 70 ls [])) (hk82 : ∀ (x1 : Int32) (x2 : Int32) (x3 : Int32) (B : QA) {H : Heap} {locs : List Loc} {ls : Array Slot}, k82 x1 x2 x3 B = some (ro, Bo) → WP K (A, B, L, rs) H locs → lv_has ls 4 [(0, .ref (K.2.1 1000)), (1, .int x1), (2, .int x2), (3, .int x3)] → W p l e (qrm 2 63 0 0) s m args below meth c H locs 0 0 (MQ below (QE K (QR (some (.int ro)) (A, Bo, L, rs))) args s 0 0 (qA K)) (F0 m 82 ls [])) : ∀ (x1 : Int32) (x2 : Int32) (x3 : Int32) (s1 : Int32) (s2 : Int32) (s3 : Int32) (B : QA) {H : Heap} {locs : List Loc} {ls : Array Slot}, f_X2_undo_121 k70 k82 x1 x2 x3 s1 s2 s3 B = some (ro, Bo) → WP K (A, B, L, rs) H locs → lv_has ls 4 [(0, .ref (K.2.1 1000)), (1, .int x1), (2, .int x2), (3, .int x3)] → W p l e (qrm 2 63 0 0) s m args below meth c H locs 0 0 (MQ below (QE K (QR (some (.int ro)) (A, Bo, L, rs))) args s 0 0 (qA K)) (F0 m 121 ls [.int s3, .int s2, .int s1, .ref (K.2.1 1000)]) := by
  have hx := E.1
  have hb := E.2.1
  have hown := E.2.2.1
  have hts := E.2.2.2.2.1
  intro x1 x2 x3 s1 s2 s3 B H locs ls  h hw hl
  rw [f_X2_undo_121] at h
  obtain ⟨B8, g9, h⟩ := qb1_s h
  refine d_V (As := [.int s1, .int s2, .int s3]) (v0 := none) (w0 := (A, B8, L, rs)) hG E hw hl (m_X2_put l hG hM  g9) (qM0 hM) rfl (cwV 3 hts (lw_V q1483 q1485 qs58 q140 q1486) rfl rfl rfl ⟨rfl, kd_X2_put⟩ ⟨Nat.le_of_ble_eq_true rfl, Nat.le_of_ble_eq_true rfl⟩) rfl (rest := []) (st1 := []) rfl rfl rfl dX2_undo_121 ⟨Nat.le_of_ble_eq_true rfl, Nat.le_of_ble_eq_true rfl⟩ (fun H locs hw => ?_)
  obtain ⟨x3_10, e11, h⟩ := qlet_s h
  refine lv_iinc (v := x3_10) (lv' := [(3, .int x3_10), (0, .ref (K.2.1 1000)), (1, .int x1), (2, .int x2)]) (k := 3) hx hb dX2_undo_124 hl rfl (by rw [e11]; rfl) (by decide) rfl (fun ls hl => ?_)
  refine lv_goto (tgt := 82) hx hb dX2_undo_127 (by decide) ?_
  exact hk82 _ _ _ _  h hw (lv_sub hl [1, 2, 3, 0] rfl)

def f_X2_undo_82 (k70 : (Int32 → Int32 → QA → Option (Int32 × QA))) : Nat → Int32 → Int32 → Int32 → QA → Option (Int32 × QA)
  | 0, _, _, _, _ => none
  | n + 1, x1, x2, x3, B => if (3:Int32) ≤ x3 then (
  qlet (x2 + (1:Int32)) fun x2_5 =>
  k70 x1 x2_5 B) else (
  qif (qok x1 3642) <|
  if (B 1001 x1.toNatClampNeg) ≤ x2 then (
  f_X2_undo_121 k70 (fun x1' x2' x3' B' => f_X2_undo_82 k70 n x1' x2' x3' B') x1 x2 x3 x2 ((4:Int32) + x3) (0:Int32) B) else (
  qif (qok (((x1 + (11:Int32)) + ((3:Int32) * x2)) + x3) 3642) <|
  f_X2_undo_121 k70 (fun x1' x2' x3' B' => f_X2_undo_82 k70 n x1' x2' x3' B') x1 x2 x3 x2 ((4:Int32) + x3) (B 1001 (((x1 + (11:Int32)) + ((3:Int32) * x2)) + x3).toNatClampNeg) B))
set_option maxHeartbeats 4000000 in
theorem w_X2_undo_82 {p : Program} {l : Launch} {e : Env} {s : State} {m : MethodId} {args : Array Value} {below : List Frame} {meth : Method} {c : Code} {K : QK} {G : State → Prop} {A : QA} {rs : QX × QM} {L : QL} {ro : Int32} {Bo : QA} (hG : QG G) (hM : QMl K) (E : EV K G p s m args meth c cX2_undo "VaneCourtModel" 4) (hr : meth.sig.returnType = (some .int)) {k70 : (Int32 → Int32 → QA → Option (Int32 × QA))} (hk70 : ∀ (x1 : Int32) (x2 : Int32) (B : QA) {H : Heap} {locs : List Loc} {ls : Array Slot}, k70 x1 x2 B = some (ro, Bo) → WP K (A, B, L, rs) H locs → lv_has ls 4 [(0, .ref (K.2.1 1000)), (1, .int x1), (2, .int x2)] → W p l e (qrm 2 63 0 0) s m args below meth c H locs 0 0 (MQ below (QE K (QR (some (.int ro)) (A, Bo, L, rs))) args s 0 0 (qA K)) (F0 m 70 ls [])) : ∀ (n : Nat) (x1 : Int32) (x2 : Int32) (x3 : Int32) (B : QA) {H : Heap} {locs : List Loc} {ls : Array Slot}, f_X2_undo_82 k70 n x1 x2 x3 B = some (ro, Bo) → WP K (A, B, L, rs) H locs → lv_has ls 4 [(0, .ref (K.2.1 1000)), (1, .int x1), (2, .int x2), (3, .int x3)] → W p l e (qrm 2 63 0 0) s m args below meth c H locs 0 0 (MQ below (QE K (QR (some (.int ro)) (A, Bo, L, rs))) args s 0 0 (qA K)) (F0 m 82 ls []) := by
  have hx := E.1
  have hb := E.2.1
  have hown := E.2.2.1
  have hts := E.2.2.2.2.1
  intro n
  induction n with
  | zero =>
    intro x1 x2 x3 B H locs ls  h hw hl
    cases h
  | succ n ih =>
    intro x1 x2 x3 B H locs ls  h hw hl
    rw [f_X2_undo_82] at h
    refine lv_iload_n hx hb dX2_undo_82 rfl (lv_at hl 3 rfl) ?_
    refine lv_iconst (v := (3:Int32)) hx hb dX2_undo_83 (by decide) ?_
    refine lv_icmp_ge (tgt := 130) hx hb dX2_undo_84 (by decide) (fun c => ?_) (fun c => ?_)
    · have h := qi_t c h
      obtain ⟨x2_5, e6, h⟩ := qlet_s h
      refine lv_iinc (v := x2_5) (lv' := [(2, .int x2_5), (0, .ref (K.2.1 1000)), (1, .int x1), (3, .int x3)]) (k := 2) hx hb dX2_undo_130 hl rfl (by rw [e6]; rfl) (by decide) rfl (fun ls hl => ?_)
      refine lv_goto (tgt := 70) hx hb dX2_undo_133 (by decide) ?_
      exact hk70 _ _ _  h hw (lv_sub hl [1, 2, 0] rfl)
    · have h := qi_f c h
      refine lv_aload_n hx hb dX2_undo_87 rfl (lv_at hl 0 rfl) ?_
      refine lv_iload_n hx hb dX2_undo_88 rfl (lv_at hl 2 rfl) ?_
      refine lv_iconst (v := (4:Int32)) hx hb dX2_undo_89 (by decide) ?_
      refine lv_iload_n hx hb dX2_undo_90 rfl (lv_at hl 3 rfl) ?_
      refine lv_iadd hx hb dX2_undo_91 ?_
      refine lv_iload_n hx hb dX2_undo_92 rfl (lv_at hl 2 rfl) ?_
      refine lv_aload_n hx hb dX2_undo_93 rfl (lv_at hl 0 rfl) ?_
      refine r_getM (v := .ref (K.2.1 1001)) E hw hM 0 (by decide) q1353 rfl dX2_undo_94 ?_
      refine lv_iload_n hx hb dX2_undo_97 rfl (lv_at hl 1 rfl) ?_
      obtain ⟨z7, h⟩ := qif_s h
      refine r_iald (j := x1.toNatClampNeg) E hw (qi_1001 hM).at (qok_in z7) rfl dX2_undo_98 ?_
      refine lv_icmp_ge (tgt := 120) hx hb dX2_undo_99 (by decide) (fun c => ?_) (fun c => ?_)
      · have h := qi_t c h
        refine lv_iconst (v := (0:Int32)) hx hb dX2_undo_120 (by decide) ?_
        exact w_X2_undo_121 hG hM E hr hk70 ih _ _ _ _ _ _ _   h hw (lv_sub hl [0, 1, 2, 3] rfl)
      · have h := qi_f c h
        refine lv_aload_n hx hb dX2_undo_102 rfl (lv_at hl 0 rfl) ?_
        refine r_getM (v := .ref (K.2.1 1001)) E hw hM 0 (by decide) q1353 rfl dX2_undo_103 ?_
        refine lv_iload_n hx hb dX2_undo_106 rfl (lv_at hl 1 rfl) ?_
        refine lv_bipush (v := (11:Int32)) hx hb dX2_undo_107 (by decide) ?_
        refine lv_iadd hx hb dX2_undo_109 ?_
        refine lv_iconst (v := (3:Int32)) hx hb dX2_undo_110 (by decide) ?_
        refine lv_iload_n hx hb dX2_undo_111 rfl (lv_at hl 2 rfl) ?_
        refine lv_imul hx hb dX2_undo_112 ?_
        refine lv_iadd hx hb dX2_undo_113 ?_
        refine lv_iload_n hx hb dX2_undo_114 rfl (lv_at hl 3 rfl) ?_
        refine lv_iadd hx hb dX2_undo_115 ?_
        obtain ⟨z12, h⟩ := qif_s h
        refine r_iald (j := (((x1 + (11:Int32)) + ((3:Int32) * x2)) + x3).toNatClampNeg) E hw (qi_1001 hM).at (qok_in z12) rfl dX2_undo_116 ?_
        refine lv_goto (tgt := 121) hx hb dX2_undo_117 (by decide) ?_
        exact w_X2_undo_121 hG hM E hr hk70 ih _ _ _ _ _ _ _   h hw (lv_sub hl [0, 1, 2, 3] rfl)

def f_X2_undo_70 : Nat → Int32 → Int32 → QA → Option (Int32 × QA)
  | 0, _, _, _ => none
  | n + 1, x1, x2, B => if (B 1001 0) ≤ x2 then (
  some ((B 1001 3), B)) else (
  f_X2_undo_82 (fun x1' x2' B' => f_X2_undo_70 n x1' x2' B') FU x1 x2 (0:Int32) B)
set_option maxHeartbeats 4000000 in
theorem w_X2_undo_70 {p : Program} {l : Launch} {e : Env} {s : State} {m : MethodId} {args : Array Value} {below : List Frame} {meth : Method} {c : Code} {K : QK} {G : State → Prop} {A : QA} {rs : QX × QM} {L : QL} {ro : Int32} {Bo : QA} (hG : QG G) (hM : QMl K) (E : EV K G p s m args meth c cX2_undo "VaneCourtModel" 4) (hr : meth.sig.returnType = (some .int)) : ∀ (n : Nat) (x1 : Int32) (x2 : Int32) (B : QA) {H : Heap} {locs : List Loc} {ls : Array Slot}, f_X2_undo_70 n x1 x2 B = some (ro, Bo) → WP K (A, B, L, rs) H locs → lv_has ls 4 [(0, .ref (K.2.1 1000)), (1, .int x1), (2, .int x2)] → W p l e (qrm 2 63 0 0) s m args below meth c H locs 0 0 (MQ below (QE K (QR (some (.int ro)) (A, Bo, L, rs))) args s 0 0 (qA K)) (F0 m 70 ls []) := by
  have hx := E.1
  have hb := E.2.1
  have hown := E.2.2.1
  have hts := E.2.2.2.2.1
  intro n
  induction n with
  | zero =>
    intro x1 x2 B H locs ls  h hw hl
    cases h
  | succ n ih =>
    intro x1 x2 B H locs ls  h hw hl
    rw [f_X2_undo_70] at h
    refine lv_iload_n hx hb dX2_undo_70 rfl (lv_at hl 2 rfl) ?_
    refine lv_aload_n hx hb dX2_undo_71 rfl (lv_at hl 0 rfl) ?_
    refine r_getM (v := .ref (K.2.1 1001)) E hw hM 0 (by decide) q1353 rfl dX2_undo_72 ?_
    refine lv_iconst (v := (0:Int32)) hx hb dX2_undo_75 (by decide) ?_
    refine r_iald (j := 0) E hw (qi_1001 hM).at (q_lit (k := 0) (n := 3642) rfl rfl) (q_clamp (k := 0) rfl) dX2_undo_76 ?_
    refine lv_icmp_ge (tgt := 136) hx hb dX2_undo_77 (by decide) (fun c => ?_) (fun c => ?_)
    · have h := qi_t c h
      refine lv_aload_n hx hb dX2_undo_136 rfl (lv_at hl 0 rfl) ?_
      refine r_getM (v := .ref (K.2.1 1001)) E hw hM 0 (by decide) q1353 rfl dX2_undo_137 ?_
      refine lv_iconst (v := (3:Int32)) hx hb dX2_undo_140 (by decide) ?_
      refine r_iald (j := 3) E hw (qi_1001 hM).at (q_lit (k := 3) (n := 3642) rfl rfl) (q_clamp (k := 3) rfl) dX2_undo_141 ?_
      have h := Option.some.inj h
      obtain ⟨h1, h2⟩ := Prod.mk.inj h
      exact d_iret E hr rfl hw h1 (by rw [h2]) dX2_undo_142
    · have h := qi_f c h
      refine lv_iconst (v := (0:Int32)) hx hb dX2_undo_80 (by decide) ?_
      refine lv_istore_n (lv' := [(3, .int (0:Int32)), (0, .ref (K.2.1 1000)), (1, .int x1), (2, .int x2)]) hx hb dX2_undo_81 rfl hl (by decide) rfl (fun ls hl => ?_)
      exact w_X2_undo_82 hG hM E hr ih _ _ _ _ _   h hw (lv_sub hl [1, 2, 3, 0] rfl)

def f_X2_undo_37 : Nat → Int32 → Int32 → QA → Option (Int32 × QA)
  | 0, _, _, _ => none
  | n + 1, x1, x2, B => if (10:Int32) ≤ x2 then (
  f_X2_undo_70 FU x1 (0:Int32) B) else (
  qif (qok ((x1 + (1:Int32)) + x2) 3642) <|
  qif (qok ((8:Int32) + x2) 3642) <|
  qlet (qu B 1001 ((8:Int32) + x2).toNatClampNeg (B 1001 ((x1 + (1:Int32)) + x2).toNatClampNeg)) fun B15 =>
  qlet (x2 + (1:Int32)) fun x2_17 =>
  f_X2_undo_37 n x1 x2_17 B15)
set_option maxHeartbeats 4000000 in
theorem w_X2_undo_37 {p : Program} {l : Launch} {e : Env} {s : State} {m : MethodId} {args : Array Value} {below : List Frame} {meth : Method} {c : Code} {K : QK} {G : State → Prop} {A : QA} {rs : QX × QM} {L : QL} {ro : Int32} {Bo : QA} (hG : QG G) (hM : QMl K) (E : EV K G p s m args meth c cX2_undo "VaneCourtModel" 4) (hr : meth.sig.returnType = (some .int)) : ∀ (n : Nat) (x1 : Int32) (x2 : Int32) (B : QA) {H : Heap} {locs : List Loc} {ls : Array Slot}, f_X2_undo_37 n x1 x2 B = some (ro, Bo) → WP K (A, B, L, rs) H locs → lv_has ls 4 [(0, .ref (K.2.1 1000)), (1, .int x1), (2, .int x2)] → W p l e (qrm 2 63 0 0) s m args below meth c H locs 0 0 (MQ below (QE K (QR (some (.int ro)) (A, Bo, L, rs))) args s 0 0 (qA K)) (F0 m 37 ls []) := by
  have hx := E.1
  have hb := E.2.1
  have hown := E.2.2.1
  have hts := E.2.2.2.2.1
  intro n
  induction n with
  | zero =>
    intro x1 x2 B H locs ls  h hw hl
    cases h
  | succ n ih =>
    intro x1 x2 B H locs ls  h hw hl
    rw [f_X2_undo_37] at h
    refine lv_iload_n hx hb dX2_undo_37 rfl (lv_at hl 2 rfl) ?_
    refine lv_bipush (v := (10:Int32)) hx hb dX2_undo_38 (by decide) ?_
    refine lv_icmp_ge (tgt := 68) hx hb dX2_undo_40 (by decide) (fun c => ?_) (fun c => ?_)
    · have h := qi_t c h
      refine lv_iconst (v := (0:Int32)) hx hb dX2_undo_68 (by decide) ?_
      refine lv_istore_n (lv' := [(2, .int (0:Int32)), (0, .ref (K.2.1 1000)), (1, .int x1)]) hx hb dX2_undo_69 rfl hl (by decide) rfl (fun ls hl => ?_)
      exact w_X2_undo_70 hG hM E hr  _ _ _ _   h hw (lv_sub hl [1, 2, 0] rfl)
    · have h := qi_f c h
      refine lv_aload_n hx hb dX2_undo_43 rfl (lv_at hl 0 rfl) ?_
      refine r_getM (v := .ref (K.2.1 1001)) E hw hM 0 (by decide) q1353 rfl dX2_undo_44 ?_
      refine lv_bipush (v := (8:Int32)) hx hb dX2_undo_47 (by decide) ?_
      refine lv_iload_n hx hb dX2_undo_49 rfl (lv_at hl 2 rfl) ?_
      refine lv_iadd hx hb dX2_undo_50 ?_
      refine lv_aload_n hx hb dX2_undo_51 rfl (lv_at hl 0 rfl) ?_
      refine r_getM (v := .ref (K.2.1 1001)) E hw hM 0 (by decide) q1353 rfl dX2_undo_52 ?_
      refine lv_iload_n hx hb dX2_undo_55 rfl (lv_at hl 1 rfl) ?_
      refine lv_iconst (v := (1:Int32)) hx hb dX2_undo_56 (by decide) ?_
      refine lv_iadd hx hb dX2_undo_57 ?_
      refine lv_iload_n hx hb dX2_undo_58 rfl (lv_at hl 2 rfl) ?_
      refine lv_iadd hx hb dX2_undo_59 ?_
      obtain ⟨z13, h⟩ := qif_s h
      refine r_iald (j := ((x1 + (1:Int32)) + x2).toNatClampNeg) E hw (qi_1001 hM).at (qok_in z13) rfl dX2_undo_60 ?_
      obtain ⟨z14, h⟩ := qif_s h
      obtain ⟨B15, e16, h⟩ := qlet_s h
      refine r_iastB (j := ((8:Int32) + x2).toNatClampNeg) E hw (qi_1001 hM) (qok_in z14) rfl dX2_undo_61 (fun H locs hw => ?_)
      rw [← e16] at hw
      obtain ⟨x2_17, e18, h⟩ := qlet_s h
      refine lv_iinc (v := x2_17) (lv' := [(2, .int x2_17), (0, .ref (K.2.1 1000)), (1, .int x1)]) (k := 2) hx hb dX2_undo_62 hl rfl (by rw [e18]; rfl) (by decide) rfl (fun ls hl => ?_)
      refine lv_goto (tgt := 37) hx hb dX2_undo_65 (by decide) ?_
      exact ih _ _ _  h hw (lv_sub hl [1, 2, 0] rfl)

def f_X2_undo (B : QA) : Option (Int32 × QA) :=
  if (B 1001 3) = (0:Int32) then (
  some ((-1:Int32), B)) else (
  qlet (qu B 1001 3 ((B 1001 3) - (1:Int32))) fun B1 =>
  qlet ((132:Int32) + ((35:Int32) * (B1 1001 3))) fun x1_3 =>
  f_X2_undo_37 FU x1_3 (0:Int32) B1)
set_option maxHeartbeats 4000000 in
theorem w_X2_undo_0 {p : Program} {l : Launch} {e : Env} {s : State} {m : MethodId} {args : Array Value} {below : List Frame} {meth : Method} {c : Code} {K : QK} {G : State → Prop} {A : QA} {rs : QX × QM} {L : QL} {ro : Int32} {Bo : QA} (hG : QG G) (hM : QMl K) (E : EV K G p s m args meth c cX2_undo "VaneCourtModel" 4) (hr : meth.sig.returnType = (some .int)) : ∀ (B : QA) {H : Heap} {locs : List Loc} {ls : Array Slot}, f_X2_undo B = some (ro, Bo) → WP K (A, B, L, rs) H locs → lv_has ls 4 [(0, .ref (K.2.1 1000))] → W p l e (qrm 2 63 0 0) s m args below meth c H locs 0 0 (MQ below (QE K (QR (some (.int ro)) (A, Bo, L, rs))) args s 0 0 (qA K)) (F0 m 0 ls []) := by
  have hx := E.1
  have hb := E.2.1
  have hown := E.2.2.1
  have hts := E.2.2.2.2.1
  intro B H locs ls  h hw hl
  rw [f_X2_undo] at h
  refine lv_aload_n hx hb dX2_undo_0 rfl (lv_at hl 0 rfl) ?_
  refine r_getM (v := .ref (K.2.1 1001)) E hw hM 0 (by decide) q1353 rfl dX2_undo_1 ?_
  refine lv_iconst (v := (3:Int32)) hx hb dX2_undo_4 (by decide) ?_
  refine r_iald (j := 3) E hw (qi_1001 hM).at (q_lit (k := 3) (n := 3642) rfl rfl) (q_clamp (k := 3) rfl) dX2_undo_5 ?_
  refine lv_if_ne (tgt := 11) hx hb dX2_undo_6 (by decide) (fun c => ?_) (fun c => ?_)
  · have h := qi_f c h
    refine lv_aload_n hx hb dX2_undo_11 rfl (lv_at hl 0 rfl) ?_
    refine r_getM (v := .ref (K.2.1 1001)) E hw hM 0 (by decide) q1353 rfl dX2_undo_12 ?_
    refine lv_iconst (v := (3:Int32)) hx hb dX2_undo_15 (by decide) ?_
    refine lv_dup2_11 hx hb dX2_undo_16 rfl rfl ?_
    refine r_iald (j := 3) E hw (qi_1001 hM).at (q_lit (k := 3) (n := 3642) rfl rfl) (q_clamp (k := 3) rfl) dX2_undo_17 ?_
    refine lv_iconst (v := (1:Int32)) hx hb dX2_undo_18 (by decide) ?_
    refine lv_isub hx hb dX2_undo_19 ?_
    obtain ⟨B1, e2, h⟩ := qlet_s h
    refine r_iastB (j := 3) E hw (qi_1001 hM) (q_lit (k := 3) (n := 3642) rfl rfl) (q_clamp (k := 3) rfl) dX2_undo_20 (fun H locs hw => ?_)
    rw [← e2] at hw
    refine lv_sipush (v := (132:Int32)) hx hb dX2_undo_21 (by decide) ?_
    refine lv_bipush (v := (35:Int32)) hx hb dX2_undo_24 (by decide) ?_
    refine lv_aload_n hx hb dX2_undo_26 rfl (lv_at hl 0 rfl) ?_
    refine r_getM (v := .ref (K.2.1 1001)) E hw hM 0 (by decide) q1353 rfl dX2_undo_27 ?_
    refine lv_iconst (v := (3:Int32)) hx hb dX2_undo_30 (by decide) ?_
    refine r_iald (j := 3) E hw (qi_1001 hM).at (q_lit (k := 3) (n := 3642) rfl rfl) (q_clamp (k := 3) rfl) dX2_undo_31 ?_
    refine lv_imul hx hb dX2_undo_32 ?_
    refine lv_iadd hx hb dX2_undo_33 ?_
    obtain ⟨x1_3, e4, h⟩ := qlet_s h
    refine r_nm e4 ?_
    refine lv_istore_n (lv' := [(1, .int x1_3), (0, .ref (K.2.1 1000))]) hx hb dX2_undo_34 rfl hl (by decide) rfl (fun ls hl => ?_)
    refine lv_iconst (v := (0:Int32)) hx hb dX2_undo_35 (by decide) ?_
    refine lv_istore_n (lv' := [(2, .int (0:Int32)), (1, .int x1_3), (0, .ref (K.2.1 1000))]) hx hb dX2_undo_36 rfl hl (by decide) rfl (fun ls hl => ?_)
    exact w_X2_undo_37 hG hM E hr  _ _ _ _   h hw (lv_sub hl [2, 1, 0] rfl)
  · have h := qi_t c h
    refine lv_iconst (v := (-1:Int32)) hx hb dX2_undo_9 (by decide) ?_
    have h := Option.some.inj h
    obtain ⟨h1, h2⟩ := Prod.mk.inj h
    exact d_iret E hr rfl hw h1 (by rw [h2]) dX2_undo_10

theorem m_X2_undo (l : Launch) {K : QK} {G : State → Prop} (hG : QG G) (hM : QMl K) {A : QA} {rs : QX × QM} {L : QL} {B : QA} {ro : Int32} {Bo : QA} (h : f_X2_undo B = some (ro, Bo)) : MC l K G yX2_undo (ws_ yX2_undo cX2_undo 4 (some .int)) 2 63 0 0 [.ref (K.2.1 1000)] (A, B, L, rs) (QR (some (.int ro)) (A, Bo, L, rs)) := by
  refine MC.of (by decide) (Nat.le_of_ble_eq_true rfl) (lv := [(0, .ref (K.2.1 1000))]) rfl (fun p e s m below meth c ls E hr hl hw => ?_)
  exact w_X2_undo_0 hG hM E hr _  h hw hl

def f_X2_isCase (x1 : Int32) (B : QA) : Option (Int32) :=
  qb1 (f_X2_isIn x1 (0:Int32) ((B 1001 0) - (1:Int32))) fun u1 =>
  qif (qbo u1) <|
  some (u1)
set_option maxHeartbeats 4000000 in
theorem w_X2_isCase_0 {p : Program} {l : Launch} {e : Env} {s : State} {m : MethodId} {args : Array Value} {below : List Frame} {meth : Method} {c : Code} {K : QK} {G : State → Prop} {A : QA} {rs : QX × QM} {L : QL} {ro : Int32} (hG : QG G) (hM : QMl K) (E : EV K G p s m args meth c cX2_isCase "VaneCourtModel" 2) (hr : meth.sig.returnType = (some .boolean)) : ∀ (x1 : Int32) (B : QA) {H : Heap} {locs : List Loc} {ls : Array Slot}, f_X2_isCase x1 B = some ro → WP K (A, B, L, rs) H locs → lv_has ls 2 [(0, .ref (K.2.1 1000)), (1, .int x1)] → W p l e (qrm 2 62 0 0) s m args below meth c H locs 0 0 (MQ below (QE K (QR (some (.int ro)) (A, B, L, rs))) args s 0 0 (qA K)) (F0 m 0 ls []) := by
  have hx := E.1
  have hb := E.2.1
  have hown := E.2.2.1
  have hts := E.2.2.2.2.1
  intro x1 B H locs ls  h hw hl
  rw [f_X2_isCase] at h
  refine lv_iload_n hx hb dX2_isCase_0 rfl (lv_at hl 1 rfl) ?_
  refine lv_iconst (v := (0:Int32)) hx hb dX2_isCase_1 (by decide) ?_
  refine lv_aload_n hx hb dX2_isCase_2 rfl (lv_at hl 0 rfl) ?_
  refine r_getM (v := .ref (K.2.1 1001)) E hw hM 0 (by decide) q1353 rfl dX2_isCase_3 ?_
  refine lv_iconst (v := (0:Int32)) hx hb dX2_isCase_6 (by decide) ?_
  refine r_iald (j := 0) E hw (qi_1001 hM).at (q_lit (k := 0) (n := 3642) rfl rfl) (q_clamp (k := 0) rfl) dX2_isCase_7 ?_
  refine lv_iconst (v := (1:Int32)) hx hb dX2_isCase_8 (by decide) ?_
  refine lv_isub hx hb dX2_isCase_9 ?_
  obtain ⟨u1, g2, h⟩ := qb1_s h
  refine d_S (As := [.int x1, .int (0:Int32), .int ((B 1001 0) - (1:Int32))]) (v0 := some (.int u1)) (w0 := (A, B, L, rs)) hG E hw hl (m_X2_isIn l hG hM  g2) (va_cwS 3 hts (lw_S q1480 q1481 q140 q1482) rfl rfl rfl kd_X2_isIn ⟨Nat.le_of_ble_eq_true rfl, Nat.le_of_ble_eq_true rfl⟩) rfl (rest := []) (st1 := [.int u1]) rfl rfl rfl dX2_isCase_10 ⟨Nat.le_of_ble_eq_true rfl, Nat.le_of_ble_eq_true rfl⟩ (fun H locs hw => ?_)
  obtain ⟨z3, h⟩ := qif_s h
  have h := Option.some.inj h
  have h1 := h
  exact d_iret E hr (qbo_n z3) hw h1 rfl dX2_isCase_13

theorem m_X2_isCase (l : Launch) {K : QK} {G : State → Prop} (hG : QG G) (hM : QMl K) {A : QA} {rs : QX × QM} {L : QL} {x1 : Int32} {B : QA} {ro : Int32} (h : f_X2_isCase x1 B = some ro) : MC l K G yX2_isCase (ws_ yX2_isCase cX2_isCase 2 (some .boolean)) 2 62 0 0 [.ref (K.2.1 1000), .int x1] (A, B, L, rs) (QR (some (.int ro)) (A, B, L, rs)) := by
  refine MC.of (by decide) (Nat.le_of_ble_eq_true rfl) (lv := [(0, .ref (K.2.1 1000)), (1, .int x1)]) rfl (fun p e s m below meth c ls E hr hl hw => ?_)
  exact w_X2_isCase_0 hG hM E hr _ _  h hw hl

def f_X2_get (x1 : Int32) (x2 : Int32) (B : QA) : Option (Int32) :=
  qif (qok (((20:Int32) + ((7:Int32) * x1)) + x2) 3642) <|
  some ((B 1001 (((20:Int32) + ((7:Int32) * x1)) + x2).toNatClampNeg))
set_option maxHeartbeats 4000000 in
theorem w_X2_get_0 {p : Program} {l : Launch} {e : Env} {s : State} {m : MethodId} {args : Array Value} {below : List Frame} {meth : Method} {c : Code} {K : QK} {G : State → Prop} {A : QA} {rs : QX × QM} {L : QL} {ro : Int32} (hG : QG G) (hM : QMl K) (E : EV K G p s m args meth c cX2_get "VaneCourtModel" 3) (hr : meth.sig.returnType = (some .int)) : ∀ (x1 : Int32) (x2 : Int32) (B : QA) {H : Heap} {locs : List Loc} {ls : Array Slot}, f_X2_get x1 x2 B = some ro → WP K (A, B, L, rs) H locs → lv_has ls 3 [(0, .ref (K.2.1 1000)), (1, .int x1), (2, .int x2)] → W p l e (qrm 1 40 0 0) s m args below meth c H locs 0 0 (MQ below (QE K (QR (some (.int ro)) (A, B, L, rs))) args s 0 0 (qA K)) (F0 m 0 ls []) := by
  have hx := E.1
  have hb := E.2.1
  have hown := E.2.2.1
  have hts := E.2.2.2.2.1
  intro x1 x2 B H locs ls  h hw hl
  rw [f_X2_get] at h
  refine lv_aload_n hx hb dX2_get_0 rfl (lv_at hl 0 rfl) ?_
  refine r_getM (v := .ref (K.2.1 1001)) E hw hM 0 (by decide) q1353 rfl dX2_get_1 ?_
  refine lv_bipush (v := (20:Int32)) hx hb dX2_get_4 (by decide) ?_
  refine lv_bipush (v := (7:Int32)) hx hb dX2_get_6 (by decide) ?_
  refine lv_iload_n hx hb dX2_get_8 rfl (lv_at hl 1 rfl) ?_
  refine lv_imul hx hb dX2_get_9 ?_
  refine lv_iadd hx hb dX2_get_10 ?_
  refine lv_iload_n hx hb dX2_get_11 rfl (lv_at hl 2 rfl) ?_
  refine lv_iadd hx hb dX2_get_12 ?_
  obtain ⟨z1, h⟩ := qif_s h
  refine r_iald (j := (((20:Int32) + ((7:Int32) * x1)) + x2).toNatClampNeg) E hw (qi_1001 hM).at (qok_in z1) rfl dX2_get_13 ?_
  have h := Option.some.inj h
  have h1 := h
  exact d_iret E hr rfl hw h1 rfl dX2_get_14

theorem m_X2_get (l : Launch) {K : QK} {G : State → Prop} (hG : QG G) (hM : QMl K) {A : QA} {rs : QX × QM} {L : QL} {x1 : Int32} {x2 : Int32} {B : QA} {ro : Int32} (h : f_X2_get x1 x2 B = some ro) : MC l K G yX2_get (ws_ yX2_get cX2_get 3 (some .int)) 1 40 0 0 [.ref (K.2.1 1000), .int x1, .int x2] (A, B, L, rs) (QR (some (.int ro)) (A, B, L, rs)) := by
  refine MC.of (by decide) (Nat.le_of_ble_eq_true rfl) (lv := [(0, .ref (K.2.1 1000)), (1, .int x1), (2, .int x2)]) rfl (fun p e s m below meth c ls E hr hl hw => ?_)
  exact w_X2_get_0 hG hM E hr _ _ _  h hw hl

def f_X2_isWaiting (x1 : Int32) (B : QA) : Option (Int32) :=
  qb1 (f_X2_isCase x1 B) fun u1 =>
  if u1 = (0:Int32) then (
  some ((0:Int32))) else (
  qb1 (f_X2_get x1 (4:Int32) B) fun u3 =>
  if u3 = (0:Int32) then (
  some ((1:Int32))) else (
  some ((0:Int32))))
set_option maxHeartbeats 4000000 in
theorem w_X2_isWaiting_0 {p : Program} {l : Launch} {e : Env} {s : State} {m : MethodId} {args : Array Value} {below : List Frame} {meth : Method} {c : Code} {K : QK} {G : State → Prop} {A : QA} {rs : QX × QM} {L : QL} {ro : Int32} (hG : QG G) (hM : QMl K) (E : EV K G p s m args meth c cX2_isWaiting "VaneCourtModel" 2) (hr : meth.sig.returnType = (some .boolean)) : ∀ (x1 : Int32) (B : QA) {H : Heap} {locs : List Loc} {ls : Array Slot}, f_X2_isWaiting x1 B = some ro → WP K (A, B, L, rs) H locs → lv_has ls 2 [(0, .ref (K.2.1 1000)), (1, .int x1)] → W p l e (qrm 3 83 0 0) s m args below meth c H locs 0 0 (MQ below (QE K (QR (some (.int ro)) (A, B, L, rs))) args s 0 0 (qA K)) (F0 m 0 ls []) := by
  have hx := E.1
  have hb := E.2.1
  have hown := E.2.2.1
  have hts := E.2.2.2.2.1
  intro x1 B H locs ls  h hw hl
  rw [f_X2_isWaiting] at h
  refine lv_aload_n hx hb dX2_isWaiting_0 rfl (lv_at hl 0 rfl) ?_
  refine lv_iload_n hx hb dX2_isWaiting_1 rfl (lv_at hl 1 rfl) ?_
  obtain ⟨u1, g2, h⟩ := qb1_s h
  refine d_V (As := [.int x1]) (v0 := some (.int u1)) (w0 := (A, B, L, rs)) hG E hw hl (m_X2_isCase l hG hM  g2) (qM0 hM) rfl (cwV 1 hts (lw_V q1695 q1697 qs96 q140 q1698) rfl rfl rfl ⟨rfl, kd_X2_isCase⟩ ⟨Nat.le_of_ble_eq_true rfl, Nat.le_of_ble_eq_true rfl⟩) rfl (rest := []) (st1 := [.int u1]) rfl rfl rfl dX2_isWaiting_2 ⟨Nat.le_of_ble_eq_true rfl, Nat.le_of_ble_eq_true rfl⟩ (fun H locs hw => ?_)
  refine lv_if_eq (tgt := 21) hx hb dX2_isWaiting_5 (by decide) (fun c => ?_) (fun c => ?_)
  · have h := qi_t c h
    refine lv_iconst (v := (0:Int32)) hx hb dX2_isWaiting_21 (by decide) ?_
    have h := Option.some.inj h
    have h1 := h
    exact d_iret E hr rfl hw h1 rfl dX2_isWaiting_22
  · have h := qi_f c h
    refine lv_aload_n hx hb dX2_isWaiting_8 rfl (lv_at hl 0 rfl) ?_
    refine lv_iload_n hx hb dX2_isWaiting_9 rfl (lv_at hl 1 rfl) ?_
    refine lv_iconst (v := (4:Int32)) hx hb dX2_isWaiting_10 (by decide) ?_
    obtain ⟨u3, g4, h⟩ := qb1_s h
    refine d_V (As := [.int x1, .int (4:Int32)]) (v0 := some (.int u3)) (w0 := (A, B, L, rs)) hG E hw hl (m_X2_get l hG hM  g4) (qM0 hM) rfl (cwV 2 hts (lw_V q1699 q1701 qs97 q140 q1702) rfl rfl rfl ⟨rfl, kd_X2_get⟩ ⟨Nat.le_of_ble_eq_true rfl, Nat.le_of_ble_eq_true rfl⟩) rfl (rest := []) (st1 := [.int u3]) rfl rfl rfl dX2_isWaiting_11 ⟨Nat.le_of_ble_eq_true rfl, Nat.le_of_ble_eq_true rfl⟩ (fun H locs hw => ?_)
    refine lv_if_ne (tgt := 21) hx hb dX2_isWaiting_14 (by decide) (fun c => ?_) (fun c => ?_)
    · have h := qi_f c h
      refine lv_iconst (v := (0:Int32)) hx hb dX2_isWaiting_21 (by decide) ?_
      have h := Option.some.inj h
      have h1 := h
      exact d_iret E hr rfl hw h1 rfl dX2_isWaiting_22
    · have h := qi_t c h
      refine lv_iconst (v := (1:Int32)) hx hb dX2_isWaiting_17 (by decide) ?_
      refine lv_goto (tgt := 22) hx hb dX2_isWaiting_18 (by decide) ?_
      have h := Option.some.inj h
      have h1 := h
      exact d_iret E hr rfl hw h1 rfl dX2_isWaiting_22

theorem m_X2_isWaiting (l : Launch) {K : QK} {G : State → Prop} (hG : QG G) (hM : QMl K) {A : QA} {rs : QX × QM} {L : QL} {x1 : Int32} {B : QA} {ro : Int32} (h : f_X2_isWaiting x1 B = some ro) : MC l K G yX2_isWaiting (ws_ yX2_isWaiting cX2_isWaiting 2 (some .boolean)) 3 83 0 0 [.ref (K.2.1 1000), .int x1] (A, B, L, rs) (QR (some (.int ro)) (A, B, L, rs)) := by
  refine MC.of (by decide) (Nat.le_of_ble_eq_true rfl) (lv := [(0, .ref (K.2.1 1000)), (1, .int x1)]) rfl (fun p e s m below meth c ls E hr hl hw => ?_)
  exact w_X2_isWaiting_0 hG hM E hr _ _  h hw hl

def f_X2_canCall (x1 : Int32) (B : QA) : Option (Int32) :=
  qb1 (f_X2_isWaiting x1 B) fun u1 =>
  if u1 = (0:Int32) then (
  some ((0:Int32))) else (
  if (B 1001 13) = (-1:Int32) then (
  some ((1:Int32))) else (
  some ((0:Int32))))
set_option maxHeartbeats 4000000 in
theorem w_X2_canCall_0 {p : Program} {l : Launch} {e : Env} {s : State} {m : MethodId} {args : Array Value} {below : List Frame} {meth : Method} {c : Code} {K : QK} {G : State → Prop} {A : QA} {rs : QX × QM} {L : QL} {ro : Int32} (hG : QG G) (hM : QMl K) (E : EV K G p s m args meth c cX2_canCall "VaneCourtModel" 2) (hr : meth.sig.returnType = (some .boolean)) : ∀ (x1 : Int32) (B : QA) {H : Heap} {locs : List Loc} {ls : Array Slot}, f_X2_canCall x1 B = some ro → WP K (A, B, L, rs) H locs → lv_has ls 2 [(0, .ref (K.2.1 1000)), (1, .int x1)] → W p l e (qrm 4 104 0 0) s m args below meth c H locs 0 0 (MQ below (QE K (QR (some (.int ro)) (A, B, L, rs))) args s 0 0 (qA K)) (F0 m 0 ls []) := by
  have hx := E.1
  have hb := E.2.1
  have hown := E.2.2.1
  have hts := E.2.2.2.2.1
  intro x1 B H locs ls  h hw hl
  rw [f_X2_canCall] at h
  refine lv_aload_n hx hb dX2_canCall_0 rfl (lv_at hl 0 rfl) ?_
  refine lv_iload_n hx hb dX2_canCall_1 rfl (lv_at hl 1 rfl) ?_
  obtain ⟨u1, g2, h⟩ := qb1_s h
  refine d_V (As := [.int x1]) (v0 := some (.int u1)) (w0 := (A, B, L, rs)) hG E hw hl (m_X2_isWaiting l hG hM  g2) (qM0 hM) rfl (cwV 1 hts (lw_V q1691 q1693 qs95 q140 q1694) rfl rfl rfl ⟨rfl, kd_X2_isWaiting⟩ ⟨Nat.le_of_ble_eq_true rfl, Nat.le_of_ble_eq_true rfl⟩) rfl (rest := []) (st1 := [.int u1]) rfl rfl rfl dX2_canCall_2 ⟨Nat.le_of_ble_eq_true rfl, Nat.le_of_ble_eq_true rfl⟩ (fun H locs hw => ?_)
  refine lv_if_eq (tgt := 23) hx hb dX2_canCall_5 (by decide) (fun c => ?_) (fun c => ?_)
  · have h := qi_t c h
    refine lv_iconst (v := (0:Int32)) hx hb dX2_canCall_23 (by decide) ?_
    have h := Option.some.inj h
    have h1 := h
    exact d_iret E hr rfl hw h1 rfl dX2_canCall_24
  · have h := qi_f c h
    refine lv_aload_n hx hb dX2_canCall_8 rfl (lv_at hl 0 rfl) ?_
    refine r_getM (v := .ref (K.2.1 1001)) E hw hM 0 (by decide) q1353 rfl dX2_canCall_9 ?_
    refine lv_bipush (v := (13:Int32)) hx hb dX2_canCall_12 (by decide) ?_
    refine r_iald (j := 13) E hw (qi_1001 hM).at (q_lit (k := 13) (n := 3642) rfl rfl) (q_clamp (k := 13) rfl) dX2_canCall_14 ?_
    refine lv_iconst (v := (-1:Int32)) hx hb dX2_canCall_15 (by decide) ?_
    refine lv_icmp_ne (tgt := 23) hx hb dX2_canCall_16 (by decide) (fun c => ?_) (fun c => ?_)
    · have h := qi_f c h
      refine lv_iconst (v := (0:Int32)) hx hb dX2_canCall_23 (by decide) ?_
      have h := Option.some.inj h
      have h1 := h
      exact d_iret E hr rfl hw h1 rfl dX2_canCall_24
    · have h := qi_t c h
      refine lv_iconst (v := (1:Int32)) hx hb dX2_canCall_19 (by decide) ?_
      refine lv_goto (tgt := 24) hx hb dX2_canCall_20 (by decide) ?_
      have h := Option.some.inj h
      have h1 := h
      exact d_iret E hr rfl hw h1 rfl dX2_canCall_24

theorem m_X2_canCall (l : Launch) {K : QK} {G : State → Prop} (hG : QG G) (hM : QMl K) {A : QA} {rs : QX × QM} {L : QL} {x1 : Int32} {B : QA} {ro : Int32} (h : f_X2_canCall x1 B = some ro) : MC l K G yX2_canCall (ws_ yX2_canCall cX2_canCall 2 (some .boolean)) 4 104 0 0 [.ref (K.2.1 1000), .int x1] (A, B, L, rs) (QR (some (.int ro)) (A, B, L, rs)) := by
  refine MC.of (by decide) (Nat.le_of_ble_eq_true rfl) (lv := [(0, .ref (K.2.1 1000)), (1, .int x1)]) rfl (fun p e s m below meth c ls E hr hl hw => ?_)
  exact w_X2_canCall_0 hG hM E hr _ _  h hw hl

def f_X2_keep_125 (k117 : (Int32 → Int32 → QA → Option (QA))) : Nat → Int32 → Int32 → Int32 → QA → Option (QA)
  | 0, _, _, _, _ => none
  | n + 1, x1, x2, x3, B => if (3:Int32) ≤ x3 then (
  qlet (x2 + (1:Int32)) fun x2_8 =>
  k117 x1 x2_8 B) else (
  qb1 (f_X2_get x2 ((4:Int32) + x3) B) fun u10 =>
  qif (qok (((x1 + (11:Int32)) + ((3:Int32) * x2)) + x3) 3642) <|
  qlet (qu B 1001 (((x1 + (11:Int32)) + ((3:Int32) * x2)) + x3).toNatClampNeg u10) fun B13 =>
  qlet (x3 + (1:Int32)) fun x3_15 =>
  f_X2_keep_125 k117 n x1 x2 x3_15 B13)
set_option maxHeartbeats 4000000 in
theorem w_X2_keep_125 {p : Program} {l : Launch} {e : Env} {s : State} {m : MethodId} {args : Array Value} {below : List Frame} {meth : Method} {c : Code} {K : QK} {G : State → Prop} {A : QA} {rs : QX × QM} {L : QL} {Bo : QA} (hG : QG G) (hM : QMl K) (E : EV K G p s m args meth c cX2_keep "VaneCourtModel" 4) (hr : meth.sig.returnType = none) {k117 : (Int32 → Int32 → QA → Option (QA))} (hk117 : ∀ (x1 : Int32) (x2 : Int32) (B : QA) {H : Heap} {locs : List Loc} {ls : Array Slot}, k117 x1 x2 B = some Bo → WP K (A, B, L, rs) H locs → lv_has ls 4 [(0, .ref (K.2.1 1000)), (1, .int x1), (2, .int x2)] → W p l e (qrm 2 62 0 0) s m args below meth c H locs 0 0 (MQ below (QE K (QR none (A, Bo, L, rs))) args s 0 0 (qA K)) (F0 m 117 ls [])) : ∀ (n : Nat) (x1 : Int32) (x2 : Int32) (x3 : Int32) (B : QA) {H : Heap} {locs : List Loc} {ls : Array Slot}, f_X2_keep_125 k117 n x1 x2 x3 B = some Bo → WP K (A, B, L, rs) H locs → lv_has ls 4 [(0, .ref (K.2.1 1000)), (1, .int x1), (2, .int x2), (3, .int x3)] → W p l e (qrm 2 62 0 0) s m args below meth c H locs 0 0 (MQ below (QE K (QR none (A, Bo, L, rs))) args s 0 0 (qA K)) (F0 m 125 ls []) := by
  have hx := E.1
  have hb := E.2.1
  have hown := E.2.2.1
  have hts := E.2.2.2.2.1
  intro n
  induction n with
  | zero =>
    intro x1 x2 x3 B H locs ls  h hw hl
    cases h
  | succ n ih =>
    intro x1 x2 x3 B H locs ls  h hw hl
    rw [f_X2_keep_125] at h
    refine lv_iload_n hx hb dX2_keep_125 rfl (lv_at hl 3 rfl) ?_
    refine lv_iconst (v := (3:Int32)) hx hb dX2_keep_126 (by decide) ?_
    refine lv_icmp_ge (tgt := 159) hx hb dX2_keep_127 (by decide) (fun c => ?_) (fun c => ?_)
    · have h := qi_t c h
      obtain ⟨x2_8, e9, h⟩ := qlet_s h
      refine lv_iinc (v := x2_8) (lv' := [(2, .int x2_8), (0, .ref (K.2.1 1000)), (1, .int x1), (3, .int x3)]) (k := 2) hx hb dX2_keep_159 hl rfl (by rw [e9]; rfl) (by decide) rfl (fun ls hl => ?_)
      refine lv_goto (tgt := 117) hx hb dX2_keep_162 (by decide) ?_
      exact hk117 _ _ _  h hw (lv_sub hl [1, 2, 0] rfl)
    · have h := qi_f c h
      refine lv_aload_n hx hb dX2_keep_130 rfl (lv_at hl 0 rfl) ?_
      refine r_getM (v := .ref (K.2.1 1001)) E hw hM 0 (by decide) q1353 rfl dX2_keep_131 ?_
      refine lv_iload_n hx hb dX2_keep_134 rfl (lv_at hl 1 rfl) ?_
      refine lv_bipush (v := (11:Int32)) hx hb dX2_keep_135 (by decide) ?_
      refine lv_iadd hx hb dX2_keep_137 ?_
      refine lv_iconst (v := (3:Int32)) hx hb dX2_keep_138 (by decide) ?_
      refine lv_iload_n hx hb dX2_keep_139 rfl (lv_at hl 2 rfl) ?_
      refine lv_imul hx hb dX2_keep_140 ?_
      refine lv_iadd hx hb dX2_keep_141 ?_
      refine lv_iload_n hx hb dX2_keep_142 rfl (lv_at hl 3 rfl) ?_
      refine lv_iadd hx hb dX2_keep_143 ?_
      refine lv_aload_n hx hb dX2_keep_144 rfl (lv_at hl 0 rfl) ?_
      refine lv_iload_n hx hb dX2_keep_145 rfl (lv_at hl 2 rfl) ?_
      refine lv_iconst (v := (4:Int32)) hx hb dX2_keep_146 (by decide) ?_
      refine lv_iload_n hx hb dX2_keep_147 rfl (lv_at hl 3 rfl) ?_
      refine lv_iadd hx hb dX2_keep_148 ?_
      obtain ⟨u10, g11, h⟩ := qb1_s h
      refine d_V (As := [.int x2, .int ((4:Int32) + x3)]) (v0 := some (.int u10)) (w0 := (A, B, L, rs)) hG E hw hl (m_X2_get l hG hM  g11) (qM0 hM) rfl (cwV 2 hts (lw_V q1699 q1701 qs97 q140 q1702) rfl rfl rfl ⟨rfl, kd_X2_get⟩ ⟨Nat.le_of_ble_eq_true rfl, Nat.le_of_ble_eq_true rfl⟩) rfl (rest := [.int (((x1 + (11:Int32)) + ((3:Int32) * x2)) + x3), .ref (K.2.1 1001)]) (st1 := [.int u10, .int (((x1 + (11:Int32)) + ((3:Int32) * x2)) + x3), .ref (K.2.1 1001)]) rfl rfl rfl dX2_keep_149 ⟨Nat.le_of_ble_eq_true rfl, Nat.le_of_ble_eq_true rfl⟩ (fun H locs hw => ?_)
      obtain ⟨z12, h⟩ := qif_s h
      obtain ⟨B13, e14, h⟩ := qlet_s h
      refine r_iastB (j := (((x1 + (11:Int32)) + ((3:Int32) * x2)) + x3).toNatClampNeg) E hw (qi_1001 hM) (qok_in z12) rfl dX2_keep_152 (fun H locs hw => ?_)
      rw [← e14] at hw
      obtain ⟨x3_15, e16, h⟩ := qlet_s h
      refine lv_iinc (v := x3_15) (lv' := [(3, .int x3_15), (0, .ref (K.2.1 1000)), (1, .int x1), (2, .int x2)]) (k := 3) hx hb dX2_keep_153 hl rfl (by rw [e16]; rfl) (by decide) rfl (fun ls hl => ?_)
      refine lv_goto (tgt := 125) hx hb dX2_keep_156 (by decide) ?_
      exact ih _ _ _ _  h hw (lv_sub hl [1, 2, 3, 0] rfl)

def f_X2_keep_117 : Nat → Int32 → Int32 → QA → Option (QA)
  | 0, _, _, _ => none
  | n + 1, x1, x2, B => if (8:Int32) ≤ x2 then (
  qlet (qu B 1001 3 ((B 1001 3) + (1:Int32))) fun B6 =>
  some (B6)) else (
  f_X2_keep_125 (fun x1' x2' B' => f_X2_keep_117 n x1' x2' B') FU x1 x2 (0:Int32) B)
set_option maxHeartbeats 4000000 in
theorem w_X2_keep_117 {p : Program} {l : Launch} {e : Env} {s : State} {m : MethodId} {args : Array Value} {below : List Frame} {meth : Method} {c : Code} {K : QK} {G : State → Prop} {A : QA} {rs : QX × QM} {L : QL} {Bo : QA} (hG : QG G) (hM : QMl K) (E : EV K G p s m args meth c cX2_keep "VaneCourtModel" 4) (hr : meth.sig.returnType = none) : ∀ (n : Nat) (x1 : Int32) (x2 : Int32) (B : QA) {H : Heap} {locs : List Loc} {ls : Array Slot}, f_X2_keep_117 n x1 x2 B = some Bo → WP K (A, B, L, rs) H locs → lv_has ls 4 [(0, .ref (K.2.1 1000)), (1, .int x1), (2, .int x2)] → W p l e (qrm 2 62 0 0) s m args below meth c H locs 0 0 (MQ below (QE K (QR none (A, Bo, L, rs))) args s 0 0 (qA K)) (F0 m 117 ls []) := by
  have hx := E.1
  have hb := E.2.1
  have hown := E.2.2.1
  have hts := E.2.2.2.2.1
  intro n
  induction n with
  | zero =>
    intro x1 x2 B H locs ls  h hw hl
    cases h
  | succ n ih =>
    intro x1 x2 B H locs ls  h hw hl
    rw [f_X2_keep_117] at h
    refine lv_iload_n hx hb dX2_keep_117 rfl (lv_at hl 2 rfl) ?_
    refine lv_bipush (v := (8:Int32)) hx hb dX2_keep_118 (by decide) ?_
    refine lv_icmp_ge (tgt := 165) hx hb dX2_keep_120 (by decide) (fun c => ?_) (fun c => ?_)
    · have h := qi_t c h
      refine lv_aload_n hx hb dX2_keep_165 rfl (lv_at hl 0 rfl) ?_
      refine r_getM (v := .ref (K.2.1 1001)) E hw hM 0 (by decide) q1353 rfl dX2_keep_166 ?_
      refine lv_iconst (v := (3:Int32)) hx hb dX2_keep_169 (by decide) ?_
      refine lv_dup2_11 hx hb dX2_keep_170 rfl rfl ?_
      refine r_iald (j := 3) E hw (qi_1001 hM).at (q_lit (k := 3) (n := 3642) rfl rfl) (q_clamp (k := 3) rfl) dX2_keep_171 ?_
      refine lv_iconst (v := (1:Int32)) hx hb dX2_keep_172 (by decide) ?_
      refine lv_iadd hx hb dX2_keep_173 ?_
      obtain ⟨B6, e7, h⟩ := qlet_s h
      refine r_iastB (j := 3) E hw (qi_1001 hM) (q_lit (k := 3) (n := 3642) rfl rfl) (q_clamp (k := 3) rfl) dX2_keep_174 (fun H locs hw => ?_)
      rw [← e7] at hw
      have h := Option.some.inj h
      have h1 := h
      exact d_ret E hr hw (by rw [h1]) dX2_keep_175
    · have h := qi_f c h
      refine lv_iconst (v := (0:Int32)) hx hb dX2_keep_123 (by decide) ?_
      refine lv_istore_n (lv' := [(3, .int (0:Int32)), (0, .ref (K.2.1 1000)), (1, .int x1), (2, .int x2)]) hx hb dX2_keep_124 rfl hl (by decide) rfl (fun ls hl => ?_)
      exact w_X2_keep_125 hG hM E hr ih _ _ _ _ _   h hw (lv_sub hl [1, 2, 3, 0] rfl)

def f_X2_keep_84 : Nat → Int32 → Int32 → QA → Option (QA)
  | 0, _, _, _ => none
  | n + 1, x1, x2, B => if (10:Int32) ≤ x2 then (
  f_X2_keep_117 FU x1 (0:Int32) B) else (
  qif (qok ((8:Int32) + x2) 3642) <|
  qif (qok ((x1 + (1:Int32)) + x2) 3642) <|
  qlet (qu B 1001 ((x1 + (1:Int32)) + x2).toNatClampNeg (B 1001 ((8:Int32) + x2).toNatClampNeg)) fun B19 =>
  qlet (x2 + (1:Int32)) fun x2_21 =>
  f_X2_keep_84 n x1 x2_21 B19)
set_option maxHeartbeats 4000000 in
theorem w_X2_keep_84 {p : Program} {l : Launch} {e : Env} {s : State} {m : MethodId} {args : Array Value} {below : List Frame} {meth : Method} {c : Code} {K : QK} {G : State → Prop} {A : QA} {rs : QX × QM} {L : QL} {Bo : QA} (hG : QG G) (hM : QMl K) (E : EV K G p s m args meth c cX2_keep "VaneCourtModel" 4) (hr : meth.sig.returnType = none) : ∀ (n : Nat) (x1 : Int32) (x2 : Int32) (B : QA) {H : Heap} {locs : List Loc} {ls : Array Slot}, f_X2_keep_84 n x1 x2 B = some Bo → WP K (A, B, L, rs) H locs → lv_has ls 4 [(0, .ref (K.2.1 1000)), (1, .int x1), (2, .int x2)] → W p l e (qrm 2 62 0 0) s m args below meth c H locs 0 0 (MQ below (QE K (QR none (A, Bo, L, rs))) args s 0 0 (qA K)) (F0 m 84 ls []) := by
  have hx := E.1
  have hb := E.2.1
  have hown := E.2.2.1
  have hts := E.2.2.2.2.1
  intro n
  induction n with
  | zero =>
    intro x1 x2 B H locs ls  h hw hl
    cases h
  | succ n ih =>
    intro x1 x2 B H locs ls  h hw hl
    rw [f_X2_keep_84] at h
    refine lv_iload_n hx hb dX2_keep_84 rfl (lv_at hl 2 rfl) ?_
    refine lv_bipush (v := (10:Int32)) hx hb dX2_keep_85 (by decide) ?_
    refine lv_icmp_ge (tgt := 115) hx hb dX2_keep_87 (by decide) (fun c => ?_) (fun c => ?_)
    · have h := qi_t c h
      refine lv_iconst (v := (0:Int32)) hx hb dX2_keep_115 (by decide) ?_
      refine lv_istore_n (lv' := [(2, .int (0:Int32)), (0, .ref (K.2.1 1000)), (1, .int x1)]) hx hb dX2_keep_116 rfl hl (by decide) rfl (fun ls hl => ?_)
      exact w_X2_keep_117 hG hM E hr  _ _ _ _   h hw (lv_sub hl [1, 2, 0] rfl)
    · have h := qi_f c h
      refine lv_aload_n hx hb dX2_keep_90 rfl (lv_at hl 0 rfl) ?_
      refine r_getM (v := .ref (K.2.1 1001)) E hw hM 0 (by decide) q1353 rfl dX2_keep_91 ?_
      refine lv_iload_n hx hb dX2_keep_94 rfl (lv_at hl 1 rfl) ?_
      refine lv_iconst (v := (1:Int32)) hx hb dX2_keep_95 (by decide) ?_
      refine lv_iadd hx hb dX2_keep_96 ?_
      refine lv_iload_n hx hb dX2_keep_97 rfl (lv_at hl 2 rfl) ?_
      refine lv_iadd hx hb dX2_keep_98 ?_
      refine lv_aload_n hx hb dX2_keep_99 rfl (lv_at hl 0 rfl) ?_
      refine r_getM (v := .ref (K.2.1 1001)) E hw hM 0 (by decide) q1353 rfl dX2_keep_100 ?_
      refine lv_bipush (v := (8:Int32)) hx hb dX2_keep_103 (by decide) ?_
      refine lv_iload_n hx hb dX2_keep_105 rfl (lv_at hl 2 rfl) ?_
      refine lv_iadd hx hb dX2_keep_106 ?_
      obtain ⟨z17, h⟩ := qif_s h
      refine r_iald (j := ((8:Int32) + x2).toNatClampNeg) E hw (qi_1001 hM).at (qok_in z17) rfl dX2_keep_107 ?_
      obtain ⟨z18, h⟩ := qif_s h
      obtain ⟨B19, e20, h⟩ := qlet_s h
      refine r_iastB (j := ((x1 + (1:Int32)) + x2).toNatClampNeg) E hw (qi_1001 hM) (qok_in z18) rfl dX2_keep_108 (fun H locs hw => ?_)
      rw [← e20] at hw
      obtain ⟨x2_21, e22, h⟩ := qlet_s h
      refine lv_iinc (v := x2_21) (lv' := [(2, .int x2_21), (0, .ref (K.2.1 1000)), (1, .int x1)]) (k := 2) hx hb dX2_keep_109 hl rfl (by rw [e22]; rfl) (by decide) rfl (fun ls hl => ?_)
      refine lv_goto (tgt := 84) hx hb dX2_keep_112 (by decide) ?_
      exact ih _ _ _  h hw (lv_sub hl [1, 2, 0] rfl)

def f_X2_keep_56 (B : QA) : Option (QA) :=
  qlet ((132:Int32) + ((35:Int32) * (B 1001 3))) fun x1_1 =>
  qif (qok x1_1 3642) <|
  qlet (qu B 1001 x1_1.toNatClampNeg (B 1001 0)) fun B4 =>
  f_X2_keep_84 FU x1_1 (0:Int32) B4
set_option maxHeartbeats 4000000 in
theorem w_X2_keep_56 {p : Program} {l : Launch} {e : Env} {s : State} {m : MethodId} {args : Array Value} {below : List Frame} {meth : Method} {c : Code} {K : QK} {G : State → Prop} {A : QA} {rs : QX × QM} {L : QL} {Bo : QA} (hG : QG G) (hM : QMl K) (E : EV K G p s m args meth c cX2_keep "VaneCourtModel" 4) (hr : meth.sig.returnType = none) : ∀ (B : QA) {H : Heap} {locs : List Loc} {ls : Array Slot}, f_X2_keep_56 B = some Bo → WP K (A, B, L, rs) H locs → lv_has ls 4 [(0, .ref (K.2.1 1000))] → W p l e (qrm 2 62 0 0) s m args below meth c H locs 0 0 (MQ below (QE K (QR none (A, Bo, L, rs))) args s 0 0 (qA K)) (F0 m 56 ls []) := by
  have hx := E.1
  have hb := E.2.1
  have hown := E.2.2.1
  have hts := E.2.2.2.2.1
  intro B H locs ls  h hw hl
  rw [f_X2_keep_56] at h
  refine lv_sipush (v := (132:Int32)) hx hb dX2_keep_56 (by decide) ?_
  refine lv_bipush (v := (35:Int32)) hx hb dX2_keep_59 (by decide) ?_
  refine lv_aload_n hx hb dX2_keep_61 rfl (lv_at hl 0 rfl) ?_
  refine r_getM (v := .ref (K.2.1 1001)) E hw hM 0 (by decide) q1353 rfl dX2_keep_62 ?_
  refine lv_iconst (v := (3:Int32)) hx hb dX2_keep_65 (by decide) ?_
  refine r_iald (j := 3) E hw (qi_1001 hM).at (q_lit (k := 3) (n := 3642) rfl rfl) (q_clamp (k := 3) rfl) dX2_keep_66 ?_
  refine lv_imul hx hb dX2_keep_67 ?_
  refine lv_iadd hx hb dX2_keep_68 ?_
  obtain ⟨x1_1, e2, h⟩ := qlet_s h
  refine r_nm e2 ?_
  refine lv_istore_n (lv' := [(1, .int x1_1), (0, .ref (K.2.1 1000))]) hx hb dX2_keep_69 rfl hl (by decide) rfl (fun ls hl => ?_)
  refine lv_aload_n hx hb dX2_keep_70 rfl (lv_at hl 1 rfl) ?_
  refine r_getM (v := .ref (K.2.1 1001)) E hw hM 0 (by decide) q1353 rfl dX2_keep_71 ?_
  refine lv_iload_n hx hb dX2_keep_74 rfl (lv_at hl 0 rfl) ?_
  refine lv_aload_n hx hb dX2_keep_75 rfl (lv_at hl 1 rfl) ?_
  refine r_getM (v := .ref (K.2.1 1001)) E hw hM 0 (by decide) q1353 rfl dX2_keep_76 ?_
  refine lv_iconst (v := (0:Int32)) hx hb dX2_keep_79 (by decide) ?_
  refine r_iald (j := 0) E hw (qi_1001 hM).at (q_lit (k := 0) (n := 3642) rfl rfl) (q_clamp (k := 0) rfl) dX2_keep_80 ?_
  obtain ⟨z3, h⟩ := qif_s h
  obtain ⟨B4, e5, h⟩ := qlet_s h
  refine r_iastB (j := x1_1.toNatClampNeg) E hw (qi_1001 hM) (qok_in z3) rfl dX2_keep_81 (fun H locs hw => ?_)
  rw [← e5] at hw
  refine lv_iconst (v := (0:Int32)) hx hb dX2_keep_82 (by decide) ?_
  refine lv_istore_n (lv' := [(2, .int (0:Int32)), (1, .int x1_1), (0, .ref (K.2.1 1000))]) hx hb dX2_keep_83 rfl hl (by decide) rfl (fun ls hl => ?_)
  exact w_X2_keep_84 hG hM E hr  _ _ _ _   h hw (lv_sub hl [2, 1, 0] rfl)

def f_X2_keep_13 : Nat → Int32 → QA → Option (QA)
  | 0, _, _ => none
  | n + 1, x1, B => if (1015:Int32) ≤ x1 then (
  qlet (qu B 1001 3 ((B 1001 3) - (1:Int32))) fun B23 =>
  f_X2_keep_56 B23) else (
  qif (qok ((167:Int32) + x1) 3642) <|
  qif (qok ((132:Int32) + x1) 3642) <|
  qlet (qu B 1001 ((132:Int32) + x1).toNatClampNeg (B 1001 ((167:Int32) + x1).toNatClampNeg)) fun B27 =>
  qlet (x1 + (1:Int32)) fun x1_29 =>
  f_X2_keep_13 n x1_29 B27)
set_option maxHeartbeats 4000000 in
theorem w_X2_keep_13 {p : Program} {l : Launch} {e : Env} {s : State} {m : MethodId} {args : Array Value} {below : List Frame} {meth : Method} {c : Code} {K : QK} {G : State → Prop} {A : QA} {rs : QX × QM} {L : QL} {Bo : QA} (hG : QG G) (hM : QMl K) (E : EV K G p s m args meth c cX2_keep "VaneCourtModel" 4) (hr : meth.sig.returnType = none) : ∀ (n : Nat) (x1 : Int32) (B : QA) {H : Heap} {locs : List Loc} {ls : Array Slot}, f_X2_keep_13 n x1 B = some Bo → WP K (A, B, L, rs) H locs → lv_has ls 4 [(0, .ref (K.2.1 1000)), (1, .int x1)] → W p l e (qrm 2 62 0 0) s m args below meth c H locs 0 0 (MQ below (QE K (QR none (A, Bo, L, rs))) args s 0 0 (qA K)) (F0 m 13 ls []) := by
  have hx := E.1
  have hb := E.2.1
  have hown := E.2.2.1
  have hts := E.2.2.2.2.1
  intro n
  induction n with
  | zero =>
    intro x1 B H locs ls  h hw hl
    cases h
  | succ n ih =>
    intro x1 B H locs ls  h hw hl
    rw [f_X2_keep_13] at h
    refine lv_iload_n hx hb dX2_keep_13 rfl (lv_at hl 1 rfl) ?_
    refine lv_sipush (v := (1015:Int32)) hx hb dX2_keep_14 (by decide) ?_
    refine lv_icmp_ge (tgt := 46) hx hb dX2_keep_17 (by decide) (fun c => ?_) (fun c => ?_)
    · have h := qi_t c h
      refine lv_aload_n hx hb dX2_keep_46 rfl (lv_at hl 0 rfl) ?_
      refine r_getM (v := .ref (K.2.1 1001)) E hw hM 0 (by decide) q1353 rfl dX2_keep_47 ?_
      refine lv_iconst (v := (3:Int32)) hx hb dX2_keep_50 (by decide) ?_
      refine lv_dup2_11 hx hb dX2_keep_51 rfl rfl ?_
      refine r_iald (j := 3) E hw (qi_1001 hM).at (q_lit (k := 3) (n := 3642) rfl rfl) (q_clamp (k := 3) rfl) dX2_keep_52 ?_
      refine lv_iconst (v := (1:Int32)) hx hb dX2_keep_53 (by decide) ?_
      refine lv_isub hx hb dX2_keep_54 ?_
      obtain ⟨B23, e24, h⟩ := qlet_s h
      refine r_iastB (j := 3) E hw (qi_1001 hM) (q_lit (k := 3) (n := 3642) rfl rfl) (q_clamp (k := 3) rfl) dX2_keep_55 (fun H locs hw => ?_)
      rw [← e24] at hw
      exact w_X2_keep_56 hG hM E hr  _   h hw (lv_sub hl [0] rfl)
    · have h := qi_f c h
      refine lv_aload_n hx hb dX2_keep_20 rfl (lv_at hl 0 rfl) ?_
      refine r_getM (v := .ref (K.2.1 1001)) E hw hM 0 (by decide) q1353 rfl dX2_keep_21 ?_
      refine lv_sipush (v := (132:Int32)) hx hb dX2_keep_24 (by decide) ?_
      refine lv_iload_n hx hb dX2_keep_27 rfl (lv_at hl 1 rfl) ?_
      refine lv_iadd hx hb dX2_keep_28 ?_
      refine lv_aload_n hx hb dX2_keep_29 rfl (lv_at hl 0 rfl) ?_
      refine r_getM (v := .ref (K.2.1 1001)) E hw hM 0 (by decide) q1353 rfl dX2_keep_30 ?_
      refine lv_sipush (v := (167:Int32)) hx hb dX2_keep_33 (by decide) ?_
      refine lv_iload_n hx hb dX2_keep_36 rfl (lv_at hl 1 rfl) ?_
      refine lv_iadd hx hb dX2_keep_37 ?_
      obtain ⟨z25, h⟩ := qif_s h
      refine r_iald (j := ((167:Int32) + x1).toNatClampNeg) E hw (qi_1001 hM).at (qok_in z25) rfl dX2_keep_38 ?_
      obtain ⟨z26, h⟩ := qif_s h
      obtain ⟨B27, e28, h⟩ := qlet_s h
      refine r_iastB (j := ((132:Int32) + x1).toNatClampNeg) E hw (qi_1001 hM) (qok_in z26) rfl dX2_keep_39 (fun H locs hw => ?_)
      rw [← e28] at hw
      obtain ⟨x1_29, e30, h⟩ := qlet_s h
      refine lv_iinc (v := x1_29) (lv' := [(1, .int x1_29), (0, .ref (K.2.1 1000))]) (k := 1) hx hb dX2_keep_40 hl rfl (by rw [e30]; rfl) (by decide) rfl (fun ls hl => ?_)
      refine lv_goto (tgt := 13) hx hb dX2_keep_43 (by decide) ?_
      exact ih _ _  h hw (lv_sub hl [1, 0] rfl)

def f_X2_keep (B : QA) : Option (QA) :=
  if (B 1001 3) = (30:Int32) then (
  f_X2_keep_13 FU (0:Int32) B) else (
  f_X2_keep_56 B)
set_option maxHeartbeats 4000000 in
theorem w_X2_keep_0 {p : Program} {l : Launch} {e : Env} {s : State} {m : MethodId} {args : Array Value} {below : List Frame} {meth : Method} {c : Code} {K : QK} {G : State → Prop} {A : QA} {rs : QX × QM} {L : QL} {Bo : QA} (hG : QG G) (hM : QMl K) (E : EV K G p s m args meth c cX2_keep "VaneCourtModel" 4) (hr : meth.sig.returnType = none) : ∀ (B : QA) {H : Heap} {locs : List Loc} {ls : Array Slot}, f_X2_keep B = some Bo → WP K (A, B, L, rs) H locs → lv_has ls 4 [(0, .ref (K.2.1 1000))] → W p l e (qrm 2 62 0 0) s m args below meth c H locs 0 0 (MQ below (QE K (QR none (A, Bo, L, rs))) args s 0 0 (qA K)) (F0 m 0 ls []) := by
  have hx := E.1
  have hb := E.2.1
  have hown := E.2.2.1
  have hts := E.2.2.2.2.1
  intro B H locs ls  h hw hl
  rw [f_X2_keep] at h
  refine lv_aload_n hx hb dX2_keep_0 rfl (lv_at hl 0 rfl) ?_
  refine r_getM (v := .ref (K.2.1 1001)) E hw hM 0 (by decide) q1353 rfl dX2_keep_1 ?_
  refine lv_iconst (v := (3:Int32)) hx hb dX2_keep_4 (by decide) ?_
  refine r_iald (j := 3) E hw (qi_1001 hM).at (q_lit (k := 3) (n := 3642) rfl rfl) (q_clamp (k := 3) rfl) dX2_keep_5 ?_
  refine lv_bipush (v := (30:Int32)) hx hb dX2_keep_6 (by decide) ?_
  refine lv_icmp_ne (tgt := 56) hx hb dX2_keep_8 (by decide) (fun c => ?_) (fun c => ?_)
  · have h := qi_f c h
    exact w_X2_keep_56 hG hM E hr  _   h hw (lv_sub hl [0] rfl)
  · have h := qi_t c h
    refine lv_iconst (v := (0:Int32)) hx hb dX2_keep_11 (by decide) ?_
    refine lv_istore_n (lv' := [(1, .int (0:Int32)), (0, .ref (K.2.1 1000))]) hx hb dX2_keep_12 rfl hl (by decide) rfl (fun ls hl => ?_)
    exact w_X2_keep_13 hG hM E hr  _ _ _   h hw (lv_sub hl [1, 0] rfl)

theorem m_X2_keep (l : Launch) {K : QK} {G : State → Prop} (hG : QG G) (hM : QMl K) {A : QA} {rs : QX × QM} {L : QL} {B : QA} {Bo : QA} (h : f_X2_keep B = some Bo) : MC l K G yX2_keep (ws_ yX2_keep cX2_keep 4 none) 2 62 0 0 [.ref (K.2.1 1000)] (A, B, L, rs) (QR none (A, Bo, L, rs)) := by
  refine MC.of (by decide) (Nat.le_of_ble_eq_true rfl) (lv := [(0, .ref (K.2.1 1000))]) rfl (fun p e s m below meth c ls E hr hl hw => ?_)
  exact w_X2_keep_0 hG hM E hr _  h hw hl

def f_X2_callNow (x1 : Int32) (B : QA) : Option (QA) :=
  qlet (qu B 1001 13 x1) fun B1 =>
  qb1 (f_X2_put x1 (4:Int32) (1:Int32) B1) fun B3 =>
  some (B3)
set_option maxHeartbeats 4000000 in
theorem w_X2_callNow_0 {p : Program} {l : Launch} {e : Env} {s : State} {m : MethodId} {args : Array Value} {below : List Frame} {meth : Method} {c : Code} {K : QK} {G : State → Prop} {A : QA} {rs : QX × QM} {L : QL} {Bo : QA} (hG : QG G) (hM : QMl K) (E : EV K G p s m args meth c cX2_callNow "VaneCourtModel" 2) (hr : meth.sig.returnType = none) : ∀ (x1 : Int32) (B : QA) {H : Heap} {locs : List Loc} {ls : Array Slot}, f_X2_callNow x1 B = some Bo → WP K (A, B, L, rs) H locs → lv_has ls 2 [(0, .ref (K.2.1 1000)), (1, .int x1)] → W p l e (qrm 2 63 0 0) s m args below meth c H locs 0 0 (MQ below (QE K (QR none (A, Bo, L, rs))) args s 0 0 (qA K)) (F0 m 0 ls []) := by
  have hx := E.1
  have hb := E.2.1
  have hown := E.2.2.1
  have hts := E.2.2.2.2.1
  intro x1 B H locs ls  h hw hl
  rw [f_X2_callNow] at h
  refine lv_aload_n hx hb dX2_callNow_0 rfl (lv_at hl 0 rfl) ?_
  refine r_getM (v := .ref (K.2.1 1001)) E hw hM 0 (by decide) q1353 rfl dX2_callNow_1 ?_
  refine lv_bipush (v := (13:Int32)) hx hb dX2_callNow_4 (by decide) ?_
  refine lv_iload_n hx hb dX2_callNow_6 rfl (lv_at hl 1 rfl) ?_
  obtain ⟨B1, e2, h⟩ := qlet_s h
  refine r_iastB (j := 13) E hw (qi_1001 hM) (q_lit (k := 13) (n := 3642) rfl rfl) (q_clamp (k := 13) rfl) dX2_callNow_7 (fun H locs hw => ?_)
  rw [← e2] at hw
  refine lv_aload_n hx hb dX2_callNow_8 rfl (lv_at hl 0 rfl) ?_
  refine lv_iload_n hx hb dX2_callNow_9 rfl (lv_at hl 1 rfl) ?_
  refine lv_iconst (v := (4:Int32)) hx hb dX2_callNow_10 (by decide) ?_
  refine lv_iconst (v := (1:Int32)) hx hb dX2_callNow_11 (by decide) ?_
  obtain ⟨B3, g4, h⟩ := qb1_s h
  refine d_V (As := [.int x1, .int (4:Int32), .int (1:Int32)]) (v0 := none) (w0 := (A, B3, L, rs)) hG E hw hl (m_X2_put l hG hM  g4) (qM0 hM) rfl (cwV 3 hts (lw_V q1483 q1485 qs58 q140 q1486) rfl rfl rfl ⟨rfl, kd_X2_put⟩ ⟨Nat.le_of_ble_eq_true rfl, Nat.le_of_ble_eq_true rfl⟩) rfl (rest := []) (st1 := []) rfl rfl rfl dX2_callNow_12 ⟨Nat.le_of_ble_eq_true rfl, Nat.le_of_ble_eq_true rfl⟩ (fun H locs hw => ?_)
  have h := Option.some.inj h
  have h1 := h
  exact d_ret E hr hw (by rw [h1]) dX2_callNow_15

theorem m_X2_callNow (l : Launch) {K : QK} {G : State → Prop} (hG : QG G) (hM : QMl K) {A : QA} {rs : QX × QM} {L : QL} {x1 : Int32} {B : QA} {Bo : QA} (h : f_X2_callNow x1 B = some Bo) : MC l K G yX2_callNow (ws_ yX2_callNow cX2_callNow 2 none) 2 63 0 0 [.ref (K.2.1 1000), .int x1] (A, B, L, rs) (QR none (A, Bo, L, rs)) := by
  refine MC.of (by decide) (Nat.le_of_ble_eq_true rfl) (lv := [(0, .ref (K.2.1 1000)), (1, .int x1)]) rfl (fun p e s m below meth c ls E hr hl hw => ?_)
  exact w_X2_callNow_0 hG hM E hr _ _  h hw hl

def f_X2_call (x1 : Int32) (B : QA) : Option (Int32 × QA) :=
  qb1 (f_X2_canCall x1 B) fun u1 =>
  if u1 = (0:Int32) then (
  some ((0:Int32), B)) else (
  qb1 (f_X2_keep B) fun B3 =>
  qb1 (f_X2_callNow x1 B3) fun B5 =>
  some ((1:Int32), B5))
set_option maxHeartbeats 4000000 in
theorem w_X2_call_0 {p : Program} {l : Launch} {e : Env} {s : State} {m : MethodId} {args : Array Value} {below : List Frame} {meth : Method} {c : Code} {K : QK} {G : State → Prop} {A : QA} {rs : QX × QM} {L : QL} {ro : Int32} {Bo : QA} (hG : QG G) (hM : QMl K) (E : EV K G p s m args meth c cX2_call "VaneCourtModel" 2) (hr : meth.sig.returnType = (some .boolean)) : ∀ (x1 : Int32) (B : QA) {H : Heap} {locs : List Loc} {ls : Array Slot}, f_X2_call x1 B = some (ro, Bo) → WP K (A, B, L, rs) H locs → lv_has ls 2 [(0, .ref (K.2.1 1000)), (1, .int x1)] → W p l e (qrm 5 125 0 0) s m args below meth c H locs 0 0 (MQ below (QE K (QR (some (.int ro)) (A, Bo, L, rs))) args s 0 0 (qA K)) (F0 m 0 ls []) := by
  have hx := E.1
  have hb := E.2.1
  have hown := E.2.2.1
  have hts := E.2.2.2.2.1
  intro x1 B H locs ls  h hw hl
  rw [f_X2_call] at h
  refine lv_aload_n hx hb dX2_call_0 rfl (lv_at hl 0 rfl) ?_
  refine lv_iload_n hx hb dX2_call_1 rfl (lv_at hl 1 rfl) ?_
  obtain ⟨u1, g2, h⟩ := qb1_s h
  refine d_V (As := [.int x1]) (v0 := some (.int u1)) (w0 := (A, B, L, rs)) hG E hw hl (m_X2_canCall l hG hM  g2) (qM0 hM) rfl (cwV 1 hts (lw_V q1687 q1689 qs94 q140 q1690) rfl rfl rfl ⟨rfl, kd_X2_canCall⟩ ⟨Nat.le_of_ble_eq_true rfl, Nat.le_of_ble_eq_true rfl⟩) rfl (rest := []) (st1 := [.int u1]) rfl rfl rfl dX2_call_2 ⟨Nat.le_of_ble_eq_true rfl, Nat.le_of_ble_eq_true rfl⟩ (fun H locs hw => ?_)
  refine lv_if_ne (tgt := 10) hx hb dX2_call_5 (by decide) (fun c => ?_) (fun c => ?_)
  · have h := qi_f c h
    refine lv_aload_n hx hb dX2_call_10 rfl (lv_at hl 0 rfl) ?_
    obtain ⟨B3, g4, h⟩ := qb1_s h
    refine d_V (As := []) (v0 := none) (w0 := (A, B3, L, rs)) hG E hw hl (m_X2_keep l hG hM  g4) (qM0 hM) rfl (cwV 0 hts (lw_V q1703 q1705 qs98 q140 q1706) rfl rfl rfl ⟨rfl, kd_X2_keep⟩ ⟨Nat.le_of_ble_eq_true rfl, Nat.le_of_ble_eq_true rfl⟩) rfl (rest := []) (st1 := []) rfl rfl rfl dX2_call_11 ⟨Nat.le_of_ble_eq_true rfl, Nat.le_of_ble_eq_true rfl⟩ (fun H locs hw => ?_)
    refine lv_aload_n hx hb dX2_call_14 rfl (lv_at hl 0 rfl) ?_
    refine lv_iload_n hx hb dX2_call_15 rfl (lv_at hl 1 rfl) ?_
    obtain ⟨B5, g6, h⟩ := qb1_s h
    refine d_V (As := [.int x1]) (v0 := none) (w0 := (A, B5, L, rs)) hG E hw hl (m_X2_callNow l hG hM  g6) (qM0 hM) rfl (cwV 1 hts (lw_V q1707 q1709 qs99 q140 q1710) rfl rfl rfl ⟨rfl, kd_X2_callNow⟩ ⟨Nat.le_of_ble_eq_true rfl, Nat.le_of_ble_eq_true rfl⟩) rfl (rest := []) (st1 := []) rfl rfl rfl dX2_call_16 ⟨Nat.le_of_ble_eq_true rfl, Nat.le_of_ble_eq_true rfl⟩ (fun H locs hw => ?_)
    refine lv_iconst (v := (1:Int32)) hx hb dX2_call_19 (by decide) ?_
    have h := Option.some.inj h
    obtain ⟨h1, h2⟩ := Prod.mk.inj h
    exact d_iret E hr rfl hw h1 (by rw [h2]) dX2_call_20
  · have h := qi_t c h
    refine lv_iconst (v := (0:Int32)) hx hb dX2_call_8 (by decide) ?_
    have h := Option.some.inj h
    obtain ⟨h1, h2⟩ := Prod.mk.inj h
    exact d_iret E hr rfl hw h1 (by rw [h2]) dX2_call_9

theorem m_X2_call (l : Launch) {K : QK} {G : State → Prop} (hG : QG G) (hM : QMl K) {A : QA} {rs : QX × QM} {L : QL} {x1 : Int32} {B : QA} {ro : Int32} {Bo : QA} (h : f_X2_call x1 B = some (ro, Bo)) : MC l K G yX2_call (ws_ yX2_call cX2_call 2 (some .boolean)) 5 125 0 0 [.ref (K.2.1 1000), .int x1] (A, B, L, rs) (QR (some (.int ro)) (A, Bo, L, rs)) := by
  refine MC.of (by decide) (Nat.le_of_ble_eq_true rfl) (lv := [(0, .ref (K.2.1 1000)), (1, .int x1)]) rfl (fun p e s m below meth c ls E hr hl hw => ?_)
  exact w_X2_call_0 hG hM E hr _ _  h hw hl

def f_X2_canDelay (B : QA) : Option (Int32) :=
  if (B 1001 13) = (-1:Int32) then (
  some ((0:Int32))) else (
  if (3:Int32) ≤ (B 1001 16) then (
  some ((0:Int32))) else (
  some ((1:Int32))))
set_option maxHeartbeats 4000000 in
theorem w_X2_canDelay_0 {p : Program} {l : Launch} {e : Env} {s : State} {m : MethodId} {args : Array Value} {below : List Frame} {meth : Method} {c : Code} {K : QK} {G : State → Prop} {A : QA} {rs : QX × QM} {L : QL} {ro : Int32} (hG : QG G) (hM : QMl K) (E : EV K G p s m args meth c cX2_canDelay "VaneCourtModel" 1) (hr : meth.sig.returnType = (some .boolean)) : ∀ (B : QA) {H : Heap} {locs : List Loc} {ls : Array Slot}, f_X2_canDelay B = some ro → WP K (A, B, L, rs) H locs → lv_has ls 1 [(0, .ref (K.2.1 1000))] → W p l e (qrm 1 40 0 0) s m args below meth c H locs 0 0 (MQ below (QE K (QR (some (.int ro)) (A, B, L, rs))) args s 0 0 (qA K)) (F0 m 0 ls []) := by
  have hx := E.1
  have hb := E.2.1
  have hown := E.2.2.1
  have hts := E.2.2.2.2.1
  intro B H locs ls  h hw hl
  rw [f_X2_canDelay] at h
  refine lv_aload_n hx hb dX2_canDelay_0 rfl (lv_at hl 0 rfl) ?_
  refine r_getM (v := .ref (K.2.1 1001)) E hw hM 0 (by decide) q1353 rfl dX2_canDelay_1 ?_
  refine lv_bipush (v := (13:Int32)) hx hb dX2_canDelay_4 (by decide) ?_
  refine r_iald (j := 13) E hw (qi_1001 hM).at (q_lit (k := 13) (n := 3642) rfl rfl) (q_clamp (k := 13) rfl) dX2_canDelay_6 ?_
  refine lv_iconst (v := (-1:Int32)) hx hb dX2_canDelay_7 (by decide) ?_
  refine lv_icmp_eq (tgt := 26) hx hb dX2_canDelay_8 (by decide) (fun c => ?_) (fun c => ?_)
  · have h := qi_t c h
    refine lv_iconst (v := (0:Int32)) hx hb dX2_canDelay_26 (by decide) ?_
    have h := Option.some.inj h
    have h1 := h
    exact d_iret E hr rfl hw h1 rfl dX2_canDelay_27
  · have h := qi_f c h
    refine lv_aload_n hx hb dX2_canDelay_11 rfl (lv_at hl 0 rfl) ?_
    refine r_getM (v := .ref (K.2.1 1001)) E hw hM 0 (by decide) q1353 rfl dX2_canDelay_12 ?_
    refine lv_bipush (v := (16:Int32)) hx hb dX2_canDelay_15 (by decide) ?_
    refine r_iald (j := 16) E hw (qi_1001 hM).at (q_lit (k := 16) (n := 3642) rfl rfl) (q_clamp (k := 16) rfl) dX2_canDelay_17 ?_
    refine lv_iconst (v := (3:Int32)) hx hb dX2_canDelay_18 (by decide) ?_
    refine lv_icmp_ge (tgt := 26) hx hb dX2_canDelay_19 (by decide) (fun c => ?_) (fun c => ?_)
    · have h := qi_t c h
      refine lv_iconst (v := (0:Int32)) hx hb dX2_canDelay_26 (by decide) ?_
      have h := Option.some.inj h
      have h1 := h
      exact d_iret E hr rfl hw h1 rfl dX2_canDelay_27
    · have h := qi_f c h
      refine lv_iconst (v := (1:Int32)) hx hb dX2_canDelay_22 (by decide) ?_
      refine lv_goto (tgt := 27) hx hb dX2_canDelay_23 (by decide) ?_
      have h := Option.some.inj h
      have h1 := h
      exact d_iret E hr rfl hw h1 rfl dX2_canDelay_27

theorem m_X2_canDelay (l : Launch) {K : QK} {G : State → Prop} (hG : QG G) (hM : QMl K) {A : QA} {rs : QX × QM} {L : QL} {B : QA} {ro : Int32} (h : f_X2_canDelay B = some ro) : MC l K G yX2_canDelay (ws_ yX2_canDelay cX2_canDelay 1 (some .boolean)) 1 40 0 0 [.ref (K.2.1 1000)] (A, B, L, rs) (QR (some (.int ro)) (A, B, L, rs)) := by
  refine MC.of (by decide) (Nat.le_of_ble_eq_true rfl) (lv := [(0, .ref (K.2.1 1000))]) rfl (fun p e s m below meth c ls E hr hl hw => ?_)
  exact w_X2_canDelay_0 hG hM E hr _  h hw hl

def f_X2_delay (B : QA) : Option (Int32 × QA) :=
  qb1 (f_X2_canDelay B) fun u1 =>
  if u1 = (0:Int32) then (
  some ((-1:Int32), B)) else (
  qb1 (f_X2_keep B) fun B3 =>
  qlet (qu B3 1001 16 ((B3 1001 16) + (1:Int32))) fun B5 =>
  some ((B5 1001 16), B5))
set_option maxHeartbeats 4000000 in
theorem w_X2_delay_0 {p : Program} {l : Launch} {e : Env} {s : State} {m : MethodId} {args : Array Value} {below : List Frame} {meth : Method} {c : Code} {K : QK} {G : State → Prop} {A : QA} {rs : QX × QM} {L : QL} {ro : Int32} {Bo : QA} (hG : QG G) (hM : QMl K) (E : EV K G p s m args meth c cX2_delay "VaneCourtModel" 1) (hr : meth.sig.returnType = (some .int)) : ∀ (B : QA) {H : Heap} {locs : List Loc} {ls : Array Slot}, f_X2_delay B = some (ro, Bo) → WP K (A, B, L, rs) H locs → lv_has ls 1 [(0, .ref (K.2.1 1000))] → W p l e (qrm 3 85 0 0) s m args below meth c H locs 0 0 (MQ below (QE K (QR (some (.int ro)) (A, Bo, L, rs))) args s 0 0 (qA K)) (F0 m 0 ls []) := by
  have hx := E.1
  have hb := E.2.1
  have hown := E.2.2.1
  have hts := E.2.2.2.2.1
  intro B H locs ls  h hw hl
  rw [f_X2_delay] at h
  refine lv_aload_n hx hb dX2_delay_0 rfl (lv_at hl 0 rfl) ?_
  obtain ⟨u1, g2, h⟩ := qb1_s h
  refine d_V (As := []) (v0 := some (.int u1)) (w0 := (A, B, L, rs)) hG E hw hl (m_X2_canDelay l hG hM  g2) (qM0 hM) rfl (cwV 0 hts (lw_V q1715 q1717 qs100 q140 q1718) rfl rfl rfl ⟨rfl, kd_X2_canDelay⟩ ⟨Nat.le_of_ble_eq_true rfl, Nat.le_of_ble_eq_true rfl⟩) rfl (rest := []) (st1 := [.int u1]) rfl rfl rfl dX2_delay_1 ⟨Nat.le_of_ble_eq_true rfl, Nat.le_of_ble_eq_true rfl⟩ (fun H locs hw => ?_)
  refine lv_if_ne (tgt := 9) hx hb dX2_delay_4 (by decide) (fun c => ?_) (fun c => ?_)
  · have h := qi_f c h
    refine lv_aload_n hx hb dX2_delay_9 rfl (lv_at hl 0 rfl) ?_
    obtain ⟨B3, g4, h⟩ := qb1_s h
    refine d_V (As := []) (v0 := none) (w0 := (A, B3, L, rs)) hG E hw hl (m_X2_keep l hG hM  g4) (qM0 hM) rfl (cwV 0 hts (lw_V q1703 q1705 qs98 q140 q1706) rfl rfl rfl ⟨rfl, kd_X2_keep⟩ ⟨Nat.le_of_ble_eq_true rfl, Nat.le_of_ble_eq_true rfl⟩) rfl (rest := []) (st1 := []) rfl rfl rfl dX2_delay_10 ⟨Nat.le_of_ble_eq_true rfl, Nat.le_of_ble_eq_true rfl⟩ (fun H locs hw => ?_)
    refine lv_aload_n hx hb dX2_delay_13 rfl (lv_at hl 0 rfl) ?_
    refine r_getM (v := .ref (K.2.1 1001)) E hw hM 0 (by decide) q1353 rfl dX2_delay_14 ?_
    refine lv_bipush (v := (16:Int32)) hx hb dX2_delay_17 (by decide) ?_
    refine lv_dup2_11 hx hb dX2_delay_19 rfl rfl ?_
    refine r_iald (j := 16) E hw (qi_1001 hM).at (q_lit (k := 16) (n := 3642) rfl rfl) (q_clamp (k := 16) rfl) dX2_delay_20 ?_
    refine lv_iconst (v := (1:Int32)) hx hb dX2_delay_21 (by decide) ?_
    refine lv_iadd hx hb dX2_delay_22 ?_
    obtain ⟨B5, e6, h⟩ := qlet_s h
    refine r_iastB (j := 16) E hw (qi_1001 hM) (q_lit (k := 16) (n := 3642) rfl rfl) (q_clamp (k := 16) rfl) dX2_delay_23 (fun H locs hw => ?_)
    rw [← e6] at hw
    refine lv_aload_n hx hb dX2_delay_24 rfl (lv_at hl 0 rfl) ?_
    refine r_getM (v := .ref (K.2.1 1001)) E hw hM 0 (by decide) q1353 rfl dX2_delay_25 ?_
    refine lv_bipush (v := (16:Int32)) hx hb dX2_delay_28 (by decide) ?_
    refine r_iald (j := 16) E hw (qi_1001 hM).at (q_lit (k := 16) (n := 3642) rfl rfl) (q_clamp (k := 16) rfl) dX2_delay_30 ?_
    have h := Option.some.inj h
    obtain ⟨h1, h2⟩ := Prod.mk.inj h
    exact d_iret E hr rfl hw h1 (by rw [h2]) dX2_delay_31
  · have h := qi_t c h
    refine lv_iconst (v := (-1:Int32)) hx hb dX2_delay_7 (by decide) ?_
    have h := Option.some.inj h
    obtain ⟨h1, h2⟩ := Prod.mk.inj h
    exact d_iret E hr rfl hw h1 (by rw [h2]) dX2_delay_8

theorem m_X2_delay (l : Launch) {K : QK} {G : State → Prop} (hG : QG G) (hM : QMl K) {A : QA} {rs : QX × QM} {L : QL} {B : QA} {ro : Int32} {Bo : QA} (h : f_X2_delay B = some (ro, Bo)) : MC l K G yX2_delay (ws_ yX2_delay cX2_delay 1 (some .int)) 3 85 0 0 [.ref (K.2.1 1000)] (A, B, L, rs) (QR (some (.int ro)) (A, Bo, L, rs)) := by
  refine MC.of (by decide) (Nat.le_of_ble_eq_true rfl) (lv := [(0, .ref (K.2.1 1000))]) rfl (fun p e s m below meth c ls E hr hl hw => ?_)
  exact w_X2_delay_0 hG hM E hr _  h hw hl

def f_X2_canAppeal (x1 : Int32) (B : QA) : Option (Int32) :=
  qb1 (f_X2_isCase x1 B) fun u1 =>
  if u1 = (0:Int32) then (
  some ((0:Int32))) else (
  qb1 (f_X2_get x1 (4:Int32) B) fun u3 =>
  if u3 = (3:Int32) then (
  qb1 (f_X2_get x1 (6:Int32) B) fun u5 =>
  if u5 = (0:Int32) then (
  some ((1:Int32))) else (
  some ((0:Int32)))) else (
  some ((0:Int32))))
set_option maxHeartbeats 4000000 in
theorem w_X2_canAppeal_0 {p : Program} {l : Launch} {e : Env} {s : State} {m : MethodId} {args : Array Value} {below : List Frame} {meth : Method} {c : Code} {K : QK} {G : State → Prop} {A : QA} {rs : QX × QM} {L : QL} {ro : Int32} (hG : QG G) (hM : QMl K) (E : EV K G p s m args meth c cX2_canAppeal "VaneCourtModel" 2) (hr : meth.sig.returnType = (some .boolean)) : ∀ (x1 : Int32) (B : QA) {H : Heap} {locs : List Loc} {ls : Array Slot}, f_X2_canAppeal x1 B = some ro → WP K (A, B, L, rs) H locs → lv_has ls 2 [(0, .ref (K.2.1 1000)), (1, .int x1)] → W p l e (qrm 3 83 0 0) s m args below meth c H locs 0 0 (MQ below (QE K (QR (some (.int ro)) (A, B, L, rs))) args s 0 0 (qA K)) (F0 m 0 ls []) := by
  have hx := E.1
  have hb := E.2.1
  have hown := E.2.2.1
  have hts := E.2.2.2.2.1
  intro x1 B H locs ls  h hw hl
  rw [f_X2_canAppeal] at h
  refine lv_aload_n hx hb dX2_canAppeal_0 rfl (lv_at hl 0 rfl) ?_
  refine lv_iload_n hx hb dX2_canAppeal_1 rfl (lv_at hl 1 rfl) ?_
  obtain ⟨u1, g2, h⟩ := qb1_s h
  refine d_V (As := [.int x1]) (v0 := some (.int u1)) (w0 := (A, B, L, rs)) hG E hw hl (m_X2_isCase l hG hM  g2) (qM0 hM) rfl (cwV 1 hts (lw_V q1695 q1697 qs96 q140 q1698) rfl rfl rfl ⟨rfl, kd_X2_isCase⟩ ⟨Nat.le_of_ble_eq_true rfl, Nat.le_of_ble_eq_true rfl⟩) rfl (rest := []) (st1 := [.int u1]) rfl rfl rfl dX2_canAppeal_2 ⟨Nat.le_of_ble_eq_true rfl, Nat.le_of_ble_eq_true rfl⟩ (fun H locs hw => ?_)
  refine lv_if_eq (tgt := 32) hx hb dX2_canAppeal_5 (by decide) (fun c => ?_) (fun c => ?_)
  · have h := qi_t c h
    refine lv_iconst (v := (0:Int32)) hx hb dX2_canAppeal_32 (by decide) ?_
    have h := Option.some.inj h
    have h1 := h
    exact d_iret E hr rfl hw h1 rfl dX2_canAppeal_33
  · have h := qi_f c h
    refine lv_aload_n hx hb dX2_canAppeal_8 rfl (lv_at hl 0 rfl) ?_
    refine lv_iload_n hx hb dX2_canAppeal_9 rfl (lv_at hl 1 rfl) ?_
    refine lv_iconst (v := (4:Int32)) hx hb dX2_canAppeal_10 (by decide) ?_
    obtain ⟨u3, g4, h⟩ := qb1_s h
    refine d_V (As := [.int x1, .int (4:Int32)]) (v0 := some (.int u3)) (w0 := (A, B, L, rs)) hG E hw hl (m_X2_get l hG hM  g4) (qM0 hM) rfl (cwV 2 hts (lw_V q1699 q1701 qs97 q140 q1702) rfl rfl rfl ⟨rfl, kd_X2_get⟩ ⟨Nat.le_of_ble_eq_true rfl, Nat.le_of_ble_eq_true rfl⟩) rfl (rest := []) (st1 := [.int u3]) rfl rfl rfl dX2_canAppeal_11 ⟨Nat.le_of_ble_eq_true rfl, Nat.le_of_ble_eq_true rfl⟩ (fun H locs hw => ?_)
    refine lv_iconst (v := (3:Int32)) hx hb dX2_canAppeal_14 (by decide) ?_
    refine lv_icmp_ne (tgt := 32) hx hb dX2_canAppeal_15 (by decide) (fun c => ?_) (fun c => ?_)
    · have h := qi_f c h
      refine lv_iconst (v := (0:Int32)) hx hb dX2_canAppeal_32 (by decide) ?_
      have h := Option.some.inj h
      have h1 := h
      exact d_iret E hr rfl hw h1 rfl dX2_canAppeal_33
    · have h := qi_t c h
      refine lv_aload_n hx hb dX2_canAppeal_18 rfl (lv_at hl 0 rfl) ?_
      refine lv_iload_n hx hb dX2_canAppeal_19 rfl (lv_at hl 1 rfl) ?_
      refine lv_bipush (v := (6:Int32)) hx hb dX2_canAppeal_20 (by decide) ?_
      obtain ⟨u5, g6, h⟩ := qb1_s h
      refine d_V (As := [.int x1, .int (6:Int32)]) (v0 := some (.int u5)) (w0 := (A, B, L, rs)) hG E hw hl (m_X2_get l hG hM  g6) (qM0 hM) rfl (cwV 2 hts (lw_V q1699 q1701 qs97 q140 q1702) rfl rfl rfl ⟨rfl, kd_X2_get⟩ ⟨Nat.le_of_ble_eq_true rfl, Nat.le_of_ble_eq_true rfl⟩) rfl (rest := []) (st1 := [.int u5]) rfl rfl rfl dX2_canAppeal_22 ⟨Nat.le_of_ble_eq_true rfl, Nat.le_of_ble_eq_true rfl⟩ (fun H locs hw => ?_)
      refine lv_if_ne (tgt := 32) hx hb dX2_canAppeal_25 (by decide) (fun c => ?_) (fun c => ?_)
      · have h := qi_f c h
        refine lv_iconst (v := (0:Int32)) hx hb dX2_canAppeal_32 (by decide) ?_
        have h := Option.some.inj h
        have h1 := h
        exact d_iret E hr rfl hw h1 rfl dX2_canAppeal_33
      · have h := qi_t c h
        refine lv_iconst (v := (1:Int32)) hx hb dX2_canAppeal_28 (by decide) ?_
        refine lv_goto (tgt := 33) hx hb dX2_canAppeal_29 (by decide) ?_
        have h := Option.some.inj h
        have h1 := h
        exact d_iret E hr rfl hw h1 rfl dX2_canAppeal_33

theorem m_X2_canAppeal (l : Launch) {K : QK} {G : State → Prop} (hG : QG G) (hM : QMl K) {A : QA} {rs : QX × QM} {L : QL} {x1 : Int32} {B : QA} {ro : Int32} (h : f_X2_canAppeal x1 B = some ro) : MC l K G yX2_canAppeal (ws_ yX2_canAppeal cX2_canAppeal 2 (some .boolean)) 3 83 0 0 [.ref (K.2.1 1000), .int x1] (A, B, L, rs) (QR (some (.int ro)) (A, B, L, rs)) := by
  refine MC.of (by decide) (Nat.le_of_ble_eq_true rfl) (lv := [(0, .ref (K.2.1 1000)), (1, .int x1)]) rfl (fun p e s m below meth c ls E hr hl hw => ?_)
  exact w_X2_canAppeal_0 hG hM E hr _ _  h hw hl

def f_X2_appealNow (x1 : Int32) (B : QA) : Option (QA) :=
  qb1 (f_X2_put x1 (4:Int32) (0:Int32) B) fun B1 =>
  qb1 (f_X2_put x1 (5:Int32) (0:Int32) B1) fun B3 =>
  qb1 (f_X2_put x1 (6:Int32) (1:Int32) B3) fun B5 =>
  some (B5)
set_option maxHeartbeats 4000000 in
theorem w_X2_appealNow_0 {p : Program} {l : Launch} {e : Env} {s : State} {m : MethodId} {args : Array Value} {below : List Frame} {meth : Method} {c : Code} {K : QK} {G : State → Prop} {A : QA} {rs : QX × QM} {L : QL} {Bo : QA} (hG : QG G) (hM : QMl K) (E : EV K G p s m args meth c cX2_appealNow "VaneCourtModel" 2) (hr : meth.sig.returnType = none) : ∀ (x1 : Int32) (B : QA) {H : Heap} {locs : List Loc} {ls : Array Slot}, f_X2_appealNow x1 B = some Bo → WP K (A, B, L, rs) H locs → lv_has ls 2 [(0, .ref (K.2.1 1000)), (1, .int x1)] → W p l e (qrm 2 63 0 0) s m args below meth c H locs 0 0 (MQ below (QE K (QR none (A, Bo, L, rs))) args s 0 0 (qA K)) (F0 m 0 ls []) := by
  have hx := E.1
  have hb := E.2.1
  have hown := E.2.2.1
  have hts := E.2.2.2.2.1
  intro x1 B H locs ls  h hw hl
  rw [f_X2_appealNow] at h
  refine lv_aload_n hx hb dX2_appealNow_0 rfl (lv_at hl 0 rfl) ?_
  refine lv_iload_n hx hb dX2_appealNow_1 rfl (lv_at hl 1 rfl) ?_
  refine lv_iconst (v := (4:Int32)) hx hb dX2_appealNow_2 (by decide) ?_
  refine lv_iconst (v := (0:Int32)) hx hb dX2_appealNow_3 (by decide) ?_
  obtain ⟨B1, g2, h⟩ := qb1_s h
  refine d_V (As := [.int x1, .int (4:Int32), .int (0:Int32)]) (v0 := none) (w0 := (A, B1, L, rs)) hG E hw hl (m_X2_put l hG hM  g2) (qM0 hM) rfl (cwV 3 hts (lw_V q1483 q1485 qs58 q140 q1486) rfl rfl rfl ⟨rfl, kd_X2_put⟩ ⟨Nat.le_of_ble_eq_true rfl, Nat.le_of_ble_eq_true rfl⟩) rfl (rest := []) (st1 := []) rfl rfl rfl dX2_appealNow_4 ⟨Nat.le_of_ble_eq_true rfl, Nat.le_of_ble_eq_true rfl⟩ (fun H locs hw => ?_)
  refine lv_aload_n hx hb dX2_appealNow_7 rfl (lv_at hl 0 rfl) ?_
  refine lv_iload_n hx hb dX2_appealNow_8 rfl (lv_at hl 1 rfl) ?_
  refine lv_iconst (v := (5:Int32)) hx hb dX2_appealNow_9 (by decide) ?_
  refine lv_iconst (v := (0:Int32)) hx hb dX2_appealNow_10 (by decide) ?_
  obtain ⟨B3, g4, h⟩ := qb1_s h
  refine d_V (As := [.int x1, .int (5:Int32), .int (0:Int32)]) (v0 := none) (w0 := (A, B3, L, rs)) hG E hw hl (m_X2_put l hG hM  g4) (qM0 hM) rfl (cwV 3 hts (lw_V q1483 q1485 qs58 q140 q1486) rfl rfl rfl ⟨rfl, kd_X2_put⟩ ⟨Nat.le_of_ble_eq_true rfl, Nat.le_of_ble_eq_true rfl⟩) rfl (rest := []) (st1 := []) rfl rfl rfl dX2_appealNow_11 ⟨Nat.le_of_ble_eq_true rfl, Nat.le_of_ble_eq_true rfl⟩ (fun H locs hw => ?_)
  refine lv_aload_n hx hb dX2_appealNow_14 rfl (lv_at hl 0 rfl) ?_
  refine lv_iload_n hx hb dX2_appealNow_15 rfl (lv_at hl 1 rfl) ?_
  refine lv_bipush (v := (6:Int32)) hx hb dX2_appealNow_16 (by decide) ?_
  refine lv_iconst (v := (1:Int32)) hx hb dX2_appealNow_18 (by decide) ?_
  obtain ⟨B5, g6, h⟩ := qb1_s h
  refine d_V (As := [.int x1, .int (6:Int32), .int (1:Int32)]) (v0 := none) (w0 := (A, B5, L, rs)) hG E hw hl (m_X2_put l hG hM  g6) (qM0 hM) rfl (cwV 3 hts (lw_V q1483 q1485 qs58 q140 q1486) rfl rfl rfl ⟨rfl, kd_X2_put⟩ ⟨Nat.le_of_ble_eq_true rfl, Nat.le_of_ble_eq_true rfl⟩) rfl (rest := []) (st1 := []) rfl rfl rfl dX2_appealNow_19 ⟨Nat.le_of_ble_eq_true rfl, Nat.le_of_ble_eq_true rfl⟩ (fun H locs hw => ?_)
  have h := Option.some.inj h
  have h1 := h
  exact d_ret E hr hw (by rw [h1]) dX2_appealNow_22

theorem m_X2_appealNow (l : Launch) {K : QK} {G : State → Prop} (hG : QG G) (hM : QMl K) {A : QA} {rs : QX × QM} {L : QL} {x1 : Int32} {B : QA} {Bo : QA} (h : f_X2_appealNow x1 B = some Bo) : MC l K G yX2_appealNow (ws_ yX2_appealNow cX2_appealNow 2 none) 2 63 0 0 [.ref (K.2.1 1000), .int x1] (A, B, L, rs) (QR none (A, Bo, L, rs)) := by
  refine MC.of (by decide) (Nat.le_of_ble_eq_true rfl) (lv := [(0, .ref (K.2.1 1000)), (1, .int x1)]) rfl (fun p e s m below meth c ls E hr hl hw => ?_)
  exact w_X2_appealNow_0 hG hM E hr _ _  h hw hl

def f_X2_appeal (x1 : Int32) (B : QA) : Option (Int32 × QA) :=
  qb1 (f_X2_canAppeal x1 B) fun u1 =>
  if u1 = (0:Int32) then (
  some ((0:Int32), B)) else (
  qb1 (f_X2_keep B) fun B3 =>
  qb1 (f_X2_appealNow x1 B3) fun B5 =>
  some ((1:Int32), B5))
set_option maxHeartbeats 4000000 in
theorem w_X2_appeal_0 {p : Program} {l : Launch} {e : Env} {s : State} {m : MethodId} {args : Array Value} {below : List Frame} {meth : Method} {c : Code} {K : QK} {G : State → Prop} {A : QA} {rs : QX × QM} {L : QL} {ro : Int32} {Bo : QA} (hG : QG G) (hM : QMl K) (E : EV K G p s m args meth c cX2_appeal "VaneCourtModel" 2) (hr : meth.sig.returnType = (some .boolean)) : ∀ (x1 : Int32) (B : QA) {H : Heap} {locs : List Loc} {ls : Array Slot}, f_X2_appeal x1 B = some (ro, Bo) → WP K (A, B, L, rs) H locs → lv_has ls 2 [(0, .ref (K.2.1 1000)), (1, .int x1)] → W p l e (qrm 4 104 0 0) s m args below meth c H locs 0 0 (MQ below (QE K (QR (some (.int ro)) (A, Bo, L, rs))) args s 0 0 (qA K)) (F0 m 0 ls []) := by
  have hx := E.1
  have hb := E.2.1
  have hown := E.2.2.1
  have hts := E.2.2.2.2.1
  intro x1 B H locs ls  h hw hl
  rw [f_X2_appeal] at h
  refine lv_aload_n hx hb dX2_appeal_0 rfl (lv_at hl 0 rfl) ?_
  refine lv_iload_n hx hb dX2_appeal_1 rfl (lv_at hl 1 rfl) ?_
  obtain ⟨u1, g2, h⟩ := qb1_s h
  refine d_V (As := [.int x1]) (v0 := some (.int u1)) (w0 := (A, B, L, rs)) hG E hw hl (m_X2_canAppeal l hG hM  g2) (qM0 hM) rfl (cwV 1 hts (lw_V q1723 q1725 qs101 q140 q1726) rfl rfl rfl ⟨rfl, kd_X2_canAppeal⟩ ⟨Nat.le_of_ble_eq_true rfl, Nat.le_of_ble_eq_true rfl⟩) rfl (rest := []) (st1 := [.int u1]) rfl rfl rfl dX2_appeal_2 ⟨Nat.le_of_ble_eq_true rfl, Nat.le_of_ble_eq_true rfl⟩ (fun H locs hw => ?_)
  refine lv_if_ne (tgt := 10) hx hb dX2_appeal_5 (by decide) (fun c => ?_) (fun c => ?_)
  · have h := qi_f c h
    refine lv_aload_n hx hb dX2_appeal_10 rfl (lv_at hl 0 rfl) ?_
    obtain ⟨B3, g4, h⟩ := qb1_s h
    refine d_V (As := []) (v0 := none) (w0 := (A, B3, L, rs)) hG E hw hl (m_X2_keep l hG hM  g4) (qM0 hM) rfl (cwV 0 hts (lw_V q1703 q1705 qs98 q140 q1706) rfl rfl rfl ⟨rfl, kd_X2_keep⟩ ⟨Nat.le_of_ble_eq_true rfl, Nat.le_of_ble_eq_true rfl⟩) rfl (rest := []) (st1 := []) rfl rfl rfl dX2_appeal_11 ⟨Nat.le_of_ble_eq_true rfl, Nat.le_of_ble_eq_true rfl⟩ (fun H locs hw => ?_)
    refine lv_aload_n hx hb dX2_appeal_14 rfl (lv_at hl 0 rfl) ?_
    refine lv_iload_n hx hb dX2_appeal_15 rfl (lv_at hl 1 rfl) ?_
    obtain ⟨B5, g6, h⟩ := qb1_s h
    refine d_V (As := [.int x1]) (v0 := none) (w0 := (A, B5, L, rs)) hG E hw hl (m_X2_appealNow l hG hM  g6) (qM0 hM) rfl (cwV 1 hts (lw_V q1727 q1729 qs102 q140 q1730) rfl rfl rfl ⟨rfl, kd_X2_appealNow⟩ ⟨Nat.le_of_ble_eq_true rfl, Nat.le_of_ble_eq_true rfl⟩) rfl (rest := []) (st1 := []) rfl rfl rfl dX2_appeal_16 ⟨Nat.le_of_ble_eq_true rfl, Nat.le_of_ble_eq_true rfl⟩ (fun H locs hw => ?_)
    refine lv_iconst (v := (1:Int32)) hx hb dX2_appeal_19 (by decide) ?_
    have h := Option.some.inj h
    obtain ⟨h1, h2⟩ := Prod.mk.inj h
    exact d_iret E hr rfl hw h1 (by rw [h2]) dX2_appeal_20
  · have h := qi_t c h
    refine lv_iconst (v := (0:Int32)) hx hb dX2_appeal_8 (by decide) ?_
    have h := Option.some.inj h
    obtain ⟨h1, h2⟩ := Prod.mk.inj h
    exact d_iret E hr rfl hw h1 (by rw [h2]) dX2_appeal_9

theorem m_X2_appeal (l : Launch) {K : QK} {G : State → Prop} (hG : QG G) (hM : QMl K) {A : QA} {rs : QX × QM} {L : QL} {x1 : Int32} {B : QA} {ro : Int32} {Bo : QA} (h : f_X2_appeal x1 B = some (ro, Bo)) : MC l K G yX2_appeal (ws_ yX2_appeal cX2_appeal 2 (some .boolean)) 4 104 0 0 [.ref (K.2.1 1000), .int x1] (A, B, L, rs) (QR (some (.int ro)) (A, Bo, L, rs)) := by
  refine MC.of (by decide) (Nat.le_of_ble_eq_true rfl) (lv := [(0, .ref (K.2.1 1000)), (1, .int x1)]) rfl (fun p e s m below meth c ls E hr hl hw => ?_)
  exact w_X2_appeal_0 hG hM E hr _ _  h hw hl

def f_X2_gust_43 (x1 : Int32) (x2 : Int32) (B : QA) : Option (Int32 × QA) :=
  qb1 (f_X2_keep B) fun B5 =>
  qlet (qu B5 1001 8 x1) fun B7 =>
  qlet (qu B7 1001 9 x2) fun B9 =>
  some ((1:Int32), B9)
set_option maxHeartbeats 4000000 in
theorem w_X2_gust_43 {p : Program} {l : Launch} {e : Env} {s : State} {m : MethodId} {args : Array Value} {below : List Frame} {meth : Method} {c : Code} {K : QK} {G : State → Prop} {A : QA} {rs : QX × QM} {L : QL} {ro : Int32} {Bo : QA} (hG : QG G) (hM : QMl K) (E : EV K G p s m args meth c cX2_gust "VaneCourtModel" 3) (hr : meth.sig.returnType = (some .boolean)) : ∀ (x1 : Int32) (x2 : Int32) (B : QA) {H : Heap} {locs : List Loc} {ls : Array Slot}, f_X2_gust_43 x1 x2 B = some (ro, Bo) → WP K (A, B, L, rs) H locs → lv_has ls 3 [(0, .ref (K.2.1 1000)), (1, .int x1), (2, .int x2)] → W p l e (qrm 3 85 0 0) s m args below meth c H locs 0 0 (MQ below (QE K (QR (some (.int ro)) (A, Bo, L, rs))) args s 0 0 (qA K)) (F0 m 43 ls []) := by
  have hx := E.1
  have hb := E.2.1
  have hown := E.2.2.1
  have hts := E.2.2.2.2.1
  intro x1 x2 B H locs ls  h hw hl
  rw [f_X2_gust_43] at h
  refine lv_aload_n hx hb dX2_gust_43 rfl (lv_at hl 0 rfl) ?_
  obtain ⟨B5, g6, h⟩ := qb1_s h
  refine d_V (As := []) (v0 := none) (w0 := (A, B5, L, rs)) hG E hw hl (m_X2_keep l hG hM  g6) (qM0 hM) rfl (cwV 0 hts (lw_V q1703 q1705 qs98 q140 q1706) rfl rfl rfl ⟨rfl, kd_X2_keep⟩ ⟨Nat.le_of_ble_eq_true rfl, Nat.le_of_ble_eq_true rfl⟩) rfl (rest := []) (st1 := []) rfl rfl rfl dX2_gust_44 ⟨Nat.le_of_ble_eq_true rfl, Nat.le_of_ble_eq_true rfl⟩ (fun H locs hw => ?_)
  refine lv_aload_n hx hb dX2_gust_47 rfl (lv_at hl 0 rfl) ?_
  refine r_getM (v := .ref (K.2.1 1001)) E hw hM 0 (by decide) q1353 rfl dX2_gust_48 ?_
  refine lv_bipush (v := (8:Int32)) hx hb dX2_gust_51 (by decide) ?_
  refine lv_iload_n hx hb dX2_gust_53 rfl (lv_at hl 1 rfl) ?_
  obtain ⟨B7, e8, h⟩ := qlet_s h
  refine r_iastB (j := 8) E hw (qi_1001 hM) (q_lit (k := 8) (n := 3642) rfl rfl) (q_clamp (k := 8) rfl) dX2_gust_54 (fun H locs hw => ?_)
  rw [← e8] at hw
  refine lv_aload_n hx hb dX2_gust_55 rfl (lv_at hl 0 rfl) ?_
  refine r_getM (v := .ref (K.2.1 1001)) E hw hM 0 (by decide) q1353 rfl dX2_gust_56 ?_
  refine lv_bipush (v := (9:Int32)) hx hb dX2_gust_59 (by decide) ?_
  refine lv_iload_n hx hb dX2_gust_61 rfl (lv_at hl 2 rfl) ?_
  obtain ⟨B9, e10, h⟩ := qlet_s h
  refine r_iastB (j := 9) E hw (qi_1001 hM) (q_lit (k := 9) (n := 3642) rfl rfl) (q_clamp (k := 9) rfl) dX2_gust_62 (fun H locs hw => ?_)
  rw [← e10] at hw
  refine lv_iconst (v := (1:Int32)) hx hb dX2_gust_63 (by decide) ?_
  have h := Option.some.inj h
  obtain ⟨h1, h2⟩ := Prod.mk.inj h
  exact d_iret E hr rfl hw h1 (by rw [h2]) dX2_gust_64

def f_X2_gust (x1 : Int32) (x2 : Int32) (B : QA) : Option (Int32 × QA) :=
  qb1 (f_X2_isIn x1 (0:Int32) (3:Int32)) fun u1 =>
  if u1 = (0:Int32) then (
  some ((0:Int32), B)) else (
  qb1 (f_X2_isIn x2 (0:Int32) (9:Int32)) fun u3 =>
  if u3 = (0:Int32) then (
  some ((0:Int32), B)) else (
  if (B 1001 8) = x1 then (
  if (B 1001 9) = x2 then (
  some ((0:Int32), B)) else (
  f_X2_gust_43 x1 x2 B)) else (
  f_X2_gust_43 x1 x2 B)))
set_option maxHeartbeats 4000000 in
theorem w_X2_gust_0 {p : Program} {l : Launch} {e : Env} {s : State} {m : MethodId} {args : Array Value} {below : List Frame} {meth : Method} {c : Code} {K : QK} {G : State → Prop} {A : QA} {rs : QX × QM} {L : QL} {ro : Int32} {Bo : QA} (hG : QG G) (hM : QMl K) (E : EV K G p s m args meth c cX2_gust "VaneCourtModel" 3) (hr : meth.sig.returnType = (some .boolean)) : ∀ (x1 : Int32) (x2 : Int32) (B : QA) {H : Heap} {locs : List Loc} {ls : Array Slot}, f_X2_gust x1 x2 B = some (ro, Bo) → WP K (A, B, L, rs) H locs → lv_has ls 3 [(0, .ref (K.2.1 1000)), (1, .int x1), (2, .int x2)] → W p l e (qrm 3 85 0 0) s m args below meth c H locs 0 0 (MQ below (QE K (QR (some (.int ro)) (A, Bo, L, rs))) args s 0 0 (qA K)) (F0 m 0 ls []) := by
  have hx := E.1
  have hb := E.2.1
  have hown := E.2.2.1
  have hts := E.2.2.2.2.1
  intro x1 x2 B H locs ls  h hw hl
  rw [f_X2_gust] at h
  refine lv_iload_n hx hb dX2_gust_0 rfl (lv_at hl 1 rfl) ?_
  refine lv_iconst (v := (0:Int32)) hx hb dX2_gust_1 (by decide) ?_
  refine lv_iconst (v := (3:Int32)) hx hb dX2_gust_2 (by decide) ?_
  obtain ⟨u1, g2, h⟩ := qb1_s h
  refine d_S (As := [.int x1, .int (0:Int32), .int (3:Int32)]) (v0 := some (.int u1)) (w0 := (A, B, L, rs)) hG E hw hl (m_X2_isIn l hG hM  g2) (va_cwS 3 hts (lw_S q1480 q1481 q140 q1482) rfl rfl rfl kd_X2_isIn ⟨Nat.le_of_ble_eq_true rfl, Nat.le_of_ble_eq_true rfl⟩) rfl (rest := []) (st1 := [.int u1]) rfl rfl rfl dX2_gust_3 ⟨Nat.le_of_ble_eq_true rfl, Nat.le_of_ble_eq_true rfl⟩ (fun H locs hw => ?_)
  refine lv_if_eq (tgt := 41) hx hb dX2_gust_6 (by decide) (fun c => ?_) (fun c => ?_)
  · have h := qi_t c h
    refine lv_iconst (v := (0:Int32)) hx hb dX2_gust_41 (by decide) ?_
    have h := Option.some.inj h
    obtain ⟨h1, h2⟩ := Prod.mk.inj h
    exact d_iret E hr rfl hw h1 (by rw [h2]) dX2_gust_42
  · have h := qi_f c h
    refine lv_iload_n hx hb dX2_gust_9 rfl (lv_at hl 2 rfl) ?_
    refine lv_iconst (v := (0:Int32)) hx hb dX2_gust_10 (by decide) ?_
    refine lv_bipush (v := (9:Int32)) hx hb dX2_gust_11 (by decide) ?_
    obtain ⟨u3, g4, h⟩ := qb1_s h
    refine d_S (As := [.int x2, .int (0:Int32), .int (9:Int32)]) (v0 := some (.int u3)) (w0 := (A, B, L, rs)) hG E hw hl (m_X2_isIn l hG hM  g4) (va_cwS 3 hts (lw_S q1480 q1481 q140 q1482) rfl rfl rfl kd_X2_isIn ⟨Nat.le_of_ble_eq_true rfl, Nat.le_of_ble_eq_true rfl⟩) rfl (rest := []) (st1 := [.int u3]) rfl rfl rfl dX2_gust_13 ⟨Nat.le_of_ble_eq_true rfl, Nat.le_of_ble_eq_true rfl⟩ (fun H locs hw => ?_)
    refine lv_if_eq (tgt := 41) hx hb dX2_gust_16 (by decide) (fun c => ?_) (fun c => ?_)
    · have h := qi_t c h
      refine lv_iconst (v := (0:Int32)) hx hb dX2_gust_41 (by decide) ?_
      have h := Option.some.inj h
      obtain ⟨h1, h2⟩ := Prod.mk.inj h
      exact d_iret E hr rfl hw h1 (by rw [h2]) dX2_gust_42
    · have h := qi_f c h
      refine lv_aload_n hx hb dX2_gust_19 rfl (lv_at hl 0 rfl) ?_
      refine r_getM (v := .ref (K.2.1 1001)) E hw hM 0 (by decide) q1353 rfl dX2_gust_20 ?_
      refine lv_bipush (v := (8:Int32)) hx hb dX2_gust_23 (by decide) ?_
      refine r_iald (j := 8) E hw (qi_1001 hM).at (q_lit (k := 8) (n := 3642) rfl rfl) (q_clamp (k := 8) rfl) dX2_gust_25 ?_
      refine lv_iload_n hx hb dX2_gust_26 rfl (lv_at hl 1 rfl) ?_
      refine lv_icmp_ne (tgt := 43) hx hb dX2_gust_27 (by decide) (fun c => ?_) (fun c => ?_)
      · have h := qi_f c h
        exact w_X2_gust_43 hG hM E hr  _ _ _   h hw (lv_sub hl [0, 1, 2] rfl)
      · have h := qi_t c h
        refine lv_aload_n hx hb dX2_gust_30 rfl (lv_at hl 0 rfl) ?_
        refine r_getM (v := .ref (K.2.1 1001)) E hw hM 0 (by decide) q1353 rfl dX2_gust_31 ?_
        refine lv_bipush (v := (9:Int32)) hx hb dX2_gust_34 (by decide) ?_
        refine r_iald (j := 9) E hw (qi_1001 hM).at (q_lit (k := 9) (n := 3642) rfl rfl) (q_clamp (k := 9) rfl) dX2_gust_36 ?_
        refine lv_iload_n hx hb dX2_gust_37 rfl (lv_at hl 2 rfl) ?_
        refine lv_icmp_ne (tgt := 43) hx hb dX2_gust_38 (by decide) (fun c => ?_) (fun c => ?_)
        · have h := qi_f c h
          exact w_X2_gust_43 hG hM E hr  _ _ _   h hw (lv_sub hl [0, 1, 2] rfl)
        · have h := qi_t c h
          refine lv_iconst (v := (0:Int32)) hx hb dX2_gust_41 (by decide) ?_
          have h := Option.some.inj h
          obtain ⟨h1, h2⟩ := Prod.mk.inj h
          exact d_iret E hr rfl hw h1 (by rw [h2]) dX2_gust_42

theorem m_X2_gust (l : Launch) {K : QK} {G : State → Prop} (hG : QG G) (hM : QMl K) {A : QA} {rs : QX × QM} {L : QL} {x1 : Int32} {x2 : Int32} {B : QA} {ro : Int32} {Bo : QA} (h : f_X2_gust x1 x2 B = some (ro, Bo)) : MC l K G yX2_gust (ws_ yX2_gust cX2_gust 3 (some .boolean)) 3 85 0 0 [.ref (K.2.1 1000), .int x1, .int x2] (A, B, L, rs) (QR (some (.int ro)) (A, Bo, L, rs)) := by
  refine MC.of (by decide) (Nat.le_of_ble_eq_true rfl) (lv := [(0, .ref (K.2.1 1000)), (1, .int x1), (2, .int x2)]) rfl (fun p e s m below meth c ls E hr hl hw => ?_)
  exact w_X2_gust_0 hG hM E hr _ _ _  h hw hl

def f_X2_leave (x1 : Int32) (x2 : Int32) (B : QA) : Option (QA) :=
  qb1 (f_X2_put (B 1001 13) (4:Int32) x1 B) fun B1 =>
  qb1 (f_X2_put (B1 1001 13) (5:Int32) x2 B1) fun B3 =>
  qlet (qu B3 1001 13 (-1:Int32)) fun B5 =>
  qlet (qu B5 1001 14 (0:Int32)) fun B7 =>
  qlet (qu B7 1001 15 (0:Int32)) fun B9 =>
  qlet (qu B9 1001 16 (0:Int32)) fun B11 =>
  some (B11)
set_option maxHeartbeats 4000000 in
theorem w_X2_leave_0 {p : Program} {l : Launch} {e : Env} {s : State} {m : MethodId} {args : Array Value} {below : List Frame} {meth : Method} {c : Code} {K : QK} {G : State → Prop} {A : QA} {rs : QX × QM} {L : QL} {Bo : QA} (hG : QG G) (hM : QMl K) (E : EV K G p s m args meth c cX2_leave "VaneCourtModel" 3) (hr : meth.sig.returnType = none) : ∀ (x1 : Int32) (x2 : Int32) (B : QA) {H : Heap} {locs : List Loc} {ls : Array Slot}, f_X2_leave x1 x2 B = some Bo → WP K (A, B, L, rs) H locs → lv_has ls 3 [(0, .ref (K.2.1 1000)), (1, .int x1), (2, .int x2)] → W p l e (qrm 2 63 0 0) s m args below meth c H locs 0 0 (MQ below (QE K (QR none (A, Bo, L, rs))) args s 0 0 (qA K)) (F0 m 0 ls []) := by
  have hx := E.1
  have hb := E.2.1
  have hown := E.2.2.1
  have hts := E.2.2.2.2.1
  intro x1 x2 B H locs ls  h hw hl
  rw [f_X2_leave] at h
  refine lv_aload_n hx hb dX2_leave_0 rfl (lv_at hl 0 rfl) ?_
  refine lv_aload_n hx hb dX2_leave_1 rfl (lv_at hl 0 rfl) ?_
  refine r_getM (v := .ref (K.2.1 1001)) E hw hM 0 (by decide) q1353 rfl dX2_leave_2 ?_
  refine lv_bipush (v := (13:Int32)) hx hb dX2_leave_5 (by decide) ?_
  refine r_iald (j := 13) E hw (qi_1001 hM).at (q_lit (k := 13) (n := 3642) rfl rfl) (q_clamp (k := 13) rfl) dX2_leave_7 ?_
  refine lv_iconst (v := (4:Int32)) hx hb dX2_leave_8 (by decide) ?_
  refine lv_iload_n hx hb dX2_leave_9 rfl (lv_at hl 1 rfl) ?_
  obtain ⟨B1, g2, h⟩ := qb1_s h
  refine d_V (As := [.int (B 1001 13), .int (4:Int32), .int x1]) (v0 := none) (w0 := (A, B1, L, rs)) hG E hw hl (m_X2_put l hG hM  g2) (qM0 hM) rfl (cwV 3 hts (lw_V q1483 q1485 qs58 q140 q1486) rfl rfl rfl ⟨rfl, kd_X2_put⟩ ⟨Nat.le_of_ble_eq_true rfl, Nat.le_of_ble_eq_true rfl⟩) rfl (rest := []) (st1 := []) rfl rfl rfl dX2_leave_10 ⟨Nat.le_of_ble_eq_true rfl, Nat.le_of_ble_eq_true rfl⟩ (fun H locs hw => ?_)
  refine lv_aload_n hx hb dX2_leave_13 rfl (lv_at hl 0 rfl) ?_
  refine lv_aload_n hx hb dX2_leave_14 rfl (lv_at hl 0 rfl) ?_
  refine r_getM (v := .ref (K.2.1 1001)) E hw hM 0 (by decide) q1353 rfl dX2_leave_15 ?_
  refine lv_bipush (v := (13:Int32)) hx hb dX2_leave_18 (by decide) ?_
  refine r_iald (j := 13) E hw (qi_1001 hM).at (q_lit (k := 13) (n := 3642) rfl rfl) (q_clamp (k := 13) rfl) dX2_leave_20 ?_
  refine lv_iconst (v := (5:Int32)) hx hb dX2_leave_21 (by decide) ?_
  refine lv_iload_n hx hb dX2_leave_22 rfl (lv_at hl 2 rfl) ?_
  obtain ⟨B3, g4, h⟩ := qb1_s h
  refine d_V (As := [.int (B1 1001 13), .int (5:Int32), .int x2]) (v0 := none) (w0 := (A, B3, L, rs)) hG E hw hl (m_X2_put l hG hM  g4) (qM0 hM) rfl (cwV 3 hts (lw_V q1483 q1485 qs58 q140 q1486) rfl rfl rfl ⟨rfl, kd_X2_put⟩ ⟨Nat.le_of_ble_eq_true rfl, Nat.le_of_ble_eq_true rfl⟩) rfl (rest := []) (st1 := []) rfl rfl rfl dX2_leave_23 ⟨Nat.le_of_ble_eq_true rfl, Nat.le_of_ble_eq_true rfl⟩ (fun H locs hw => ?_)
  refine lv_aload_n hx hb dX2_leave_26 rfl (lv_at hl 0 rfl) ?_
  refine r_getM (v := .ref (K.2.1 1001)) E hw hM 0 (by decide) q1353 rfl dX2_leave_27 ?_
  refine lv_bipush (v := (13:Int32)) hx hb dX2_leave_30 (by decide) ?_
  refine lv_iconst (v := (-1:Int32)) hx hb dX2_leave_32 (by decide) ?_
  obtain ⟨B5, e6, h⟩ := qlet_s h
  refine r_iastB (j := 13) E hw (qi_1001 hM) (q_lit (k := 13) (n := 3642) rfl rfl) (q_clamp (k := 13) rfl) dX2_leave_33 (fun H locs hw => ?_)
  rw [← e6] at hw
  refine lv_aload_n hx hb dX2_leave_34 rfl (lv_at hl 0 rfl) ?_
  refine r_getM (v := .ref (K.2.1 1001)) E hw hM 0 (by decide) q1353 rfl dX2_leave_35 ?_
  refine lv_bipush (v := (14:Int32)) hx hb dX2_leave_38 (by decide) ?_
  refine lv_iconst (v := (0:Int32)) hx hb dX2_leave_40 (by decide) ?_
  obtain ⟨B7, e8, h⟩ := qlet_s h
  refine r_iastB (j := 14) E hw (qi_1001 hM) (q_lit (k := 14) (n := 3642) rfl rfl) (q_clamp (k := 14) rfl) dX2_leave_41 (fun H locs hw => ?_)
  rw [← e8] at hw
  refine lv_aload_n hx hb dX2_leave_42 rfl (lv_at hl 0 rfl) ?_
  refine r_getM (v := .ref (K.2.1 1001)) E hw hM 0 (by decide) q1353 rfl dX2_leave_43 ?_
  refine lv_bipush (v := (15:Int32)) hx hb dX2_leave_46 (by decide) ?_
  refine lv_iconst (v := (0:Int32)) hx hb dX2_leave_48 (by decide) ?_
  obtain ⟨B9, e10, h⟩ := qlet_s h
  refine r_iastB (j := 15) E hw (qi_1001 hM) (q_lit (k := 15) (n := 3642) rfl rfl) (q_clamp (k := 15) rfl) dX2_leave_49 (fun H locs hw => ?_)
  rw [← e10] at hw
  refine lv_aload_n hx hb dX2_leave_50 rfl (lv_at hl 0 rfl) ?_
  refine r_getM (v := .ref (K.2.1 1001)) E hw hM 0 (by decide) q1353 rfl dX2_leave_51 ?_
  refine lv_bipush (v := (16:Int32)) hx hb dX2_leave_54 (by decide) ?_
  refine lv_iconst (v := (0:Int32)) hx hb dX2_leave_56 (by decide) ?_
  obtain ⟨B11, e12, h⟩ := qlet_s h
  refine r_iastB (j := 16) E hw (qi_1001 hM) (q_lit (k := 16) (n := 3642) rfl rfl) (q_clamp (k := 16) rfl) dX2_leave_57 (fun H locs hw => ?_)
  rw [← e12] at hw
  have h := Option.some.inj h
  have h1 := h
  exact d_ret E hr hw (by rw [h1]) dX2_leave_58

theorem m_X2_leave (l : Launch) {K : QK} {G : State → Prop} (hG : QG G) (hM : QMl K) {A : QA} {rs : QX × QM} {L : QL} {x1 : Int32} {x2 : Int32} {B : QA} {Bo : QA} (h : f_X2_leave x1 x2 B = some Bo) : MC l K G yX2_leave (ws_ yX2_leave cX2_leave 3 none) 2 63 0 0 [.ref (K.2.1 1000), .int x1, .int x2] (A, B, L, rs) (QR none (A, Bo, L, rs)) := by
  refine MC.of (by decide) (Nat.le_of_ble_eq_true rfl) (lv := [(0, .ref (K.2.1 1000)), (1, .int x1), (2, .int x2)]) rfl (fun p e s m below meth c ls E hr hl hw => ?_)
  exact w_X2_leave_0 hG hM E hr _ _ _  h hw hl

def f_X2_withdraw (B : QA) : Option (Int32 × QA) :=
  if (B 1001 13) = (-1:Int32) then (
  some ((-1:Int32), B)) else (
  qb1 (f_X2_keep B) fun B1 =>
  qlet (B1 1001 13) fun x1_3 =>
  qb1 (f_X2_leave (0:Int32) (0:Int32) B1) fun B5 =>
  some (x1_3, B5))
set_option maxHeartbeats 4000000 in
theorem w_X2_withdraw_0 {p : Program} {l : Launch} {e : Env} {s : State} {m : MethodId} {args : Array Value} {below : List Frame} {meth : Method} {c : Code} {K : QK} {G : State → Prop} {A : QA} {rs : QX × QM} {L : QL} {ro : Int32} {Bo : QA} (hG : QG G) (hM : QMl K) (E : EV K G p s m args meth c cX2_withdraw "VaneCourtModel" 2) (hr : meth.sig.returnType = (some .int)) : ∀ (B : QA) {H : Heap} {locs : List Loc} {ls : Array Slot}, f_X2_withdraw B = some (ro, Bo) → WP K (A, B, L, rs) H locs → lv_has ls 2 [(0, .ref (K.2.1 1000))] → W p l e (qrm 3 85 0 0) s m args below meth c H locs 0 0 (MQ below (QE K (QR (some (.int ro)) (A, Bo, L, rs))) args s 0 0 (qA K)) (F0 m 0 ls []) := by
  have hx := E.1
  have hb := E.2.1
  have hown := E.2.2.1
  have hts := E.2.2.2.2.1
  intro B H locs ls  h hw hl
  rw [f_X2_withdraw] at h
  refine lv_aload_n hx hb dX2_withdraw_0 rfl (lv_at hl 0 rfl) ?_
  refine r_getM (v := .ref (K.2.1 1001)) E hw hM 0 (by decide) q1353 rfl dX2_withdraw_1 ?_
  refine lv_bipush (v := (13:Int32)) hx hb dX2_withdraw_4 (by decide) ?_
  refine r_iald (j := 13) E hw (qi_1001 hM).at (q_lit (k := 13) (n := 3642) rfl rfl) (q_clamp (k := 13) rfl) dX2_withdraw_6 ?_
  refine lv_iconst (v := (-1:Int32)) hx hb dX2_withdraw_7 (by decide) ?_
  refine lv_icmp_ne (tgt := 13) hx hb dX2_withdraw_8 (by decide) (fun c => ?_) (fun c => ?_)
  · have h := qi_f c h
    refine lv_aload_n hx hb dX2_withdraw_13 rfl (lv_at hl 0 rfl) ?_
    obtain ⟨B1, g2, h⟩ := qb1_s h
    refine d_V (As := []) (v0 := none) (w0 := (A, B1, L, rs)) hG E hw hl (m_X2_keep l hG hM  g2) (qM0 hM) rfl (cwV 0 hts (lw_V q1703 q1705 qs98 q140 q1706) rfl rfl rfl ⟨rfl, kd_X2_keep⟩ ⟨Nat.le_of_ble_eq_true rfl, Nat.le_of_ble_eq_true rfl⟩) rfl (rest := []) (st1 := []) rfl rfl rfl dX2_withdraw_14 ⟨Nat.le_of_ble_eq_true rfl, Nat.le_of_ble_eq_true rfl⟩ (fun H locs hw => ?_)
    refine lv_aload_n hx hb dX2_withdraw_17 rfl (lv_at hl 0 rfl) ?_
    refine r_getM (v := .ref (K.2.1 1001)) E hw hM 0 (by decide) q1353 rfl dX2_withdraw_18 ?_
    refine lv_bipush (v := (13:Int32)) hx hb dX2_withdraw_21 (by decide) ?_
    refine r_iald (j := 13) E hw (qi_1001 hM).at (q_lit (k := 13) (n := 3642) rfl rfl) (q_clamp (k := 13) rfl) dX2_withdraw_23 ?_
    obtain ⟨x1_3, e4, h⟩ := qlet_s h
    refine r_nm e4 ?_
    refine lv_istore_n (lv' := [(1, .int x1_3), (0, .ref (K.2.1 1000))]) hx hb dX2_withdraw_24 rfl hl (by decide) rfl (fun ls hl => ?_)
    refine lv_aload_n hx hb dX2_withdraw_25 rfl (lv_at hl 1 rfl) ?_
    refine lv_iconst (v := (0:Int32)) hx hb dX2_withdraw_26 (by decide) ?_
    refine lv_iconst (v := (0:Int32)) hx hb dX2_withdraw_27 (by decide) ?_
    obtain ⟨B5, g6, h⟩ := qb1_s h
    refine d_V (As := [.int (0:Int32), .int (0:Int32)]) (v0 := none) (w0 := (A, B5, L, rs)) hG E hw hl (m_X2_leave l hG hM  g6) (qM0 hM) rfl (cwV 2 hts (lw_V q1739 q1741 qs103 q140 q1742) rfl rfl rfl ⟨rfl, kd_X2_leave⟩ ⟨Nat.le_of_ble_eq_true rfl, Nat.le_of_ble_eq_true rfl⟩) rfl (rest := []) (st1 := []) rfl rfl rfl dX2_withdraw_28 ⟨Nat.le_of_ble_eq_true rfl, Nat.le_of_ble_eq_true rfl⟩ (fun H locs hw => ?_)
    refine lv_iload_n hx hb dX2_withdraw_31 rfl (lv_at hl 0 rfl) ?_
    have h := Option.some.inj h
    obtain ⟨h1, h2⟩ := Prod.mk.inj h
    exact d_iret E hr rfl hw h1 (by rw [h2]) dX2_withdraw_32
  · have h := qi_t c h
    refine lv_iconst (v := (-1:Int32)) hx hb dX2_withdraw_11 (by decide) ?_
    have h := Option.some.inj h
    obtain ⟨h1, h2⟩ := Prod.mk.inj h
    exact d_iret E hr rfl hw h1 (by rw [h2]) dX2_withdraw_12

theorem m_X2_withdraw (l : Launch) {K : QK} {G : State → Prop} (hG : QG G) (hM : QMl K) {A : QA} {rs : QX × QM} {L : QL} {B : QA} {ro : Int32} {Bo : QA} (h : f_X2_withdraw B = some (ro, Bo)) : MC l K G yX2_withdraw (ws_ yX2_withdraw cX2_withdraw 2 (some .int)) 3 85 0 0 [.ref (K.2.1 1000)] (A, B, L, rs) (QR (some (.int ro)) (A, Bo, L, rs)) := by
  refine MC.of (by decide) (Nat.le_of_ble_eq_true rfl) (lv := [(0, .ref (K.2.1 1000))]) rfl (fun p e s m below meth c ls E hr hl hw => ?_)
  exact w_X2_withdraw_0 hG hM E hr _  h hw hl
