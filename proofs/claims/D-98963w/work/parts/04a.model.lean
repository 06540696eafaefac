/-! written by dc.py: X2_copy X2_isIn X2_put X2_newCase X2_four X2_feed X2_end X2_byteAt X2_isFigure X2_isLetterByte X2_isSign X2_nextToken X2_w2 X2_w3 X2_w4 X2_w5 X2_isWord X2_isLong X2_isSentence X2_w6 X2_isWithdraw X2_sortOf X2_has X2_figure X2_openNow X2_isAskHere X2_rank X2_isCompared X2_compareOf X2_betweenOf X2_emit X2_settle X2_nextOfMost X2_shut X2_behindOne -/
set_option maxRecDepth 100000
theorem kd_X2_betweenOf : yX2_betweenOf.cls ≠ "java/lang/invoke/MethodHandle" ∧ yX2_betweenOf.cls ≠ "java/lang/invoke/VarHandle" ∧ (parseMethodDescriptor yX2_betweenOf.desc).map (fun d => d.parameters.length) = some 0 := by decide +kernel
theorem kd_X2_byteAt : yX2_byteAt.cls ≠ "java/lang/invoke/MethodHandle" ∧ yX2_byteAt.cls ≠ "java/lang/invoke/VarHandle" ∧ (parseMethodDescriptor yX2_byteAt.desc).map (fun d => d.parameters.length) = some 1 := by decide +kernel
theorem kd_X2_compareOf : yX2_compareOf.cls ≠ "java/lang/invoke/MethodHandle" ∧ yX2_compareOf.cls ≠ "java/lang/invoke/VarHandle" ∧ (parseMethodDescriptor yX2_compareOf.desc).map (fun d => d.parameters.length) = some 0 := by decide +kernel
theorem kd_X2_emit : yX2_emit.cls ≠ "java/lang/invoke/MethodHandle" ∧ yX2_emit.cls ≠ "java/lang/invoke/VarHandle" ∧ (parseMethodDescriptor yX2_emit.desc).map (fun d => d.parameters.length) = some 2 := by decide +kernel
theorem kd_X2_four : yX2_four.cls ≠ "java/lang/invoke/MethodHandle" ∧ yX2_four.cls ≠ "java/lang/invoke/VarHandle" ∧ (parseMethodDescriptor yX2_four.desc).map (fun d => d.parameters.length) = some 1 := by decide +kernel
theorem kd_X2_isAskHere : yX2_isAskHere.cls ≠ "java/lang/invoke/MethodHandle" ∧ yX2_isAskHere.cls ≠ "java/lang/invoke/VarHandle" ∧ (parseMethodDescriptor yX2_isAskHere.desc).map (fun d => d.parameters.length) = some 0 := by decide +kernel
theorem kd_X2_isCompared : yX2_isCompared.cls ≠ "java/lang/invoke/MethodHandle" ∧ yX2_isCompared.cls ≠ "java/lang/invoke/VarHandle" ∧ (parseMethodDescriptor yX2_isCompared.desc).map (fun d => d.parameters.length) = some 0 := by decide +kernel
theorem kd_X2_isFigure : yX2_isFigure.cls ≠ "java/lang/invoke/MethodHandle" ∧ yX2_isFigure.cls ≠ "java/lang/invoke/VarHandle" ∧ (parseMethodDescriptor yX2_isFigure.desc).map (fun d => d.parameters.length) = some 1 := by decide +kernel
theorem kd_X2_isIn : yX2_isIn.cls ≠ "java/lang/invoke/MethodHandle" ∧ yX2_isIn.cls ≠ "java/lang/invoke/VarHandle" ∧ (parseMethodDescriptor yX2_isIn.desc).map (fun d => d.parameters.length) = some 3 := by decide +kernel
theorem kd_X2_isLetterByte : yX2_isLetterByte.cls ≠ "java/lang/invoke/MethodHandle" ∧ yX2_isLetterByte.cls ≠ "java/lang/invoke/VarHandle" ∧ (parseMethodDescriptor yX2_isLetterByte.desc).map (fun d => d.parameters.length) = some 1 := by decide +kernel
theorem kd_X2_isLong : yX2_isLong.cls ≠ "java/lang/invoke/MethodHandle" ∧ yX2_isLong.cls ≠ "java/lang/invoke/VarHandle" ∧ (parseMethodDescriptor yX2_isLong.desc).map (fun d => d.parameters.length) = some 3 := by decide +kernel
theorem kd_X2_isSentence : yX2_isSentence.cls ≠ "java/lang/invoke/MethodHandle" ∧ yX2_isSentence.cls ≠ "java/lang/invoke/VarHandle" ∧ (parseMethodDescriptor yX2_isSentence.desc).map (fun d => d.parameters.length) = some 0 := by decide +kernel
theorem kd_X2_isSign : yX2_isSign.cls ≠ "java/lang/invoke/MethodHandle" ∧ yX2_isSign.cls ≠ "java/lang/invoke/VarHandle" ∧ (parseMethodDescriptor yX2_isSign.desc).map (fun d => d.parameters.length) = some 1 := by decide +kernel
theorem kd_X2_isWithdraw : yX2_isWithdraw.cls ≠ "java/lang/invoke/MethodHandle" ∧ yX2_isWithdraw.cls ≠ "java/lang/invoke/VarHandle" ∧ (parseMethodDescriptor yX2_isWithdraw.desc).map (fun d => d.parameters.length) = some 0 := by decide +kernel
theorem kd_X2_isWord : yX2_isWord.cls ≠ "java/lang/invoke/MethodHandle" ∧ yX2_isWord.cls ≠ "java/lang/invoke/VarHandle" ∧ (parseMethodDescriptor yX2_isWord.desc).map (fun d => d.parameters.length) = some 1 := by decide +kernel
theorem kd_X2_nextOfMost : yX2_nextOfMost.cls ≠ "java/lang/invoke/MethodHandle" ∧ yX2_nextOfMost.cls ≠ "java/lang/invoke/VarHandle" ∧ (parseMethodDescriptor yX2_nextOfMost.desc).map (fun d => d.parameters.length) = some 0 := by decide +kernel
theorem kd_X2_nextToken : yX2_nextToken.cls ≠ "java/lang/invoke/MethodHandle" ∧ yX2_nextToken.cls ≠ "java/lang/invoke/VarHandle" ∧ (parseMethodDescriptor yX2_nextToken.desc).map (fun d => d.parameters.length) = some 0 := by decide +kernel
theorem kd_X2_openNow : yX2_openNow.cls ≠ "java/lang/invoke/MethodHandle" ∧ yX2_openNow.cls ≠ "java/lang/invoke/VarHandle" ∧ (parseMethodDescriptor yX2_openNow.desc).map (fun d => d.parameters.length) = some 0 := by decide +kernel
theorem kd_X2_put : yX2_put.cls ≠ "java/lang/invoke/MethodHandle" ∧ yX2_put.cls ≠ "java/lang/invoke/VarHandle" ∧ (parseMethodDescriptor yX2_put.desc).map (fun d => d.parameters.length) = some 3 := by decide +kernel
theorem kd_X2_rank : yX2_rank.cls ≠ "java/lang/invoke/MethodHandle" ∧ yX2_rank.cls ≠ "java/lang/invoke/VarHandle" ∧ (parseMethodDescriptor yX2_rank.desc).map (fun d => d.parameters.length) = some 1 := by decide +kernel
theorem kd_X2_settle : yX2_settle.cls ≠ "java/lang/invoke/MethodHandle" ∧ yX2_settle.cls ≠ "java/lang/invoke/VarHandle" ∧ (parseMethodDescriptor yX2_settle.desc).map (fun d => d.parameters.length) = some 1 := by decide +kernel
theorem kd_X2_shut : yX2_shut.cls ≠ "java/lang/invoke/MethodHandle" ∧ yX2_shut.cls ≠ "java/lang/invoke/VarHandle" ∧ (parseMethodDescriptor yX2_shut.desc).map (fun d => d.parameters.length) = some 1 := by decide +kernel
theorem kd_X2_w2 : yX2_w2.cls ≠ "java/lang/invoke/MethodHandle" ∧ yX2_w2.cls ≠ "java/lang/invoke/VarHandle" ∧ (parseMethodDescriptor yX2_w2.desc).map (fun d => d.parameters.length) = some 2 := by decide +kernel
theorem kd_X2_w3 : yX2_w3.cls ≠ "java/lang/invoke/MethodHandle" ∧ yX2_w3.cls ≠ "java/lang/invoke/VarHandle" ∧ (parseMethodDescriptor yX2_w3.desc).map (fun d => d.parameters.length) = some 3 := by decide +kernel
theorem kd_X2_w4 : yX2_w4.cls ≠ "java/lang/invoke/MethodHandle" ∧ yX2_w4.cls ≠ "java/lang/invoke/VarHandle" ∧ (parseMethodDescriptor yX2_w4.desc).map (fun d => d.parameters.length) = some 4 := by decide +kernel
theorem kd_X2_w5 : yX2_w5.cls ≠ "java/lang/invoke/MethodHandle" ∧ yX2_w5.cls ≠ "java/lang/invoke/VarHandle" ∧ (parseMethodDescriptor yX2_w5.desc).map (fun d => d.parameters.length) = some 5 := by decide +kernel
theorem kd_X2_w6 : yX2_w6.cls ≠ "java/lang/invoke/MethodHandle" ∧ yX2_w6.cls ≠ "java/lang/invoke/VarHandle" ∧ (parseMethodDescriptor yX2_w6.desc).map (fun d => d.parameters.length) = some 6 := by decide +kernel
def f_X2_copy_2 : Nat → Nat → Nat → Int32 → QA → Option (QA)
  | 0, _, _, _, _ => none
  | n + 1, r0, r1, x2, B => if (3642:Int32) ≤ x2 then (
  some (B)) else (
  qif (qok x2 3642) <|
  qlet (qu B r1 x2.toNatClampNeg (B r0 x2.toNatClampNeg)) fun B2 =>
  qlet (x2 + (1:Int32)) fun x2_4 =>
  f_X2_copy_2 n r0 r1 x2_4 B2)
set_option maxHeartbeats 4000000 in
theorem w_X2_copy_2 {p : Program} {l : Launch} {e : Env} {s : State} {m : MethodId} {args : Array Value} {below : List Frame} {meth : Method} {c : Code} {K : QK} {G : State → Prop} {A : QA} {rs : QX × QM} {L : QL} {Bo : QA} (hG : QG G) (hM : QMl K) (E : EV K G p s m args meth c cX2_copy "VaneCourtModel" 3) (hr : meth.sig.returnType = none) : ∀ (n : Nat) (r0 : Nat) (r1 : Nat) (x2 : Int32) (B : QA) {H : Heap} {locs : List Loc} {ls : Array Slot}, qib K r0 3642 → qib K r1 3642 → f_X2_copy_2 n r0 r1 x2 B = some Bo → WP K (A, B, L, rs) H locs → lv_has ls 3 [(0, .ref (K.2.1 r0)), (1, .ref (K.2.1 r1)), (2, .int x2)] → W p l e (qrm 1 40 0 0) s m args below meth c H locs 0 0 (MQ below (QE K (QR none (A, Bo, L, rs))) args s 0 0 (qA K)) (F0 m 2 ls []) := by
  have hx := E.1
  have hb := E.2.1
  have hown := E.2.2.1
  have hts := E.2.2.2.2.1
  intro n
  induction n with
  | zero =>
    intro r0 r1 x2 B H locs ls hr0 hr1 h hw hl
    cases h
  | succ n ih =>
    intro r0 r1 x2 B H locs ls hr0 hr1 h hw hl
    rw [f_X2_copy_2] at h
    refine lv_iload_n hx hb dX2_copy_2 rfl (lv_at hl 2 rfl) ?_
    refine lv_sipush (v := (3642:Int32)) hx hb dX2_copy_3 (by decide) ?_
    refine lv_icmp_ge (tgt := 21) hx hb dX2_copy_6 (by decide) (fun c => ?_) (fun c => ?_)
    · have h := qi_t c h
      have h := Option.some.inj h
      have h1 := h
      exact d_ret E hr hw (by rw [h1]) dX2_copy_21
    · have h := qi_f c h
      refine lv_aload_n hx hb dX2_copy_9 rfl (lv_at hl 1 rfl) ?_
      refine lv_iload_n hx hb dX2_copy_10 rfl (lv_at hl 2 rfl) ?_
      refine lv_aload_n hx hb dX2_copy_11 rfl (lv_at hl 0 rfl) ?_
      refine lv_iload_n hx hb dX2_copy_12 rfl (lv_at hl 2 rfl) ?_
      obtain ⟨z1, h⟩ := qif_s h
      refine r_iald (j := x2.toNatClampNeg) E hw (hr0).at (qok_in z1) rfl dX2_copy_13 ?_
      obtain ⟨B2, e3, h⟩ := qlet_s h
      refine r_iastB (j := x2.toNatClampNeg) E hw (hr1) (qok_in z1) rfl dX2_copy_14 (fun H locs hw => ?_)
      rw [← e3] at hw
      obtain ⟨x2_4, e5, h⟩ := qlet_s h
      refine lv_iinc (v := x2_4) (lv' := [(2, .int x2_4), (0, .ref (K.2.1 r0)), (1, .ref (K.2.1 r1))]) (k := 2) hx hb dX2_copy_15 hl rfl (by rw [e5]; rfl) (by decide) rfl (fun ls hl => ?_)
      refine lv_goto (tgt := 2) hx hb dX2_copy_18 (by decide) ?_
      exact ih _ _ _ _ (hr0) (hr1) h hw (lv_sub hl [1, 2, 0] rfl)

def f_X2_copy (r0 : Nat) (r1 : Nat) (B : QA) : Option (QA) :=
  f_X2_copy_2 FU r0 r1 (0:Int32) B
set_option maxHeartbeats 4000000 in
theorem w_X2_copy_0 {p : Program} {l : Launch} {e : Env} {s : State} {m : MethodId} {args : Array Value} {below : List Frame} {meth : Method} {c : Code} {K : QK} {G : State → Prop} {A : QA} {rs : QX × QM} {L : QL} {Bo : QA} (hG : QG G) (hM : QMl K) (E : EV K G p s m args meth c cX2_copy "VaneCourtModel" 3) (hr : meth.sig.returnType = none) : ∀ (r0 : Nat) (r1 : Nat) (B : QA) {H : Heap} {locs : List Loc} {ls : Array Slot}, qib K r0 3642 → qib K r1 3642 → f_X2_copy r0 r1 B = some Bo → WP K (A, B, L, rs) H locs → lv_has ls 3 [(0, .ref (K.2.1 r0)), (1, .ref (K.2.1 r1))] → W p l e (qrm 1 40 0 0) s m args below meth c H locs 0 0 (MQ below (QE K (QR none (A, Bo, L, rs))) args s 0 0 (qA K)) (F0 m 0 ls []) := by
  have hx := E.1
  have hb := E.2.1
  have hown := E.2.2.1
  have hts := E.2.2.2.2.1
  intro r0 r1 B H locs ls hr0 hr1 h hw hl
  rw [f_X2_copy] at h
  refine lv_iconst (v := (0:Int32)) hx hb dX2_copy_0 (by decide) ?_
  refine lv_istore_n (lv' := [(2, .int (0:Int32)), (0, .ref (K.2.1 r0)), (1, .ref (K.2.1 r1))]) hx hb dX2_copy_1 rfl hl (by decide) rfl (fun ls hl => ?_)
  exact w_X2_copy_2 hG hM E hr  _ _ _ _ _  (hr0) (hr1) h hw (lv_sub hl [1, 2, 0] rfl)

theorem m_X2_copy (l : Launch) {K : QK} {G : State → Prop} (hG : QG G) (hM : QMl K) {A : QA} {rs : QX × QM} {L : QL} {r0 : Nat} {r1 : Nat} {B : QA} {Bo : QA} (hr0 : qib K r0 3642) (hr1 : qib K r1 3642) (h : f_X2_copy r0 r1 B = some Bo) : MC l K G yX2_copy (ws_ yX2_copy cX2_copy 3 none) 1 40 0 0 [.ref (K.2.1 r0), .ref (K.2.1 r1)] (A, B, L, rs) (QR none (A, Bo, L, rs)) := by
  refine MC.of (by decide) (Nat.le_of_ble_eq_true rfl) (lv := [(0, .ref (K.2.1 r0)), (1, .ref (K.2.1 r1))]) rfl (fun p e s m below meth c ls E hr hl hw => ?_)
  exact w_X2_copy_0 hG hM E hr _ _ _ hr0 hr1 h hw hl

def f_X2_isIn (x0 : Int32) (x1 : Int32) (x2 : Int32) : Option (Int32) :=
  if x0 < x1 then (
  some ((0:Int32))) else (
  if x2 < x0 then (
  some ((0:Int32))) else (
  some ((1:Int32))))
set_option maxHeartbeats 4000000 in
theorem w_X2_isIn_0 {p : Program} {l : Launch} {e : Env} {s : State} {m : MethodId} {args : Array Value} {below : List Frame} {meth : Method} {c : Code} {K : QK} {G : State → Prop} {A : QA} {rs : QX × QM} {B : QA} {L : QL} {ro : Int32} (hG : QG G) (hM : QMl K) (E : EV K G p s m args meth c cX2_isIn "VaneCourtModel" 3) (hr : meth.sig.returnType = (some .boolean)) : ∀ (x0 : Int32) (x1 : Int32) (x2 : Int32) {H : Heap} {locs : List Loc} {ls : Array Slot}, f_X2_isIn x0 x1 x2 = some ro → WP K (A, B, L, rs) H locs → lv_has ls 3 [(0, .int x0), (1, .int x1), (2, .int x2)] → W p l e (qrm 1 40 0 0) s m args below meth c H locs 0 0 (MQ below (QE K (QR (some (.int ro)) (A, B, L, rs))) args s 0 0 (qA K)) (F0 m 0 ls []) := by
  have hx := E.1
  have hb := E.2.1
  have hown := E.2.2.1
  have hts := E.2.2.2.2.1
  intro x0 x1 x2 H locs ls  h hw hl
  rw [f_X2_isIn] at h
  refine lv_iload_n hx hb dX2_isIn_0 rfl (lv_at hl 0 rfl) ?_
  refine lv_iload_n hx hb dX2_isIn_1 rfl (lv_at hl 1 rfl) ?_
  refine lv_icmp_lt (tgt := 14) hx hb dX2_isIn_2 (by decide) (fun c => ?_) (fun c => ?_)
  · have h := qi_t c h
    refine lv_iconst (v := (0:Int32)) hx hb dX2_isIn_14 (by decide) ?_
    have h := Option.some.inj h
    have h1 := h
    exact d_iret E hr rfl hw h1 rfl dX2_isIn_15
  · have h := qi_f c h
    refine lv_iload_n hx hb dX2_isIn_5 rfl (lv_at hl 0 rfl) ?_
    refine lv_iload_n hx hb dX2_isIn_6 rfl (lv_at hl 2 rfl) ?_
    refine lv_icmp_gt (tgt := 14) hx hb dX2_isIn_7 (by decide) (fun c => ?_) (fun c => ?_)
    · have h := qi_t c h
      refine lv_iconst (v := (0:Int32)) hx hb dX2_isIn_14 (by decide) ?_
      have h := Option.some.inj h
      have h1 := h
      exact d_iret E hr rfl hw h1 rfl dX2_isIn_15
    · have h := qi_f c h
      refine lv_iconst (v := (1:Int32)) hx hb dX2_isIn_10 (by decide) ?_
      refine lv_goto (tgt := 15) hx hb dX2_isIn_11 (by decide) ?_
      have h := Option.some.inj h
      have h1 := h
      exact d_iret E hr rfl hw h1 rfl dX2_isIn_15

theorem m_X2_isIn (l : Launch) {K : QK} {G : State → Prop} (hG : QG G) (hM : QMl K) {A : QA} {rs : QX × QM} {B : QA} {L : QL} {x0 : Int32} {x1 : Int32} {x2 : Int32} {ro : Int32} (h : f_X2_isIn x0 x1 x2 = some ro) : MC l K G yX2_isIn (ws_ yX2_isIn cX2_isIn 3 (some .boolean)) 1 40 0 0 [.int x0, .int x1, .int x2] (A, B, L, rs) (QR (some (.int ro)) (A, B, L, rs)) := by
  refine MC.of (by decide) (Nat.le_of_ble_eq_true rfl) (lv := [(0, .int x0), (1, .int x1), (2, .int x2)]) rfl (fun p e s m below meth c ls E hr hl hw => ?_)
  exact w_X2_isIn_0 hG hM E hr _ _ _  h hw hl

def f_X2_put (x1 : Int32) (x2 : Int32) (x3 : Int32) (B : QA) : Option (QA) :=
  qif (qok (((20:Int32) + ((7:Int32) * x1)) + x2) 3642) <|
  qlet (qu B 1001 (((20:Int32) + ((7:Int32) * x1)) + x2).toNatClampNeg x3) fun B2 =>
  some (B2)
set_option maxHeartbeats 4000000 in
theorem w_X2_put_0 {p : Program} {l : Launch} {e : Env} {s : State} {m : MethodId} {args : Array Value} {below : List Frame} {meth : Method} {c : Code} {K : QK} {G : State → Prop} {A : QA} {rs : QX × QM} {L : QL} {Bo : QA} (hG : QG G) (hM : QMl K) (E : EV K G p s m args meth c cX2_put "VaneCourtModel" 4) (hr : meth.sig.returnType = none) : ∀ (x1 : Int32) (x2 : Int32) (x3 : Int32) (B : QA) {H : Heap} {locs : List Loc} {ls : Array Slot}, f_X2_put x1 x2 x3 B = some Bo → WP K (A, B, L, rs) H locs → lv_has ls 4 [(0, .ref (K.2.1 1000)), (1, .int x1), (2, .int x2), (3, .int x3)] → W p l e (qrm 1 40 0 0) s m args below meth c H locs 0 0 (MQ below (QE K (QR none (A, Bo, L, rs))) args s 0 0 (qA K)) (F0 m 0 ls []) := by
  have hx := E.1
  have hb := E.2.1
  have hown := E.2.2.1
  have hts := E.2.2.2.2.1
  intro x1 x2 x3 B H locs ls  h hw hl
  rw [f_X2_put] at h
  refine lv_aload_n hx hb dX2_put_0 rfl (lv_at hl 0 rfl) ?_
  refine r_getM (v := .ref (K.2.1 1001)) E hw hM 0 (by decide) q1353 rfl dX2_put_1 ?_
  refine lv_bipush (v := (20:Int32)) hx hb dX2_put_4 (by decide) ?_
  refine lv_bipush (v := (7:Int32)) hx hb dX2_put_6 (by decide) ?_
  refine lv_iload_n hx hb dX2_put_8 rfl (lv_at hl 1 rfl) ?_
  refine lv_imul hx hb dX2_put_9 ?_
  refine lv_iadd hx hb dX2_put_10 ?_
  refine lv_iload_n hx hb dX2_put_11 rfl (lv_at hl 2 rfl) ?_
  refine lv_iadd hx hb dX2_put_12 ?_
  refine lv_iload_n hx hb dX2_put_13 rfl (lv_at hl 3 rfl) ?_
  obtain ⟨z1, h⟩ := qif_s h
  obtain ⟨B2, e3, h⟩ := qlet_s h
  refine r_iastB (j := (((20:Int32) + ((7:Int32) * x1)) + x2).toNatClampNeg) E hw (qi_1001 hM) (qok_in z1) rfl dX2_put_14 (fun H locs hw => ?_)
  rw [← e3] at hw
  have h := Option.some.inj h
  have h1 := h
  exact d_ret E hr hw (by rw [h1]) dX2_put_15

theorem m_X2_put (l : Launch) {K : QK} {G : State → Prop} (hG : QG G) (hM : QMl K) {A : QA} {rs : QX × QM} {L : QL} {x1 : Int32} {x2 : Int32} {x3 : Int32} {B : QA} {Bo : QA} (h : f_X2_put x1 x2 x3 B = some Bo) : MC l K G yX2_put (ws_ yX2_put cX2_put 4 none) 1 40 0 0 [.ref (K.2.1 1000), .int x1, .int x2, .int x3] (A, B, L, rs) (QR none (A, Bo, L, rs)) := by
  refine MC.of (by decide) (Nat.le_of_ble_eq_true rfl) (lv := [(0, .ref (K.2.1 1000)), (1, .int x1), (2, .int x2), (3, .int x3)]) rfl (fun p e s m below meth c ls E hr hl hw => ?_)
  exact w_X2_put_0 hG hM E hr _ _ _ _  h hw hl

def f_X2_newCase_98 : Nat → Int32 → Int32 → QA → Option (Int32 × QA)
  | 0, _, _, _ => none
  | n + 1, x5, x6, B => if (6:Int32) < x6 then (
  qlet (qu B 1001 0 ((B 1001 0) + (1:Int32))) fun B19 =>
  some (x5, B19)) else (
  qb1 (f_X2_put x5 x6 (0:Int32) B) fun B21 =>
  qlet (x6 + (1:Int32)) fun x6_23 =>
  f_X2_newCase_98 n x5 x6_23 B21)
set_option maxHeartbeats 4000000 in
theorem w_X2_newCase_98 {p : Program} {l : Launch} {e : Env} {s : State} {m : MethodId} {args : Array Value} {below : List Frame} {meth : Method} {c : Code} {K : QK} {G : State → Prop} {A : QA} {rs : QX × QM} {L : QL} {ro : Int32} {Bo : QA} (hG : QG G) (hM : QMl K) (E : EV K G p s m args meth c cX2_newCase "VaneCourtModel" 7) (hr : meth.sig.returnType = (some .int)) : ∀ (n : Nat) (x5 : Int32) (x6 : Int32) (B : QA) {H : Heap} {locs : List Loc} {ls : Array Slot}, f_X2_newCase_98 n x5 x6 B = some (ro, Bo) → WP K (A, B, L, rs) H locs → lv_has ls 7 [(0, .ref (K.2.1 1000)), (5, .int x5), (6, .int x6)] → W p l e (qrm 2 63 0 0) s m args below meth c H locs 0 0 (MQ below (QE K (QR (some (.int ro)) (A, Bo, L, rs))) args s 0 0 (qA K)) (F0 m 98 ls []) := by
  have hx := E.1
  have hb := E.2.1
  have hown := E.2.2.1
  have hts := E.2.2.2.2.1
  intro n
  induction n with
  | zero =>
    intro x5 x6 B H locs ls  h hw hl
    cases h
  | succ n ih =>
    intro x5 x6 B H locs ls  h hw hl
    rw [f_X2_newCase_98] at h
    refine lv_iload hx hb dX2_newCase_98 (lv_at hl 2 rfl) ?_
    refine lv_bipush (v := (6:Int32)) hx hb dX2_newCase_100 (by decide) ?_
    refine lv_icmp_gt (tgt := 120) hx hb dX2_newCase_102 (by decide) (fun c => ?_) (fun c => ?_)
    · have h := qi_t c h
      refine lv_aload_n hx hb dX2_newCase_120 rfl (lv_at hl 0 rfl) ?_
      refine r_getM (v := .ref (K.2.1 1001)) E hw hM 0 (by decide) q1353 rfl dX2_newCase_121 ?_
      refine lv_iconst (v := (0:Int32)) hx hb dX2_newCase_124 (by decide) ?_
      refine lv_dup2_11 hx hb dX2_newCase_125 rfl rfl ?_
      refine r_iald (j := 0) E hw (qi_1001 hM).at (q_lit (k := 0) (n := 3642) rfl rfl) (q_clamp (k := 0) rfl) dX2_newCase_126 ?_
      refine lv_iconst (v := (1:Int32)) hx hb dX2_newCase_127 (by decide) ?_
      refine lv_iadd hx hb dX2_newCase_128 ?_
      obtain ⟨B19, e20, h⟩ := qlet_s h
      refine r_iastB (j := 0) E hw (qi_1001 hM) (q_lit (k := 0) (n := 3642) rfl rfl) (q_clamp (k := 0) rfl) dX2_newCase_129 (fun H locs hw => ?_)
      rw [← e20] at hw
      refine lv_iload hx hb dX2_newCase_130 (lv_at hl 1 rfl) ?_
      have h := Option.some.inj h
      obtain ⟨h1, h2⟩ := Prod.mk.inj h
      exact d_iret E hr rfl hw h1 (by rw [h2]) dX2_newCase_132
    · have h := qi_f c h
      refine lv_aload_n hx hb dX2_newCase_105 rfl (lv_at hl 0 rfl) ?_
      refine lv_iload hx hb dX2_newCase_106 (lv_at hl 1 rfl) ?_
      refine lv_iload hx hb dX2_newCase_108 (lv_at hl 2 rfl) ?_
      refine lv_iconst (v := (0:Int32)) hx hb dX2_newCase_110 (by decide) ?_
      obtain ⟨B21, g22, h⟩ := qb1_s h
      refine d_V (As := [.int x5, .int x6, .int (0:Int32)]) (v0 := none) (w0 := (A, B21, L, rs)) hG E hw hl (m_X2_put l hG hM  g22) (qM0 hM) rfl (cwV 3 hts (lw_V q1483 q1485 qs58 q140 q1486) rfl rfl rfl ⟨rfl, kd_X2_put⟩ ⟨Nat.le_of_ble_eq_true rfl, Nat.le_of_ble_eq_true rfl⟩) rfl (rest := []) (st1 := []) rfl rfl rfl dX2_newCase_111 ⟨Nat.le_of_ble_eq_true rfl, Nat.le_of_ble_eq_true rfl⟩ (fun H locs hw => ?_)
      obtain ⟨x6_23, e24, h⟩ := qlet_s h
      refine lv_iinc (v := x6_23) (lv' := [(6, .int x6_23), (0, .ref (K.2.1 1000)), (5, .int x5)]) (k := 2) hx hb dX2_newCase_114 hl rfl (by rw [e24]; rfl) (by decide) rfl (fun ls hl => ?_)
      refine lv_goto (tgt := 98) hx hb dX2_newCase_117 (by decide) ?_
      exact ih _ _ _  h hw (lv_sub hl [1, 2, 0] rfl)

def f_X2_newCase (x1 : Int32) (x2 : Int32) (x3 : Int32) (x4 : Int32) (B : QA) : Option (Int32 × QA) :=
  qb1 (f_X2_isIn x1 (0:Int32) (5:Int32)) fun u1 =>
  if u1 = (0:Int32) then (
  some ((-1:Int32), B)) else (
  qb1 (f_X2_isIn x2 (1:Int32) (9:Int32)) fun u3 =>
  if u3 = (0:Int32) then (
  some ((-1:Int32), B)) else (
  qb1 (f_X2_isIn x3 (1:Int32) (9:Int32)) fun u5 =>
  if u5 = (0:Int32) then (
  some ((-1:Int32), B)) else (
  qb1 (f_X2_isIn x4 (0:Int32) (255:Int32)) fun u7 =>
  if u7 = (0:Int32) then (
  some ((-1:Int32), B)) else (
  if (B 1001 0) = (8:Int32) then (
  some ((-1:Int32), B)) else (
  qlet (B 1001 0) fun x5_9 =>
  qb1 (f_X2_put x5_9 (0:Int32) x1 B) fun B11 =>
  qb1 (f_X2_put x5_9 (1:Int32) x2 B11) fun B13 =>
  qb1 (f_X2_put x5_9 (2:Int32) x3 B13) fun B15 =>
  qb1 (f_X2_put x5_9 (3:Int32) x4 B15) fun B17 =>
  f_X2_newCase_98 FU x5_9 (4:Int32) B17)))))
set_option maxHeartbeats 4000000 in
theorem w_X2_newCase_0 {p : Program} {l : Launch} {e : Env} {s : State} {m : MethodId} {args : Array Value} {below : List Frame} {meth : Method} {c : Code} {K : QK} {G : State → Prop} {A : QA} {rs : QX × QM} {L : QL} {ro : Int32} {Bo : QA} (hG : QG G) (hM : QMl K) (E : EV K G p s m args meth c cX2_newCase "VaneCourtModel" 7) (hr : meth.sig.returnType = (some .int)) : ∀ (x1 : Int32) (x2 : Int32) (x3 : Int32) (x4 : Int32) (B : QA) {H : Heap} {locs : List Loc} {ls : Array Slot}, f_X2_newCase x1 x2 x3 x4 B = some (ro, Bo) → WP K (A, B, L, rs) H locs → lv_has ls 7 [(0, .ref (K.2.1 1000)), (1, .int x1), (2, .int x2), (3, .int x3), (4, .int x4)] → W p l e (qrm 2 63 0 0) s m args below meth c H locs 0 0 (MQ below (QE K (QR (some (.int ro)) (A, Bo, L, rs))) args s 0 0 (qA K)) (F0 m 0 ls []) := by
  have hx := E.1
  have hb := E.2.1
  have hown := E.2.2.1
  have hts := E.2.2.2.2.1
  intro x1 x2 x3 x4 B H locs ls  h hw hl
  rw [f_X2_newCase] at h
  refine lv_iload_n hx hb dX2_newCase_0 rfl (lv_at hl 1 rfl) ?_
  refine lv_iconst (v := (0:Int32)) hx hb dX2_newCase_1 (by decide) ?_
  refine lv_iconst (v := (5:Int32)) hx hb dX2_newCase_2 (by decide) ?_
  obtain ⟨u1, g2, h⟩ := qb1_s h
  refine d_S (As := [.int x1, .int (0:Int32), .int (5:Int32)]) (v0 := some (.int u1)) (w0 := (A, B, L, rs)) hG E hw hl (m_X2_isIn l hG hM  g2) (va_cwS 3 hts (lw_S q1480 q1481 q140 q1482) rfl rfl rfl kd_X2_isIn ⟨Nat.le_of_ble_eq_true rfl, Nat.le_of_ble_eq_true rfl⟩) rfl (rest := []) (st1 := [.int u1]) rfl rfl rfl dX2_newCase_3 ⟨Nat.le_of_ble_eq_true rfl, Nat.le_of_ble_eq_true rfl⟩ (fun H locs hw => ?_)
  refine lv_if_eq (tgt := 52) hx hb dX2_newCase_6 (by decide) (fun c => ?_) (fun c => ?_)
  · have h := qi_t c h
    refine lv_iconst (v := (-1:Int32)) hx hb dX2_newCase_52 (by decide) ?_
    have h := Option.some.inj h
    obtain ⟨h1, h2⟩ := Prod.mk.inj h
    exact d_iret E hr rfl hw h1 (by rw [h2]) dX2_newCase_53
  · have h := qi_f c h
    refine lv_iload_n hx hb dX2_newCase_9 rfl (lv_at hl 2 rfl) ?_
    refine lv_iconst (v := (1:Int32)) hx hb dX2_newCase_10 (by decide) ?_
    refine lv_bipush (v := (9:Int32)) hx hb dX2_newCase_11 (by decide) ?_
    obtain ⟨u3, g4, h⟩ := qb1_s h
    refine d_S (As := [.int x2, .int (1:Int32), .int (9:Int32)]) (v0 := some (.int u3)) (w0 := (A, B, L, rs)) hG E hw hl (m_X2_isIn l hG hM  g4) (va_cwS 3 hts (lw_S q1480 q1481 q140 q1482) rfl rfl rfl kd_X2_isIn ⟨Nat.le_of_ble_eq_true rfl, Nat.le_of_ble_eq_true rfl⟩) rfl (rest := []) (st1 := [.int u3]) rfl rfl rfl dX2_newCase_13 ⟨Nat.le_of_ble_eq_true rfl, Nat.le_of_ble_eq_true rfl⟩ (fun H locs hw => ?_)
    refine lv_if_eq (tgt := 52) hx hb dX2_newCase_16 (by decide) (fun c => ?_) (fun c => ?_)
    · have h := qi_t c h
      refine lv_iconst (v := (-1:Int32)) hx hb dX2_newCase_52 (by decide) ?_
      have h := Option.some.inj h
      obtain ⟨h1, h2⟩ := Prod.mk.inj h
      exact d_iret E hr rfl hw h1 (by rw [h2]) dX2_newCase_53
    · have h := qi_f c h
      refine lv_iload_n hx hb dX2_newCase_19 rfl (lv_at hl 3 rfl) ?_
      refine lv_iconst (v := (1:Int32)) hx hb dX2_newCase_20 (by decide) ?_
      refine lv_bipush (v := (9:Int32)) hx hb dX2_newCase_21 (by decide) ?_
      obtain ⟨u5, g6, h⟩ := qb1_s h
      refine d_S (As := [.int x3, .int (1:Int32), .int (9:Int32)]) (v0 := some (.int u5)) (w0 := (A, B, L, rs)) hG E hw hl (m_X2_isIn l hG hM  g6) (va_cwS 3 hts (lw_S q1480 q1481 q140 q1482) rfl rfl rfl kd_X2_isIn ⟨Nat.le_of_ble_eq_true rfl, Nat.le_of_ble_eq_true rfl⟩) rfl (rest := []) (st1 := [.int u5]) rfl rfl rfl dX2_newCase_23 ⟨Nat.le_of_ble_eq_true rfl, Nat.le_of_ble_eq_true rfl⟩ (fun H locs hw => ?_)
      refine lv_if_eq (tgt := 52) hx hb dX2_newCase_26 (by decide) (fun c => ?_) (fun c => ?_)
      · have h := qi_t c h
        refine lv_iconst (v := (-1:Int32)) hx hb dX2_newCase_52 (by decide) ?_
        have h := Option.some.inj h
        obtain ⟨h1, h2⟩ := Prod.mk.inj h
        exact d_iret E hr rfl hw h1 (by rw [h2]) dX2_newCase_53
      · have h := qi_f c h
        refine lv_iload hx hb dX2_newCase_29 (lv_at hl 4 rfl) ?_
        refine lv_iconst (v := (0:Int32)) hx hb dX2_newCase_31 (by decide) ?_
        refine lv_sipush (v := (255:Int32)) hx hb dX2_newCase_32 (by decide) ?_
        obtain ⟨u7, g8, h⟩ := qb1_s h
        refine d_S (As := [.int x4, .int (0:Int32), .int (255:Int32)]) (v0 := some (.int u7)) (w0 := (A, B, L, rs)) hG E hw hl (m_X2_isIn l hG hM  g8) (va_cwS 3 hts (lw_S q1480 q1481 q140 q1482) rfl rfl rfl kd_X2_isIn ⟨Nat.le_of_ble_eq_true rfl, Nat.le_of_ble_eq_true rfl⟩) rfl (rest := []) (st1 := [.int u7]) rfl rfl rfl dX2_newCase_35 ⟨Nat.le_of_ble_eq_true rfl, Nat.le_of_ble_eq_true rfl⟩ (fun H locs hw => ?_)
        refine lv_if_eq (tgt := 52) hx hb dX2_newCase_38 (by decide) (fun c => ?_) (fun c => ?_)
        · have h := qi_t c h
          refine lv_iconst (v := (-1:Int32)) hx hb dX2_newCase_52 (by decide) ?_
          have h := Option.some.inj h
          obtain ⟨h1, h2⟩ := Prod.mk.inj h
          exact d_iret E hr rfl hw h1 (by rw [h2]) dX2_newCase_53
        · have h := qi_f c h
          refine lv_aload_n hx hb dX2_newCase_41 rfl (lv_at hl 0 rfl) ?_
          refine r_getM (v := .ref (K.2.1 1001)) E hw hM 0 (by decide) q1353 rfl dX2_newCase_42 ?_
          refine lv_iconst (v := (0:Int32)) hx hb dX2_newCase_45 (by decide) ?_
          refine r_iald (j := 0) E hw (qi_1001 hM).at (q_lit (k := 0) (n := 3642) rfl rfl) (q_clamp (k := 0) rfl) dX2_newCase_46 ?_
          refine lv_bipush (v := (8:Int32)) hx hb dX2_newCase_47 (by decide) ?_
          refine lv_icmp_ne (tgt := 54) hx hb dX2_newCase_49 (by decide) (fun c => ?_) (fun c => ?_)
          · have h := qi_f c h
            refine lv_aload_n hx hb dX2_newCase_54 rfl (lv_at hl 0 rfl) ?_
            refine r_getM (v := .ref (K.2.1 1001)) E hw hM 0 (by decide) q1353 rfl dX2_newCase_55 ?_
            refine lv_iconst (v := (0:Int32)) hx hb dX2_newCase_58 (by decide) ?_
            refine r_iald (j := 0) E hw (qi_1001 hM).at (q_lit (k := 0) (n := 3642) rfl rfl) (q_clamp (k := 0) rfl) dX2_newCase_59 ?_
            obtain ⟨x5_9, e10, h⟩ := qlet_s h
            refine r_nm e10 ?_
            refine lv_istore (lv' := [(5, .int x5_9), (0, .ref (K.2.1 1000)), (1, .int x1), (2, .int x2), (3, .int x3), (4, .int x4)]) hx hb dX2_newCase_60 hl (by decide) rfl (fun ls hl => ?_)
            refine lv_aload_n hx hb dX2_newCase_62 rfl (lv_at hl 1 rfl) ?_
            refine lv_iload hx hb dX2_newCase_63 (lv_at hl 0 rfl) ?_
            refine lv_iconst (v := (0:Int32)) hx hb dX2_newCase_65 (by decide) ?_
            refine lv_iload_n hx hb dX2_newCase_66 rfl (lv_at hl 2 rfl) ?_
            obtain ⟨B11, g12, h⟩ := qb1_s h
            refine d_V (As := [.int x5_9, .int (0:Int32), .int x1]) (v0 := none) (w0 := (A, B11, L, rs)) hG E hw hl (m_X2_put l hG hM  g12) (qM0 hM) rfl (cwV 3 hts (lw_V q1483 q1485 qs58 q140 q1486) rfl rfl rfl ⟨rfl, kd_X2_put⟩ ⟨Nat.le_of_ble_eq_true rfl, Nat.le_of_ble_eq_true rfl⟩) rfl (rest := []) (st1 := []) rfl rfl rfl dX2_newCase_67 ⟨Nat.le_of_ble_eq_true rfl, Nat.le_of_ble_eq_true rfl⟩ (fun H locs hw => ?_)
            refine lv_aload_n hx hb dX2_newCase_70 rfl (lv_at hl 1 rfl) ?_
            refine lv_iload hx hb dX2_newCase_71 (lv_at hl 0 rfl) ?_
            refine lv_iconst (v := (1:Int32)) hx hb dX2_newCase_73 (by decide) ?_
            refine lv_iload_n hx hb dX2_newCase_74 rfl (lv_at hl 3 rfl) ?_
            obtain ⟨B13, g14, h⟩ := qb1_s h
            refine d_V (As := [.int x5_9, .int (1:Int32), .int x2]) (v0 := none) (w0 := (A, B13, L, rs)) hG E hw hl (m_X2_put l hG hM  g14) (qM0 hM) rfl (cwV 3 hts (lw_V q1483 q1485 qs58 q140 q1486) rfl rfl rfl ⟨rfl, kd_X2_put⟩ ⟨Nat.le_of_ble_eq_true rfl, Nat.le_of_ble_eq_true rfl⟩) rfl (rest := []) (st1 := []) rfl rfl rfl dX2_newCase_75 ⟨Nat.le_of_ble_eq_true rfl, Nat.le_of_ble_eq_true rfl⟩ (fun H locs hw => ?_)
            refine lv_aload_n hx hb dX2_newCase_78 rfl (lv_at hl 1 rfl) ?_
            refine lv_iload hx hb dX2_newCase_79 (lv_at hl 0 rfl) ?_
            refine lv_iconst (v := (2:Int32)) hx hb dX2_newCase_81 (by decide) ?_
            refine lv_iload_n hx hb dX2_newCase_82 rfl (lv_at hl 4 rfl) ?_
            obtain ⟨B15, g16, h⟩ := qb1_s h
            refine d_V (As := [.int x5_9, .int (2:Int32), .int x3]) (v0 := none) (w0 := (A, B15, L, rs)) hG E hw hl (m_X2_put l hG hM  g16) (qM0 hM) rfl (cwV 3 hts (lw_V q1483 q1485 qs58 q140 q1486) rfl rfl rfl ⟨rfl, kd_X2_put⟩ ⟨Nat.le_of_ble_eq_true rfl, Nat.le_of_ble_eq_true rfl⟩) rfl (rest := []) (st1 := []) rfl rfl rfl dX2_newCase_83 ⟨Nat.le_of_ble_eq_true rfl, Nat.le_of_ble_eq_true rfl⟩ (fun H locs hw => ?_)
            refine lv_aload_n hx hb dX2_newCase_86 rfl (lv_at hl 1 rfl) ?_
            refine lv_iload hx hb dX2_newCase_87 (lv_at hl 0 rfl) ?_
            refine lv_iconst (v := (3:Int32)) hx hb dX2_newCase_89 (by decide) ?_
            refine lv_iload hx hb dX2_newCase_90 (lv_at hl 5 rfl) ?_
            obtain ⟨B17, g18, h⟩ := qb1_s h
            refine d_V (As := [.int x5_9, .int (3:Int32), .int x4]) (v0 := none) (w0 := (A, B17, L, rs)) hG E hw hl (m_X2_put l hG hM  g18) (qM0 hM) rfl (cwV 3 hts (lw_V q1483 q1485 qs58 q140 q1486) rfl rfl rfl ⟨rfl, kd_X2_put⟩ ⟨Nat.le_of_ble_eq_true rfl, Nat.le_of_ble_eq_true rfl⟩) rfl (rest := []) (st1 := []) rfl rfl rfl dX2_newCase_92 ⟨Nat.le_of_ble_eq_true rfl, Nat.le_of_ble_eq_true rfl⟩ (fun H locs hw => ?_)
            refine lv_iconst (v := (4:Int32)) hx hb dX2_newCase_95 (by decide) ?_
            refine lv_istore (lv' := [(6, .int (4:Int32)), (5, .int x5_9), (0, .ref (K.2.1 1000)), (1, .int x1), (2, .int x2), (3, .int x3), (4, .int x4)]) hx hb dX2_newCase_96 hl (by decide) rfl (fun ls hl => ?_)
            exact w_X2_newCase_98 hG hM E hr  _ _ _ _   h hw (lv_sub hl [2, 1, 0] rfl)
          · have h := qi_t c h
            refine lv_iconst (v := (-1:Int32)) hx hb dX2_newCase_52 (by decide) ?_
            have h := Option.some.inj h
            obtain ⟨h1, h2⟩ := Prod.mk.inj h
            exact d_iret E hr rfl hw h1 (by rw [h2]) dX2_newCase_53

theorem m_X2_newCase (l : Launch) {K : QK} {G : State → Prop} (hG : QG G) (hM : QMl K) {A : QA} {rs : QX × QM} {L : QL} {x1 : Int32} {x2 : Int32} {x3 : Int32} {x4 : Int32} {B : QA} {ro : Int32} {Bo : QA} (h : f_X2_newCase x1 x2 x3 x4 B = some (ro, Bo)) : MC l K G yX2_newCase (ws_ yX2_newCase cX2_newCase 7 (some .int)) 2 63 0 0 [.ref (K.2.1 1000), .int x1, .int x2, .int x3, .int x4] (A, B, L, rs) (QR (some (.int ro)) (A, Bo, L, rs)) := by
  refine MC.of (by decide) (Nat.le_of_ble_eq_true rfl) (lv := [(0, .ref (K.2.1 1000)), (1, .int x1), (2, .int x2), (3, .int x3), (4, .int x4)]) rfl (fun p e s m below meth c ls E hr hl hw => ?_)
  exact w_X2_newCase_0 hG hM E hr _ _ _ _ _  h hw hl

def f_X2_four_3 : Nat → Int32 → Int32 → QA → Option (QA)
  | 0, _, _, _ => none
  | n + 1, x1, x2, B => if x2 < (0:Int32) then (
  some (B)) else (
  qif (qok (B 1000 4) 300) <|
  qlet (qu B 1004 (B 1000 4).toNatClampNeg ((x1 >>> (x2 &&& 31)) &&& (255:Int32))) fun B2 =>
  qlet (qu B2 1000 4 ((B2 1000 4) + (1:Int32))) fun B4 =>
  qlet (x2 + (-8:Int32)) fun x2_6 =>
  f_X2_four_3 n x1 x2_6 B4)
set_option maxHeartbeats 4000000 in
theorem w_X2_four_3 {p : Program} {l : Launch} {e : Env} {s : State} {m : MethodId} {args : Array Value} {below : List Frame} {meth : Method} {c : Code} {K : QK} {G : State → Prop} {A : QA} {rs : QX × QM} {L : QL} {Bo : QA} (hG : QG G) (hM : QMl K) (E : EV K G p s m args meth c cX2_four "VaneCourtModel" 3) (hr : meth.sig.returnType = none) : ∀ (n : Nat) (x1 : Int32) (x2 : Int32) (B : QA) {H : Heap} {locs : List Loc} {ls : Array Slot}, f_X2_four_3 n x1 x2 B = some Bo → WP K (A, B, L, rs) H locs → lv_has ls 3 [(0, .ref (K.2.1 1000)), (1, .int x1), (2, .int x2)] → W p l e (qrm 1 40 0 0) s m args below meth c H locs 0 0 (MQ below (QE K (QR none (A, Bo, L, rs))) args s 0 0 (qA K)) (F0 m 3 ls []) := by
  have hx := E.1
  have hb := E.2.1
  have hown := E.2.2.1
  have hts := E.2.2.2.2.1
  intro n
  induction n with
  | zero =>
    intro x1 x2 B H locs ls  h hw hl
    cases h
  | succ n ih =>
    intro x1 x2 B H locs ls  h hw hl
    rw [f_X2_four_3] at h
    refine lv_iload_n hx hb dX2_four_3 rfl (lv_at hl 2 rfl) ?_
    refine lv_if_lt (tgt := 39) hx hb dX2_four_4 (by decide) (fun c => ?_) (fun c => ?_)
    · have h := qi_t c h
      have h := Option.some.inj h
      have h1 := h
      exact d_ret E hr hw (by rw [h1]) dX2_four_39
    · have h := qi_f c h
      refine lv_aload_n hx hb dX2_four_7 rfl (lv_at hl 0 rfl) ?_
      refine r_getM (v := .ref (K.2.1 1004)) E hw hM 3 (by decide) q1356 rfl dX2_four_8 ?_
      refine lv_aload_n hx hb dX2_four_11 rfl (lv_at hl 0 rfl) ?_
      refine r_getM (v := .int (B 1000 4)) E hw hM 4 (by decide) q1357 rfl dX2_four_12 ?_
      refine lv_iload_n hx hb dX2_four_15 rfl (lv_at hl 1 rfl) ?_
      refine lv_iload_n hx hb dX2_four_16 rfl (lv_at hl 2 rfl) ?_
      refine lv_ishr hx hb dX2_four_17 ?_
      refine lv_sipush (v := (255:Int32)) hx hb dX2_four_18 (by decide) ?_
      refine lv_iand hx hb dX2_four_21 ?_
      obtain ⟨z1, h⟩ := qif_s h
      obtain ⟨B2, e3, h⟩ := qlet_s h
      refine r_iastB (j := (B 1000 4).toNatClampNeg) E hw (qi_1004 hM) (qok_in z1) rfl dX2_four_22 (fun H locs hw => ?_)
      rw [← e3] at hw
      refine lv_aload_n hx hb dX2_four_23 rfl (lv_at hl 0 rfl) ?_
      refine lv_dup hx hb dX2_four_24 rfl ?_
      refine r_getM (v := .int (B2 1000 4)) E hw hM 4 (by decide) q1357 rfl dX2_four_25 ?_
      refine lv_iconst (v := (1:Int32)) hx hb dX2_four_28 (by decide) ?_
      refine lv_iadd hx hb dX2_four_29 ?_
      obtain ⟨B4, e5, h⟩ := qlet_s h
      refine r_putM E hw hM 4 (by decide) q1357 rfl rfl rfl (fun _ _ => rfl) dX2_four_30 (fun H locs hw => ?_)
      rw [← e5] at hw
      obtain ⟨x2_6, e7, h⟩ := qlet_s h
      refine lv_iinc (v := x2_6) (lv' := [(2, .int x2_6), (0, .ref (K.2.1 1000)), (1, .int x1)]) (k := 2) hx hb dX2_four_33 hl rfl (by rw [e7]; rfl) (by decide) rfl (fun ls hl => ?_)
      refine lv_goto (tgt := 3) hx hb dX2_four_36 (by decide) ?_
      exact ih _ _ _  h hw (lv_sub hl [1, 2, 0] rfl)

def f_X2_four (x1 : Int32) (B : QA) : Option (QA) :=
  f_X2_four_3 FU x1 (24:Int32) B
set_option maxHeartbeats 4000000 in
theorem w_X2_four_0 {p : Program} {l : Launch} {e : Env} {s : State} {m : MethodId} {args : Array Value} {below : List Frame} {meth : Method} {c : Code} {K : QK} {G : State → Prop} {A : QA} {rs : QX × QM} {L : QL} {Bo : QA} (hG : QG G) (hM : QMl K) (E : EV K G p s m args meth c cX2_four "VaneCourtModel" 3) (hr : meth.sig.returnType = none) : ∀ (x1 : Int32) (B : QA) {H : Heap} {locs : List Loc} {ls : Array Slot}, f_X2_four x1 B = some Bo → WP K (A, B, L, rs) H locs → lv_has ls 3 [(0, .ref (K.2.1 1000)), (1, .int x1)] → W p l e (qrm 1 40 0 0) s m args below meth c H locs 0 0 (MQ below (QE K (QR none (A, Bo, L, rs))) args s 0 0 (qA K)) (F0 m 0 ls []) := by
  have hx := E.1
  have hb := E.2.1
  have hown := E.2.2.1
  have hts := E.2.2.2.2.1
  intro x1 B H locs ls  h hw hl
  rw [f_X2_four] at h
  refine lv_bipush (v := (24:Int32)) hx hb dX2_four_0 (by decide) ?_
  refine lv_istore_n (lv' := [(2, .int (24:Int32)), (0, .ref (K.2.1 1000)), (1, .int x1)]) hx hb dX2_four_2 rfl hl (by decide) rfl (fun ls hl => ?_)
  exact w_X2_four_3 hG hM E hr  _ _ _ _   h hw (lv_sub hl [1, 2, 0] rfl)

theorem m_X2_four (l : Launch) {K : QK} {G : State → Prop} (hG : QG G) (hM : QMl K) {A : QA} {rs : QX × QM} {L : QL} {x1 : Int32} {B : QA} {Bo : QA} (h : f_X2_four x1 B = some Bo) : MC l K G yX2_four (ws_ yX2_four cX2_four 3 none) 1 40 0 0 [.ref (K.2.1 1000), .int x1] (A, B, L, rs) (QR none (A, Bo, L, rs)) := by
  refine MC.of (by decide) (Nat.le_of_ble_eq_true rfl) (lv := [(0, .ref (K.2.1 1000)), (1, .int x1)]) rfl (fun p e s m below meth c ls E hr hl hw => ?_)
  exact w_X2_four_0 hG hM E hr _ _  h hw hl

def f_X2_feed (x1 : Int32) (x2 : Int32) (x3 : Int32) (x4 : Int32) (x5 : Int32) (B : QA) : Option (Int32 × QA) :=
  if ((B 1000 4) + (20:Int32)) ≤ (300:Int32) then (
  qb1 (f_X2_four x1 B) fun B1 =>
  qb1 (f_X2_four x2 B1) fun B3 =>
  qb1 (f_X2_four x3 B3) fun B5 =>
  qb1 (f_X2_four x4 B5) fun B7 =>
  qb1 (f_X2_four x5 B7) fun B9 =>
  some ((B9 1000 4), B9)) else (
  some ((-1:Int32), B))
set_option maxHeartbeats 4000000 in
theorem w_X2_feed_0 {p : Program} {l : Launch} {e : Env} {s : State} {m : MethodId} {args : Array Value} {below : List Frame} {meth : Method} {c : Code} {K : QK} {G : State → Prop} {A : QA} {rs : QX × QM} {L : QL} {ro : Int32} {Bo : QA} (hG : QG G) (hM : QMl K) (E : EV K G p s m args meth c cX2_feed "VaneCourtModel" 6) (hr : meth.sig.returnType = (some .int)) : ∀ (x1 : Int32) (x2 : Int32) (x3 : Int32) (x4 : Int32) (x5 : Int32) (B : QA) {H : Heap} {locs : List Loc} {ls : Array Slot}, f_X2_feed x1 x2 x3 x4 x5 B = some (ro, Bo) → WP K (A, B, L, rs) H locs → lv_has ls 6 [(0, .ref (K.2.1 1000)), (1, .int x1), (2, .int x2), (3, .int x3), (4, .int x4), (5, .int x5)] → W p l e (qrm 2 62 0 0) s m args below meth c H locs 0 0 (MQ below (QE K (QR (some (.int ro)) (A, Bo, L, rs))) args s 0 0 (qA K)) (F0 m 0 ls []) := by
  have hx := E.1
  have hb := E.2.1
  have hown := E.2.2.1
  have hts := E.2.2.2.2.1
  intro x1 x2 x3 x4 x5 B H locs ls  h hw hl
  rw [f_X2_feed] at h
  refine lv_aload_n hx hb dX2_feed_0 rfl (lv_at hl 0 rfl) ?_
  refine r_getM (v := .int (B 1000 4)) E hw hM 4 (by decide) q1357 rfl dX2_feed_1 ?_
  refine lv_bipush (v := (20:Int32)) hx hb dX2_feed_4 (by decide) ?_
  refine lv_iadd hx hb dX2_feed_6 ?_
  refine lv_sipush (v := (300:Int32)) hx hb dX2_feed_7 (by decide) ?_
  refine lv_icmp_le (tgt := 15) hx hb dX2_feed_10 (by decide) (fun c => ?_) (fun c => ?_)
  · have h := qi_t c h
    refine lv_aload_n hx hb dX2_feed_15 rfl (lv_at hl 0 rfl) ?_
    refine lv_iload_n hx hb dX2_feed_16 rfl (lv_at hl 1 rfl) ?_
    obtain ⟨B1, g2, h⟩ := qb1_s h
    refine d_V (As := [.int x1]) (v0 := none) (w0 := (A, B1, L, rs)) hG E hw hl (m_X2_four l hG hM  g2) (qM0 hM) rfl (cwV 1 hts (lw_V q1491 q1493 qs59 q140 q1494) rfl rfl rfl ⟨rfl, kd_X2_four⟩ ⟨Nat.le_of_ble_eq_true rfl, Nat.le_of_ble_eq_true rfl⟩) rfl (rest := []) (st1 := []) rfl rfl rfl dX2_feed_17 ⟨Nat.le_of_ble_eq_true rfl, Nat.le_of_ble_eq_true rfl⟩ (fun H locs hw => ?_)
    refine lv_aload_n hx hb dX2_feed_20 rfl (lv_at hl 0 rfl) ?_
    refine lv_iload_n hx hb dX2_feed_21 rfl (lv_at hl 2 rfl) ?_
    obtain ⟨B3, g4, h⟩ := qb1_s h
    refine d_V (As := [.int x2]) (v0 := none) (w0 := (A, B3, L, rs)) hG E hw hl (m_X2_four l hG hM  g4) (qM0 hM) rfl (cwV 1 hts (lw_V q1491 q1493 qs59 q140 q1494) rfl rfl rfl ⟨rfl, kd_X2_four⟩ ⟨Nat.le_of_ble_eq_true rfl, Nat.le_of_ble_eq_true rfl⟩) rfl (rest := []) (st1 := []) rfl rfl rfl dX2_feed_22 ⟨Nat.le_of_ble_eq_true rfl, Nat.le_of_ble_eq_true rfl⟩ (fun H locs hw => ?_)
    refine lv_aload_n hx hb dX2_feed_25 rfl (lv_at hl 0 rfl) ?_
    refine lv_iload_n hx hb dX2_feed_26 rfl (lv_at hl 3 rfl) ?_
    obtain ⟨B5, g6, h⟩ := qb1_s h
    refine d_V (As := [.int x3]) (v0 := none) (w0 := (A, B5, L, rs)) hG E hw hl (m_X2_four l hG hM  g6) (qM0 hM) rfl (cwV 1 hts (lw_V q1491 q1493 qs59 q140 q1494) rfl rfl rfl ⟨rfl, kd_X2_four⟩ ⟨Nat.le_of_ble_eq_true rfl, Nat.le_of_ble_eq_true rfl⟩) rfl (rest := []) (st1 := []) rfl rfl rfl dX2_feed_27 ⟨Nat.le_of_ble_eq_true rfl, Nat.le_of_ble_eq_true rfl⟩ (fun H locs hw => ?_)
    refine lv_aload_n hx hb dX2_feed_30 rfl (lv_at hl 0 rfl) ?_
    refine lv_iload hx hb dX2_feed_31 (lv_at hl 4 rfl) ?_
    obtain ⟨B7, g8, h⟩ := qb1_s h
    refine d_V (As := [.int x4]) (v0 := none) (w0 := (A, B7, L, rs)) hG E hw hl (m_X2_four l hG hM  g8) (qM0 hM) rfl (cwV 1 hts (lw_V q1491 q1493 qs59 q140 q1494) rfl rfl rfl ⟨rfl, kd_X2_four⟩ ⟨Nat.le_of_ble_eq_true rfl, Nat.le_of_ble_eq_true rfl⟩) rfl (rest := []) (st1 := []) rfl rfl rfl dX2_feed_33 ⟨Nat.le_of_ble_eq_true rfl, Nat.le_of_ble_eq_true rfl⟩ (fun H locs hw => ?_)
    refine lv_aload_n hx hb dX2_feed_36 rfl (lv_at hl 0 rfl) ?_
    refine lv_iload hx hb dX2_feed_37 (lv_at hl 5 rfl) ?_
    obtain ⟨B9, g10, h⟩ := qb1_s h
    refine d_V (As := [.int x5]) (v0 := none) (w0 := (A, B9, L, rs)) hG E hw hl (m_X2_four l hG hM  g10) (qM0 hM) rfl (cwV 1 hts (lw_V q1491 q1493 qs59 q140 q1494) rfl rfl rfl ⟨rfl, kd_X2_four⟩ ⟨Nat.le_of_ble_eq_true rfl, Nat.le_of_ble_eq_true rfl⟩) rfl (rest := []) (st1 := []) rfl rfl rfl dX2_feed_39 ⟨Nat.le_of_ble_eq_true rfl, Nat.le_of_ble_eq_true rfl⟩ (fun H locs hw => ?_)
    refine lv_aload_n hx hb dX2_feed_42 rfl (lv_at hl 0 rfl) ?_
    refine r_getM (v := .int (B9 1000 4)) E hw hM 4 (by decide) q1357 rfl dX2_feed_43 ?_
    have h := Option.some.inj h
    obtain ⟨h1, h2⟩ := Prod.mk.inj h
    exact d_iret E hr rfl hw h1 (by rw [h2]) dX2_feed_46
  · have h := qi_f c h
    refine lv_iconst (v := (-1:Int32)) hx hb dX2_feed_13 (by decide) ?_
    have h := Option.some.inj h
    obtain ⟨h1, h2⟩ := Prod.mk.inj h
    exact d_iret E hr rfl hw h1 (by rw [h2]) dX2_feed_14

theorem m_X2_feed (l : Launch) {K : QK} {G : State → Prop} (hG : QG G) (hM : QMl K) {A : QA} {rs : QX × QM} {L : QL} {x1 : Int32} {x2 : Int32} {x3 : Int32} {x4 : Int32} {x5 : Int32} {B : QA} {ro : Int32} {Bo : QA} (h : f_X2_feed x1 x2 x3 x4 x5 B = some (ro, Bo)) : MC l K G yX2_feed (ws_ yX2_feed cX2_feed 6 (some .int)) 2 62 0 0 [.ref (K.2.1 1000), .int x1, .int x2, .int x3, .int x4, .int x5] (A, B, L, rs) (QR (some (.int ro)) (A, Bo, L, rs)) := by
  refine MC.of (by decide) (Nat.le_of_ble_eq_true rfl) (lv := [(0, .ref (K.2.1 1000)), (1, .int x1), (2, .int x2), (3, .int x3), (4, .int x4), (5, .int x5)]) rfl (fun p e s m below meth c ls E hr hl hw => ?_)
  exact w_X2_feed_0 hG hM E hr _ _ _ _ _ _  h hw hl

def f_X2_end (x1 : Int32) (B : QA) : Option (Int32 × QA) :=
  qb1 (f_X2_isIn x1 (0:Int32) (B 1000 4)) fun u1 =>
  if u1 = (0:Int32) then (
  some ((-1:Int32), B)) else (
  qlet (qu B 1000 4 x1) fun B3 =>
  some (x1, B3))
set_option maxHeartbeats 4000000 in
theorem w_X2_end_0 {p : Program} {l : Launch} {e : Env} {s : State} {m : MethodId} {args : Array Value} {below : List Frame} {meth : Method} {c : Code} {K : QK} {G : State → Prop} {A : QA} {rs : QX × QM} {L : QL} {ro : Int32} {Bo : QA} (hG : QG G) (hM : QMl K) (E : EV K G p s m args meth c cX2_end "VaneCourtModel" 2) (hr : meth.sig.returnType = (some .int)) : ∀ (x1 : Int32) (B : QA) {H : Heap} {locs : List Loc} {ls : Array Slot}, f_X2_end x1 B = some (ro, Bo) → WP K (A, B, L, rs) H locs → lv_has ls 2 [(0, .ref (K.2.1 1000)), (1, .int x1)] → W p l e (qrm 2 62 0 0) s m args below meth c H locs 0 0 (MQ below (QE K (QR (some (.int ro)) (A, Bo, L, rs))) args s 0 0 (qA K)) (F0 m 0 ls []) := by
  have hx := E.1
  have hb := E.2.1
  have hown := E.2.2.1
  have hts := E.2.2.2.2.1
  intro x1 B H locs ls  h hw hl
  rw [f_X2_end] at h
  refine lv_iload_n hx hb dX2_end_0 rfl (lv_at hl 1 rfl) ?_
  refine lv_iconst (v := (0:Int32)) hx hb dX2_end_1 (by decide) ?_
  refine lv_aload_n hx hb dX2_end_2 rfl (lv_at hl 0 rfl) ?_
  refine r_getM (v := .int (B 1000 4)) E hw hM 4 (by decide) q1357 rfl dX2_end_3 ?_
  obtain ⟨u1, g2, h⟩ := qb1_s h
  refine d_S (As := [.int x1, .int (0:Int32), .int (B 1000 4)]) (v0 := some (.int u1)) (w0 := (A, B, L, rs)) hG E hw hl (m_X2_isIn l hG hM  g2) (va_cwS 3 hts (lw_S q1480 q1481 q140 q1482) rfl rfl rfl kd_X2_isIn ⟨Nat.le_of_ble_eq_true rfl, Nat.le_of_ble_eq_true rfl⟩) rfl (rest := []) (st1 := [.int u1]) rfl rfl rfl dX2_end_6 ⟨Nat.le_of_ble_eq_true rfl, Nat.le_of_ble_eq_true rfl⟩ (fun H locs hw => ?_)
  refine lv_if_ne (tgt := 14) hx hb dX2_end_9 (by decide) (fun c => ?_) (fun c => ?_)
  · have h := qi_f c h
    refine lv_aload_n hx hb dX2_end_14 rfl (lv_at hl 0 rfl) ?_
    refine lv_iload_n hx hb dX2_end_15 rfl (lv_at hl 1 rfl) ?_
    obtain ⟨B3, e4, h⟩ := qlet_s h
    refine r_putM E hw hM 4 (by decide) q1357 rfl rfl rfl (fun _ _ => rfl) dX2_end_16 (fun H locs hw => ?_)
    rw [← e4] at hw
    refine lv_iload_n hx hb dX2_end_19 rfl (lv_at hl 1 rfl) ?_
    have h := Option.some.inj h
    obtain ⟨h1, h2⟩ := Prod.mk.inj h
    exact d_iret E hr rfl hw h1 (by rw [h2]) dX2_end_20
  · have h := qi_t c h
    refine lv_iconst (v := (-1:Int32)) hx hb dX2_end_12 (by decide) ?_
    have h := Option.some.inj h
    obtain ⟨h1, h2⟩ := Prod.mk.inj h
    exact d_iret E hr rfl hw h1 (by rw [h2]) dX2_end_13

theorem m_X2_end (l : Launch) {K : QK} {G : State → Prop} (hG : QG G) (hM : QMl K) {A : QA} {rs : QX × QM} {L : QL} {x1 : Int32} {B : QA} {ro : Int32} {Bo : QA} (h : f_X2_end x1 B = some (ro, Bo)) : MC l K G yX2_end (ws_ yX2_end cX2_end 2 (some .int)) 2 62 0 0 [.ref (K.2.1 1000), .int x1] (A, B, L, rs) (QR (some (.int ro)) (A, Bo, L, rs)) := by
  refine MC.of (by decide) (Nat.le_of_ble_eq_true rfl) (lv := [(0, .ref (K.2.1 1000)), (1, .int x1)]) rfl (fun p e s m below meth c ls E hr hl hw => ?_)
  exact w_X2_end_0 hG hM E hr _ _  h hw hl

def f_X2_byteAt (x1 : Int32) (B : QA) : Option (Int32) :=
  if (B 1000 4) ≤ x1 then (
  some ((-1:Int32))) else (
  qif (qok x1 300) <|
  some ((B 1004 x1.toNatClampNeg)))
set_option maxHeartbeats 4000000 in
theorem w_X2_byteAt_0 {p : Program} {l : Launch} {e : Env} {s : State} {m : MethodId} {args : Array Value} {below : List Frame} {meth : Method} {c : Code} {K : QK} {G : State → Prop} {A : QA} {rs : QX × QM} {L : QL} {ro : Int32} (hG : QG G) (hM : QMl K) (E : EV K G p s m args meth c cX2_byteAt "VaneCourtModel" 2) (hr : meth.sig.returnType = (some .int)) : ∀ (x1 : Int32) (B : QA) {H : Heap} {locs : List Loc} {ls : Array Slot}, f_X2_byteAt x1 B = some ro → WP K (A, B, L, rs) H locs → lv_has ls 2 [(0, .ref (K.2.1 1000)), (1, .int x1)] → W p l e (qrm 1 40 0 0) s m args below meth c H locs 0 0 (MQ below (QE K (QR (some (.int ro)) (A, B, L, rs))) args s 0 0 (qA K)) (F0 m 0 ls []) := by
  have hx := E.1
  have hb := E.2.1
  have hown := E.2.2.1
  have hts := E.2.2.2.2.1
  intro x1 B H locs ls  h hw hl
  rw [f_X2_byteAt] at h
  refine lv_iload_n hx hb dX2_byteAt_0 rfl (lv_at hl 1 rfl) ?_
  refine lv_aload_n hx hb dX2_byteAt_1 rfl (lv_at hl 0 rfl) ?_
  refine r_getM (v := .int (B 1000 4)) E hw hM 4 (by decide) q1357 rfl dX2_byteAt_2 ?_
  refine lv_icmp_ge (tgt := 17) hx hb dX2_byteAt_5 (by decide) (fun c => ?_) (fun c => ?_)
  · have h := qi_t c h
    refine lv_iconst (v := (-1:Int32)) hx hb dX2_byteAt_17 (by decide) ?_
    have h := Option.some.inj h
    have h1 := h
    exact d_iret E hr rfl hw h1 rfl dX2_byteAt_18
  · have h := qi_f c h
    refine lv_aload_n hx hb dX2_byteAt_8 rfl (lv_at hl 0 rfl) ?_
    refine r_getM (v := .ref (K.2.1 1004)) E hw hM 3 (by decide) q1356 rfl dX2_byteAt_9 ?_
    refine lv_iload_n hx hb dX2_byteAt_12 rfl (lv_at hl 1 rfl) ?_
    obtain ⟨z1, h⟩ := qif_s h
    refine r_iald (j := x1.toNatClampNeg) E hw (qi_1004 hM).at (qok_in z1) rfl dX2_byteAt_13 ?_
    refine lv_goto (tgt := 18) hx hb dX2_byteAt_14 (by decide) ?_
    have h := Option.some.inj h
    have h1 := h
    exact d_iret E hr rfl hw h1 rfl dX2_byteAt_18

theorem m_X2_byteAt (l : Launch) {K : QK} {G : State → Prop} (hG : QG G) (hM : QMl K) {A : QA} {rs : QX × QM} {L : QL} {x1 : Int32} {B : QA} {ro : Int32} (h : f_X2_byteAt x1 B = some ro) : MC l K G yX2_byteAt (ws_ yX2_byteAt cX2_byteAt 2 (some .int)) 1 40 0 0 [.ref (K.2.1 1000), .int x1] (A, B, L, rs) (QR (some (.int ro)) (A, B, L, rs)) := by
  refine MC.of (by decide) (Nat.le_of_ble_eq_true rfl) (lv := [(0, .ref (K.2.1 1000)), (1, .int x1)]) rfl (fun p e s m below meth c ls E hr hl hw => ?_)
  exact w_X2_byteAt_0 hG hM E hr _ _  h hw hl

def f_X2_isFigure (x0 : Int32) : Option (Int32) :=
  if x0 < (48:Int32) then (
  some ((0:Int32))) else (
  if (57:Int32) < x0 then (
  some ((0:Int32))) else (
  some ((1:Int32))))
set_option maxHeartbeats 4000000 in
theorem w_X2_isFigure_0 {p : Program} {l : Launch} {e : Env} {s : State} {m : MethodId} {args : Array Value} {below : List Frame} {meth : Method} {c : Code} {K : QK} {G : State → Prop} {A : QA} {rs : QX × QM} {B : QA} {L : QL} {ro : Int32} (hG : QG G) (hM : QMl K) (E : EV K G p s m args meth c cX2_isFigure "VaneCourtModel" 1) (hr : meth.sig.returnType = (some .boolean)) : ∀ (x0 : Int32) {H : Heap} {locs : List Loc} {ls : Array Slot}, f_X2_isFigure x0 = some ro → WP K (A, B, L, rs) H locs → lv_has ls 1 [(0, .int x0)] → W p l e (qrm 1 40 0 0) s m args below meth c H locs 0 0 (MQ below (QE K (QR (some (.int ro)) (A, B, L, rs))) args s 0 0 (qA K)) (F0 m 0 ls []) := by
  have hx := E.1
  have hb := E.2.1
  have hown := E.2.2.1
  have hts := E.2.2.2.2.1
  intro x0 H locs ls  h hw hl
  rw [f_X2_isFigure] at h
  refine lv_iload_n hx hb dX2_isFigure_0 rfl (lv_at hl 0 rfl) ?_
  refine lv_bipush (v := (48:Int32)) hx hb dX2_isFigure_1 (by decide) ?_
  refine lv_icmp_lt (tgt := 16) hx hb dX2_isFigure_3 (by decide) (fun c => ?_) (fun c => ?_)
  · have h := qi_t c h
    refine lv_iconst (v := (0:Int32)) hx hb dX2_isFigure_16 (by decide) ?_
    have h := Option.some.inj h
    have h1 := h
    exact d_iret E hr rfl hw h1 rfl dX2_isFigure_17
  · have h := qi_f c h
    refine lv_iload_n hx hb dX2_isFigure_6 rfl (lv_at hl 0 rfl) ?_
    refine lv_bipush (v := (57:Int32)) hx hb dX2_isFigure_7 (by decide) ?_
    refine lv_icmp_gt (tgt := 16) hx hb dX2_isFigure_9 (by decide) (fun c => ?_) (fun c => ?_)
    · have h := qi_t c h
      refine lv_iconst (v := (0:Int32)) hx hb dX2_isFigure_16 (by decide) ?_
      have h := Option.some.inj h
      have h1 := h
      exact d_iret E hr rfl hw h1 rfl dX2_isFigure_17
    · have h := qi_f c h
      refine lv_iconst (v := (1:Int32)) hx hb dX2_isFigure_12 (by decide) ?_
      refine lv_goto (tgt := 17) hx hb dX2_isFigure_13 (by decide) ?_
      have h := Option.some.inj h
      have h1 := h
      exact d_iret E hr rfl hw h1 rfl dX2_isFigure_17

theorem m_X2_isFigure (l : Launch) {K : QK} {G : State → Prop} (hG : QG G) (hM : QMl K) {A : QA} {rs : QX × QM} {B : QA} {L : QL} {x0 : Int32} {ro : Int32} (h : f_X2_isFigure x0 = some ro) : MC l K G yX2_isFigure (ws_ yX2_isFigure cX2_isFigure 1 (some .boolean)) 1 40 0 0 [.int x0] (A, B, L, rs) (QR (some (.int ro)) (A, B, L, rs)) := by
  refine MC.of (by decide) (Nat.le_of_ble_eq_true rfl) (lv := [(0, .int x0)]) rfl (fun p e s m below meth c ls E hr hl hw => ?_)
  exact w_X2_isFigure_0 hG hM E hr _  h hw hl

def f_X2_isLetterByte_12 (x0 : Int32) : Option (Int32) :=
  if x0 < (65:Int32) then (
  some ((0:Int32))) else (
  if (90:Int32) < x0 then (
  some ((0:Int32))) else (
  some ((1:Int32))))
set_option maxHeartbeats 4000000 in
theorem w_X2_isLetterByte_12 {p : Program} {l : Launch} {e : Env} {s : State} {m : MethodId} {args : Array Value} {below : List Frame} {meth : Method} {c : Code} {K : QK} {G : State → Prop} {A : QA} {rs : QX × QM} {B : QA} {L : QL} {ro : Int32} (hG : QG G) (hM : QMl K) (E : EV K G p s m args meth c cX2_isLetterByte "VaneCourtModel" 1) (hr : meth.sig.returnType = (some .boolean)) : ∀ (x0 : Int32) {H : Heap} {locs : List Loc} {ls : Array Slot}, f_X2_isLetterByte_12 x0 = some ro → WP K (A, B, L, rs) H locs → lv_has ls 1 [(0, .int x0)] → W p l e (qrm 1 40 0 0) s m args below meth c H locs 0 0 (MQ below (QE K (QR (some (.int ro)) (A, B, L, rs))) args s 0 0 (qA K)) (F0 m 12 ls []) := by
  have hx := E.1
  have hb := E.2.1
  have hown := E.2.2.1
  have hts := E.2.2.2.2.1
  intro x0 H locs ls  h hw hl
  rw [f_X2_isLetterByte_12] at h
  refine lv_iload_n hx hb dX2_isLetterByte_12 rfl (lv_at hl 0 rfl) ?_
  refine lv_bipush (v := (65:Int32)) hx hb dX2_isLetterByte_13 (by decide) ?_
  refine lv_icmp_lt (tgt := 28) hx hb dX2_isLetterByte_15 (by decide) (fun c => ?_) (fun c => ?_)
  · have h := qi_t c h
    refine lv_iconst (v := (0:Int32)) hx hb dX2_isLetterByte_28 (by decide) ?_
    have h := Option.some.inj h
    have h1 := h
    exact d_iret E hr rfl hw h1 rfl dX2_isLetterByte_29
  · have h := qi_f c h
    refine lv_iload_n hx hb dX2_isLetterByte_18 rfl (lv_at hl 0 rfl) ?_
    refine lv_bipush (v := (90:Int32)) hx hb dX2_isLetterByte_19 (by decide) ?_
    refine lv_icmp_gt (tgt := 28) hx hb dX2_isLetterByte_21 (by decide) (fun c => ?_) (fun c => ?_)
    · have h := qi_t c h
      refine lv_iconst (v := (0:Int32)) hx hb dX2_isLetterByte_28 (by decide) ?_
      have h := Option.some.inj h
      have h1 := h
      exact d_iret E hr rfl hw h1 rfl dX2_isLetterByte_29
    · have h := qi_f c h
      refine lv_iconst (v := (1:Int32)) hx hb dX2_isLetterByte_24 (by decide) ?_
      refine lv_goto (tgt := 29) hx hb dX2_isLetterByte_25 (by decide) ?_
      have h := Option.some.inj h
      have h1 := h
      exact d_iret E hr rfl hw h1 rfl dX2_isLetterByte_29

def f_X2_isLetterByte (x0 : Int32) : Option (Int32) :=
  if x0 < (97:Int32) then (
  f_X2_isLetterByte_12 x0) else (
  if x0 ≤ (122:Int32) then (
  some ((1:Int32))) else (
  f_X2_isLetterByte_12 x0))
set_option maxHeartbeats 4000000 in
theorem w_X2_isLetterByte_0 {p : Program} {l : Launch} {e : Env} {s : State} {m : MethodId} {args : Array Value} {below : List Frame} {meth : Method} {c : Code} {K : QK} {G : State → Prop} {A : QA} {rs : QX × QM} {B : QA} {L : QL} {ro : Int32} (hG : QG G) (hM : QMl K) (E : EV K G p s m args meth c cX2_isLetterByte "VaneCourtModel" 1) (hr : meth.sig.returnType = (some .boolean)) : ∀ (x0 : Int32) {H : Heap} {locs : List Loc} {ls : Array Slot}, f_X2_isLetterByte x0 = some ro → WP K (A, B, L, rs) H locs → lv_has ls 1 [(0, .int x0)] → W p l e (qrm 1 40 0 0) s m args below meth c H locs 0 0 (MQ below (QE K (QR (some (.int ro)) (A, B, L, rs))) args s 0 0 (qA K)) (F0 m 0 ls []) := by
  have hx := E.1
  have hb := E.2.1
  have hown := E.2.2.1
  have hts := E.2.2.2.2.1
  intro x0 H locs ls  h hw hl
  rw [f_X2_isLetterByte] at h
  refine lv_iload_n hx hb dX2_isLetterByte_0 rfl (lv_at hl 0 rfl) ?_
  refine lv_bipush (v := (97:Int32)) hx hb dX2_isLetterByte_1 (by decide) ?_
  refine lv_icmp_lt (tgt := 12) hx hb dX2_isLetterByte_3 (by decide) (fun c => ?_) (fun c => ?_)
  · have h := qi_t c h
    exact w_X2_isLetterByte_12 hG hM E hr  _   h hw (lv_sub hl [0] rfl)
  · have h := qi_f c h
    refine lv_iload_n hx hb dX2_isLetterByte_6 rfl (lv_at hl 0 rfl) ?_
    refine lv_bipush (v := (122:Int32)) hx hb dX2_isLetterByte_7 (by decide) ?_
    refine lv_icmp_le (tgt := 24) hx hb dX2_isLetterByte_9 (by decide) (fun c => ?_) (fun c => ?_)
    · have h := qi_t c h
      refine lv_iconst (v := (1:Int32)) hx hb dX2_isLetterByte_24 (by decide) ?_
      refine lv_goto (tgt := 29) hx hb dX2_isLetterByte_25 (by decide) ?_
      have h := Option.some.inj h
      have h1 := h
      exact d_iret E hr rfl hw h1 rfl dX2_isLetterByte_29
    · have h := qi_f c h
      exact w_X2_isLetterByte_12 hG hM E hr  _   h hw (lv_sub hl [0] rfl)

theorem m_X2_isLetterByte (l : Launch) {K : QK} {G : State → Prop} (hG : QG G) (hM : QMl K) {A : QA} {rs : QX × QM} {B : QA} {L : QL} {x0 : Int32} {ro : Int32} (h : f_X2_isLetterByte x0 = some ro) : MC l K G yX2_isLetterByte (ws_ yX2_isLetterByte cX2_isLetterByte 1 (some .boolean)) 1 40 0 0 [.int x0] (A, B, L, rs) (QR (some (.int ro)) (A, B, L, rs)) := by
  refine MC.of (by decide) (Nat.le_of_ble_eq_true rfl) (lv := [(0, .int x0)]) rfl (fun p e s m below meth c ls E hr hl hw => ?_)
  exact w_X2_isLetterByte_0 hG hM E hr _  h hw hl

def f_X2_isSign (x0 : Int32) : Option (Int32) :=
  if x0 = (35:Int32) then (
  some ((1:Int32))) else (
  if x0 = (40:Int32) then (
  some ((1:Int32))) else (
  if x0 = (41:Int32) then (
  some ((1:Int32))) else (
  if x0 = (42:Int32) then (
  some ((1:Int32))) else (
  if x0 = (43:Int32) then (
  some ((1:Int32))) else (
  if x0 = (44:Int32) then (
  some ((1:Int32))) else (
  if x0 = (45:Int32) then (
  some ((1:Int32))) else (
  if x0 = (47:Int32) then (
  some ((1:Int32))) else (
  if x0 = (58:Int32) then (
  some ((1:Int32))) else (
  if x0 = (59:Int32) then (
  some ((1:Int32))) else (
  if x0 = (60:Int32) then (
  some ((1:Int32))) else (
  if x0 = (61:Int32) then (
  some ((1:Int32))) else (
  if x0 = (62:Int32) then (
  some ((1:Int32))) else (
  some ((0:Int32)))))))))))))))
set_option maxHeartbeats 4000000 in
theorem w_X2_isSign_0 {p : Program} {l : Launch} {e : Env} {s : State} {m : MethodId} {args : Array Value} {below : List Frame} {meth : Method} {c : Code} {K : QK} {G : State → Prop} {A : QA} {rs : QX × QM} {B : QA} {L : QL} {ro : Int32} (hG : QG G) (hM : QMl K) (E : EV K G p s m args meth c cX2_isSign "VaneCourtModel" 1) (hr : meth.sig.returnType = (some .boolean)) : ∀ (x0 : Int32) {H : Heap} {locs : List Loc} {ls : Array Slot}, f_X2_isSign x0 = some ro → WP K (A, B, L, rs) H locs → lv_has ls 1 [(0, .int x0)] → W p l e (qrm 1 40 0 0) s m args below meth c H locs 0 0 (MQ below (QE K (QR (some (.int ro)) (A, B, L, rs))) args s 0 0 (qA K)) (F0 m 0 ls []) := by
  have hx := E.1
  have hb := E.2.1
  have hown := E.2.2.1
  have hts := E.2.2.2.2.1
  intro x0 H locs ls  h hw hl
  rw [f_X2_isSign] at h
  refine lv_iload_n hx hb dX2_isSign_0 rfl (lv_at hl 0 rfl) ?_
  by_cases c : x0 = (35:Int32)
  · have h := qi_t c h
    refine lv_tableIn (tgt := 128) (off := 127) hx hb dX2_isSign_1 (by rw [c]; decide) (by rw [c]; decide) (by rw [c]; rfl) (by decide) ?_
    refine lv_iconst (v := (1:Int32)) hx hb dX2_isSign_128 (by decide) ?_
    have h := Option.some.inj h
    have h1 := h
    exact d_iret E hr rfl hw h1 rfl dX2_isSign_129
  · have h := qi_f c h
    have n35 := qne32 c
    by_cases c : x0 = (40:Int32)
    · have h := qi_t c h
      refine lv_tableIn (tgt := 128) (off := 127) hx hb dX2_isSign_1 (by rw [c]; decide) (by rw [c]; decide) (by rw [c]; rfl) (by decide) ?_
      refine lv_iconst (v := (1:Int32)) hx hb dX2_isSign_128 (by decide) ?_
      have h := Option.some.inj h
      have h1 := h
      exact d_iret E hr rfl hw h1 rfl dX2_isSign_129
    · have h := qi_f c h
      have n40 := qne32 c
      by_cases c : x0 = (41:Int32)
      · have h := qi_t c h
        refine lv_tableIn (tgt := 128) (off := 127) hx hb dX2_isSign_1 (by rw [c]; decide) (by rw [c]; decide) (by rw [c]; rfl) (by decide) ?_
        refine lv_iconst (v := (1:Int32)) hx hb dX2_isSign_128 (by decide) ?_
        have h := Option.some.inj h
        have h1 := h
        exact d_iret E hr rfl hw h1 rfl dX2_isSign_129
      · have h := qi_f c h
        have n41 := qne32 c
        by_cases c : x0 = (42:Int32)
        · have h := qi_t c h
          refine lv_tableIn (tgt := 128) (off := 127) hx hb dX2_isSign_1 (by rw [c]; decide) (by rw [c]; decide) (by rw [c]; rfl) (by decide) ?_
          refine lv_iconst (v := (1:Int32)) hx hb dX2_isSign_128 (by decide) ?_
          have h := Option.some.inj h
          have h1 := h
          exact d_iret E hr rfl hw h1 rfl dX2_isSign_129
        · have h := qi_f c h
          have n42 := qne32 c
          by_cases c : x0 = (43:Int32)
          · have h := qi_t c h
            refine lv_tableIn (tgt := 128) (off := 127) hx hb dX2_isSign_1 (by rw [c]; decide) (by rw [c]; decide) (by rw [c]; rfl) (by decide) ?_
            refine lv_iconst (v := (1:Int32)) hx hb dX2_isSign_128 (by decide) ?_
            have h := Option.some.inj h
            have h1 := h
            exact d_iret E hr rfl hw h1 rfl dX2_isSign_129
          · have h := qi_f c h
            have n43 := qne32 c
            by_cases c : x0 = (44:Int32)
            · have h := qi_t c h
              refine lv_tableIn (tgt := 128) (off := 127) hx hb dX2_isSign_1 (by rw [c]; decide) (by rw [c]; decide) (by rw [c]; rfl) (by decide) ?_
              refine lv_iconst (v := (1:Int32)) hx hb dX2_isSign_128 (by decide) ?_
              have h := Option.some.inj h
              have h1 := h
              exact d_iret E hr rfl hw h1 rfl dX2_isSign_129
            · have h := qi_f c h
              have n44 := qne32 c
              by_cases c : x0 = (45:Int32)
              · have h := qi_t c h
                refine lv_tableIn (tgt := 128) (off := 127) hx hb dX2_isSign_1 (by rw [c]; decide) (by rw [c]; decide) (by rw [c]; rfl) (by decide) ?_
                refine lv_iconst (v := (1:Int32)) hx hb dX2_isSign_128 (by decide) ?_
                have h := Option.some.inj h
                have h1 := h
                exact d_iret E hr rfl hw h1 rfl dX2_isSign_129
              · have h := qi_f c h
                have n45 := qne32 c
                by_cases c : x0 = (47:Int32)
                · have h := qi_t c h
                  refine lv_tableIn (tgt := 128) (off := 127) hx hb dX2_isSign_1 (by rw [c]; decide) (by rw [c]; decide) (by rw [c]; rfl) (by decide) ?_
                  refine lv_iconst (v := (1:Int32)) hx hb dX2_isSign_128 (by decide) ?_
                  have h := Option.some.inj h
                  have h1 := h
                  exact d_iret E hr rfl hw h1 rfl dX2_isSign_129
                · have h := qi_f c h
                  have n47 := qne32 c
                  by_cases c : x0 = (58:Int32)
                  · have h := qi_t c h
                    refine lv_tableIn (tgt := 128) (off := 127) hx hb dX2_isSign_1 (by rw [c]; decide) (by rw [c]; decide) (by rw [c]; rfl) (by decide) ?_
                    refine lv_iconst (v := (1:Int32)) hx hb dX2_isSign_128 (by decide) ?_
                    have h := Option.some.inj h
                    have h1 := h
                    exact d_iret E hr rfl hw h1 rfl dX2_isSign_129
                  · have h := qi_f c h
                    have n58 := qne32 c
                    by_cases c : x0 = (59:Int32)
                    · have h := qi_t c h
                      refine lv_tableIn (tgt := 128) (off := 127) hx hb dX2_isSign_1 (by rw [c]; decide) (by rw [c]; decide) (by rw [c]; rfl) (by decide) ?_
                      refine lv_iconst (v := (1:Int32)) hx hb dX2_isSign_128 (by decide) ?_
                      have h := Option.some.inj h
                      have h1 := h
                      exact d_iret E hr rfl hw h1 rfl dX2_isSign_129
                    · have h := qi_f c h
                      have n59 := qne32 c
                      by_cases c : x0 = (60:Int32)
                      · have h := qi_t c h
                        refine lv_tableIn (tgt := 128) (off := 127) hx hb dX2_isSign_1 (by rw [c]; decide) (by rw [c]; decide) (by rw [c]; rfl) (by decide) ?_
                        refine lv_iconst (v := (1:Int32)) hx hb dX2_isSign_128 (by decide) ?_
                        have h := Option.some.inj h
                        have h1 := h
                        exact d_iret E hr rfl hw h1 rfl dX2_isSign_129
                      · have h := qi_f c h
                        have n60 := qne32 c
                        by_cases c : x0 = (61:Int32)
                        · have h := qi_t c h
                          refine lv_tableIn (tgt := 128) (off := 127) hx hb dX2_isSign_1 (by rw [c]; decide) (by rw [c]; decide) (by rw [c]; rfl) (by decide) ?_
                          refine lv_iconst (v := (1:Int32)) hx hb dX2_isSign_128 (by decide) ?_
                          have h := Option.some.inj h
                          have h1 := h
                          exact d_iret E hr rfl hw h1 rfl dX2_isSign_129
                        · have h := qi_f c h
                          have n61 := qne32 c
                          by_cases c : x0 = (62:Int32)
                          · have h := qi_t c h
                            refine lv_tableIn (tgt := 128) (off := 127) hx hb dX2_isSign_1 (by rw [c]; decide) (by rw [c]; decide) (by rw [c]; rfl) (by decide) ?_
                            refine lv_iconst (v := (1:Int32)) hx hb dX2_isSign_128 (by decide) ?_
                            have h := Option.some.inj h
                            have h1 := h
                            exact d_iret E hr rfl hw h1 rfl dX2_isSign_129
                          · have h := qi_f c h
                            have n62 := qne32 c
                            by_cases c : x0 = (36:Int32)
                            · refine lv_tableIn (tgt := 130) (off := 129) hx hb dX2_isSign_1 (by rw [c]; decide) (by rw [c]; decide) (by rw [c]; rfl) (by decide) ?_
                              refine lv_iconst (v := (0:Int32)) hx hb dX2_isSign_130 (by decide) ?_
                              have h := Option.some.inj h
                              have h1 := h
                              exact d_iret E hr rfl hw h1 rfl dX2_isSign_131
                            · have n36 := qne32 c
                              by_cases c : x0 = (37:Int32)
                              · refine lv_tableIn (tgt := 130) (off := 129) hx hb dX2_isSign_1 (by rw [c]; decide) (by rw [c]; decide) (by rw [c]; rfl) (by decide) ?_
                                refine lv_iconst (v := (0:Int32)) hx hb dX2_isSign_130 (by decide) ?_
                                have h := Option.some.inj h
                                have h1 := h
                                exact d_iret E hr rfl hw h1 rfl dX2_isSign_131
                              · have n37 := qne32 c
                                by_cases c : x0 = (38:Int32)
                                · refine lv_tableIn (tgt := 130) (off := 129) hx hb dX2_isSign_1 (by rw [c]; decide) (by rw [c]; decide) (by rw [c]; rfl) (by decide) ?_
                                  refine lv_iconst (v := (0:Int32)) hx hb dX2_isSign_130 (by decide) ?_
                                  have h := Option.some.inj h
                                  have h1 := h
                                  exact d_iret E hr rfl hw h1 rfl dX2_isSign_131
                                · have n38 := qne32 c
                                  by_cases c : x0 = (39:Int32)
                                  · refine lv_tableIn (tgt := 130) (off := 129) hx hb dX2_isSign_1 (by rw [c]; decide) (by rw [c]; decide) (by rw [c]; rfl) (by decide) ?_
                                    refine lv_iconst (v := (0:Int32)) hx hb dX2_isSign_130 (by decide) ?_
                                    have h := Option.some.inj h
                                    have h1 := h
                                    exact d_iret E hr rfl hw h1 rfl dX2_isSign_131
                                  · have n39 := qne32 c
                                    by_cases c : x0 = (46:Int32)
                                    · refine lv_tableIn (tgt := 130) (off := 129) hx hb dX2_isSign_1 (by rw [c]; decide) (by rw [c]; decide) (by rw [c]; rfl) (by decide) ?_
                                      refine lv_iconst (v := (0:Int32)) hx hb dX2_isSign_130 (by decide) ?_
                                      have h := Option.some.inj h
                                      have h1 := h
                                      exact d_iret E hr rfl hw h1 rfl dX2_isSign_131
                                    · have n46 := qne32 c
                                      by_cases c : x0 = (48:Int32)
                                      · refine lv_tableIn (tgt := 130) (off := 129) hx hb dX2_isSign_1 (by rw [c]; decide) (by rw [c]; decide) (by rw [c]; rfl) (by decide) ?_
                                        refine lv_iconst (v := (0:Int32)) hx hb dX2_isSign_130 (by decide) ?_
                                        have h := Option.some.inj h
                                        have h1 := h
                                        exact d_iret E hr rfl hw h1 rfl dX2_isSign_131
                                      · have n48 := qne32 c
                                        by_cases c : x0 = (49:Int32)
                                        · refine lv_tableIn (tgt := 130) (off := 129) hx hb dX2_isSign_1 (by rw [c]; decide) (by rw [c]; decide) (by rw [c]; rfl) (by decide) ?_
                                          refine lv_iconst (v := (0:Int32)) hx hb dX2_isSign_130 (by decide) ?_
                                          have h := Option.some.inj h
                                          have h1 := h
                                          exact d_iret E hr rfl hw h1 rfl dX2_isSign_131
                                        · have n49 := qne32 c
                                          by_cases c : x0 = (50:Int32)
                                          · refine lv_tableIn (tgt := 130) (off := 129) hx hb dX2_isSign_1 (by rw [c]; decide) (by rw [c]; decide) (by rw [c]; rfl) (by decide) ?_
                                            refine lv_iconst (v := (0:Int32)) hx hb dX2_isSign_130 (by decide) ?_
                                            have h := Option.some.inj h
                                            have h1 := h
                                            exact d_iret E hr rfl hw h1 rfl dX2_isSign_131
                                          · have n50 := qne32 c
                                            by_cases c : x0 = (51:Int32)
                                            · refine lv_tableIn (tgt := 130) (off := 129) hx hb dX2_isSign_1 (by rw [c]; decide) (by rw [c]; decide) (by rw [c]; rfl) (by decide) ?_
                                              refine lv_iconst (v := (0:Int32)) hx hb dX2_isSign_130 (by decide) ?_
                                              have h := Option.some.inj h
                                              have h1 := h
                                              exact d_iret E hr rfl hw h1 rfl dX2_isSign_131
                                            · have n51 := qne32 c
                                              by_cases c : x0 = (52:Int32)
                                              · refine lv_tableIn (tgt := 130) (off := 129) hx hb dX2_isSign_1 (by rw [c]; decide) (by rw [c]; decide) (by rw [c]; rfl) (by decide) ?_
                                                refine lv_iconst (v := (0:Int32)) hx hb dX2_isSign_130 (by decide) ?_
                                                have h := Option.some.inj h
                                                have h1 := h
                                                exact d_iret E hr rfl hw h1 rfl dX2_isSign_131
                                              · have n52 := qne32 c
                                                by_cases c : x0 = (53:Int32)
                                                · refine lv_tableIn (tgt := 130) (off := 129) hx hb dX2_isSign_1 (by rw [c]; decide) (by rw [c]; decide) (by rw [c]; rfl) (by decide) ?_
                                                  refine lv_iconst (v := (0:Int32)) hx hb dX2_isSign_130 (by decide) ?_
                                                  have h := Option.some.inj h
                                                  have h1 := h
                                                  exact d_iret E hr rfl hw h1 rfl dX2_isSign_131
                                                · have n53 := qne32 c
                                                  by_cases c : x0 = (54:Int32)
                                                  · refine lv_tableIn (tgt := 130) (off := 129) hx hb dX2_isSign_1 (by rw [c]; decide) (by rw [c]; decide) (by rw [c]; rfl) (by decide) ?_
                                                    refine lv_iconst (v := (0:Int32)) hx hb dX2_isSign_130 (by decide) ?_
                                                    have h := Option.some.inj h
                                                    have h1 := h
                                                    exact d_iret E hr rfl hw h1 rfl dX2_isSign_131
                                                  · have n54 := qne32 c
                                                    by_cases c : x0 = (55:Int32)
                                                    · refine lv_tableIn (tgt := 130) (off := 129) hx hb dX2_isSign_1 (by rw [c]; decide) (by rw [c]; decide) (by rw [c]; rfl) (by decide) ?_
                                                      refine lv_iconst (v := (0:Int32)) hx hb dX2_isSign_130 (by decide) ?_
                                                      have h := Option.some.inj h
                                                      have h1 := h
                                                      exact d_iret E hr rfl hw h1 rfl dX2_isSign_131
                                                    · have n55 := qne32 c
                                                      by_cases c : x0 = (56:Int32)
                                                      · refine lv_tableIn (tgt := 130) (off := 129) hx hb dX2_isSign_1 (by rw [c]; decide) (by rw [c]; decide) (by rw [c]; rfl) (by decide) ?_
                                                        refine lv_iconst (v := (0:Int32)) hx hb dX2_isSign_130 (by decide) ?_
                                                        have h := Option.some.inj h
                                                        have h1 := h
                                                        exact d_iret E hr rfl hw h1 rfl dX2_isSign_131
                                                      · have n56 := qne32 c
                                                        by_cases c : x0 = (57:Int32)
                                                        · refine lv_tableIn (tgt := 130) (off := 129) hx hb dX2_isSign_1 (by rw [c]; decide) (by rw [c]; decide) (by rw [c]; rfl) (by decide) ?_
                                                          refine lv_iconst (v := (0:Int32)) hx hb dX2_isSign_130 (by decide) ?_
                                                          have h := Option.some.inj h
                                                          have h1 := h
                                                          exact d_iret E hr rfl hw h1 rfl dX2_isSign_131
                                                        · have n57 := qne32 c
                                                          refine lv_tableOut (tgt := 130) hx hb dX2_isSign_1 (by have m35 : (x0).toInt ≠ 35 := n35; have m36 : (x0).toInt ≠ 36 := n36; have m37 : (x0).toInt ≠ 37 := n37; have m38 : (x0).toInt ≠ 38 := n38; have m39 : (x0).toInt ≠ 39 := n39; have m40 : (x0).toInt ≠ 40 := n40; have m41 : (x0).toInt ≠ 41 := n41; have m42 : (x0).toInt ≠ 42 := n42; have m43 : (x0).toInt ≠ 43 := n43; have m44 : (x0).toInt ≠ 44 := n44; have m45 : (x0).toInt ≠ 45 := n45; have m46 : (x0).toInt ≠ 46 := n46; have m47 : (x0).toInt ≠ 47 := n47; have m48 : (x0).toInt ≠ 48 := n48; have m49 : (x0).toInt ≠ 49 := n49; have m50 : (x0).toInt ≠ 50 := n50; have m51 : (x0).toInt ≠ 51 := n51; have m52 : (x0).toInt ≠ 52 := n52; have m53 : (x0).toInt ≠ 53 := n53; have m54 : (x0).toInt ≠ 54 := n54; have m55 : (x0).toInt ≠ 55 := n55; have m56 : (x0).toInt ≠ 56 := n56; have m57 : (x0).toInt ≠ 57 := n57; have m58 : (x0).toInt ≠ 58 := n58; have m59 : (x0).toInt ≠ 59 := n59; have m60 : (x0).toInt ≠ 60 := n60; have m61 : (x0).toInt ≠ 61 := n61; have m62 : (x0).toInt ≠ 62 := n62; omega) (by decide) ?_
                                                          refine lv_iconst (v := (0:Int32)) hx hb dX2_isSign_130 (by decide) ?_
                                                          have h := Option.some.inj h
                                                          have h1 := h
                                                          exact d_iret E hr rfl hw h1 rfl dX2_isSign_131

theorem m_X2_isSign (l : Launch) {K : QK} {G : State → Prop} (hG : QG G) (hM : QMl K) {A : QA} {rs : QX × QM} {B : QA} {L : QL} {x0 : Int32} {ro : Int32} (h : f_X2_isSign x0 = some ro) : MC l K G yX2_isSign (ws_ yX2_isSign cX2_isSign 1 (some .boolean)) 1 40 0 0 [.int x0] (A, B, L, rs) (QR (some (.int ro)) (A, B, L, rs)) := by
  refine MC.of (by decide) (Nat.le_of_ble_eq_true rfl) (lv := [(0, .int x0)]) rfl (fun p e s m below meth c ls E hr hl hw => ?_)
  exact w_X2_isSign_0 hG hM E hr _  h hw hl

def f_X2_nextToken_26 (k0 : (QA → QL → Option (QA × QL))) (B : QA) (L : QL) : Option (QA × QL) :=
  qlet (qu B 1000 7 ((B 1000 7) + (1:Int32))) fun B3 =>
  k0 B3 L
set_option maxHeartbeats 4000000 in
theorem w_X2_nextToken_26 {p : Program} {l : Launch} {e : Env} {s : State} {m : MethodId} {args : Array Value} {below : List Frame} {meth : Method} {c : Code} {K : QK} {G : State → Prop} {A : QA} {rs : QX × QM} {Bo : QA} {Lo : QL} (hG : QG G) (hM : QMl K) (E : EV K G p s m args meth c cX2_nextToken "VaneCourtModel" 2) (hr : meth.sig.returnType = none) {k0 : (QA → QL → Option (QA × QL))} (hk0 : ∀ (B : QA) (L : QL) {H : Heap} {locs : List Loc} {ls : Array Slot}, k0 B L = some (Bo, Lo) → WP K (A, B, L, rs) H locs → lv_has ls 2 [(0, .ref (K.2.1 1000))] → W p l e (qrm 2 61 0 0) s m args below meth c H locs 0 0 (MQ below (QE K (QR none (A, Bo, Lo, rs))) args s 0 0 (qA K)) (F0 m 0 ls [])) : ∀ (B : QA) (L : QL) {H : Heap} {locs : List Loc} {ls : Array Slot}, f_X2_nextToken_26 k0 B L = some (Bo, Lo) → WP K (A, B, L, rs) H locs → lv_has ls 2 [(0, .ref (K.2.1 1000))] → W p l e (qrm 2 61 0 0) s m args below meth c H locs 0 0 (MQ below (QE K (QR none (A, Bo, Lo, rs))) args s 0 0 (qA K)) (F0 m 26 ls []) := by
  have hx := E.1
  have hb := E.2.1
  have hown := E.2.2.1
  have hts := E.2.2.2.2.1
  intro B L H locs ls  h hw hl
  rw [f_X2_nextToken_26] at h
  refine lv_aload_n hx hb dX2_nextToken_26 rfl (lv_at hl 0 rfl) ?_
  refine lv_dup hx hb dX2_nextToken_27 rfl ?_
  refine r_getM (v := .int (B 1000 7)) E hw hM 7 (by decide) q1360 rfl dX2_nextToken_28 ?_
  refine lv_iconst (v := (1:Int32)) hx hb dX2_nextToken_31 (by decide) ?_
  refine lv_iadd hx hb dX2_nextToken_32 ?_
  obtain ⟨B3, e4, h⟩ := qlet_s h
  refine r_putM E hw hM 7 (by decide) q1360 rfl rfl rfl (fun _ _ => rfl) dX2_nextToken_33 (fun H locs hw => ?_)
  rw [← e4] at hw
  refine lv_goto (tgt := 0) hx hb dX2_nextToken_36 (by decide) ?_
  exact hk0 _ _  h hw (lv_sub hl [0] rfl)

def f_X2_nextToken_297 (s1 : Int32) (B : QA) (L : QL) : Option (QA × QL) :=
  qlet (qu B 1000 9 s1) fun B23 =>
  qlet (qu B23 1000 7 ((B23 1000 7) + (1:Int32))) fun B25 =>
  some (B25, L)
set_option maxHeartbeats 4000000 in
theorem w_X2_nextToken_297 {p : Program} {l : Launch} {e : Env} {s : State} {m : MethodId} {args : Array Value} {below : List Frame} {meth : Method} {c : Code} {K : QK} {G : State → Prop} {A : QA} {rs : QX × QM} {Bo : QA} {Lo : QL} (hG : QG G) (hM : QMl K) (E : EV K G p s m args meth c cX2_nextToken "VaneCourtModel" 2) (hr : meth.sig.returnType = none) : ∀ (s1 : Int32) (B : QA) (L : QL) {H : Heap} {locs : List Loc} {ls : Array Slot}, f_X2_nextToken_297 s1 B L = some (Bo, Lo) → WP K (A, B, L, rs) H locs → lv_has ls 2 [(0, .ref (K.2.1 1000))] → W p l e (qrm 2 61 0 0) s m args below meth c H locs 0 0 (MQ below (QE K (QR none (A, Bo, Lo, rs))) args s 0 0 (qA K)) (F0 m 297 ls [.int s1, .ref (K.2.1 1000)]) := by
  have hx := E.1
  have hb := E.2.1
  have hown := E.2.2.1
  have hts := E.2.2.2.2.1
  intro s1 B L H locs ls  h hw hl
  rw [f_X2_nextToken_297] at h
  obtain ⟨B23, e24, h⟩ := qlet_s h
  refine r_putM E hw hM 9 (by decide) q1362 rfl rfl rfl (fun _ _ => rfl) dX2_nextToken_297 (fun H locs hw => ?_)
  rw [← e24] at hw
  refine lv_aload_n hx hb dX2_nextToken_300 rfl (lv_at hl 0 rfl) ?_
  refine lv_dup hx hb dX2_nextToken_301 rfl ?_
  refine r_getM (v := .int (B23 1000 7)) E hw hM 7 (by decide) q1360 rfl dX2_nextToken_302 ?_
  refine lv_iconst (v := (1:Int32)) hx hb dX2_nextToken_305 (by decide) ?_
  refine lv_iadd hx hb dX2_nextToken_306 ?_
  obtain ⟨B25, e26, h⟩ := qlet_s h
  refine r_putM E hw hM 7 (by decide) q1360 rfl rfl rfl (fun _ _ => rfl) dX2_nextToken_307 (fun H locs hw => ?_)
  rw [← e26] at hw
  have h := Option.some.inj h
  obtain ⟨h1, h2⟩ := Prod.mk.inj h
  exact d_ret E hr hw (by rw [h1, h2]) dX2_nextToken_310

def f_X2_nextToken_272 (x1 : Int32) (B : QA) (L : QL) : Option (QA × QL) :=
  qb1 (f_X2_byteAt (B 1000 7) B) fun u21 =>
  if u21 = (61:Int32) then (
  if x1 = (60:Int32) then (
  f_X2_nextToken_297 (4:Int32) B L) else (
  f_X2_nextToken_297 (5:Int32) B L)) else (
  some (B, L))
set_option maxHeartbeats 4000000 in
theorem w_X2_nextToken_272 {p : Program} {l : Launch} {e : Env} {s : State} {m : MethodId} {args : Array Value} {below : List Frame} {meth : Method} {c : Code} {K : QK} {G : State → Prop} {A : QA} {rs : QX × QM} {Bo : QA} {Lo : QL} (hG : QG G) (hM : QMl K) (E : EV K G p s m args meth c cX2_nextToken "VaneCourtModel" 2) (hr : meth.sig.returnType = none) : ∀ (x1 : Int32) (B : QA) (L : QL) {H : Heap} {locs : List Loc} {ls : Array Slot}, f_X2_nextToken_272 x1 B L = some (Bo, Lo) → WP K (A, B, L, rs) H locs → lv_has ls 2 [(0, .ref (K.2.1 1000)), (1, .int x1)] → W p l e (qrm 2 61 0 0) s m args below meth c H locs 0 0 (MQ below (QE K (QR none (A, Bo, Lo, rs))) args s 0 0 (qA K)) (F0 m 272 ls []) := by
  have hx := E.1
  have hb := E.2.1
  have hown := E.2.2.1
  have hts := E.2.2.2.2.1
  intro x1 B L H locs ls  h hw hl
  rw [f_X2_nextToken_272] at h
  refine lv_aload_n hx hb dX2_nextToken_272 rfl (lv_at hl 0 rfl) ?_
  refine lv_aload_n hx hb dX2_nextToken_273 rfl (lv_at hl 0 rfl) ?_
  refine r_getM (v := .int (B 1000 7)) E hw hM 7 (by decide) q1360 rfl dX2_nextToken_274 ?_
  obtain ⟨u21, g22, h⟩ := qb1_s h
  refine d_V (As := [.int (B 1000 7)]) (v0 := some (.int u21)) (w0 := (A, B, L, rs)) hG E hw hl (m_X2_byteAt l hG hM  g22) (qM0 hM) rfl (cwV 1 hts (lw_V q1511 q1513 qs62 q140 q1514) rfl rfl rfl ⟨rfl, kd_X2_byteAt⟩ ⟨Nat.le_of_ble_eq_true rfl, Nat.le_of_ble_eq_true rfl⟩) rfl (rest := []) (st1 := [.int u21]) rfl rfl rfl dX2_nextToken_277 ⟨Nat.le_of_ble_eq_true rfl, Nat.le_of_ble_eq_true rfl⟩ (fun H locs hw => ?_)
  refine lv_bipush (v := (61:Int32)) hx hb dX2_nextToken_280 (by decide) ?_
  refine lv_icmp_ne (tgt := 310) hx hb dX2_nextToken_282 (by decide) (fun c => ?_) (fun c => ?_)
  · have h := qi_f c h
    have h := Option.some.inj h
    obtain ⟨h1, h2⟩ := Prod.mk.inj h
    exact d_ret E hr hw (by rw [h1, h2]) dX2_nextToken_310
  · have h := qi_t c h
    refine lv_aload_n hx hb dX2_nextToken_285 rfl (lv_at hl 0 rfl) ?_
    refine lv_iload_n hx hb dX2_nextToken_286 rfl (lv_at hl 1 rfl) ?_
    refine lv_bipush (v := (60:Int32)) hx hb dX2_nextToken_287 (by decide) ?_
    refine lv_icmp_ne (tgt := 296) hx hb dX2_nextToken_289 (by decide) (fun c => ?_) (fun c => ?_)
    · have h := qi_f c h
      refine lv_iconst (v := (5:Int32)) hx hb dX2_nextToken_296 (by decide) ?_
      exact w_X2_nextToken_297 hG hM E hr  _ _ _   h hw (lv_sub hl [0] rfl)
    · have h := qi_t c h
      refine lv_iconst (v := (4:Int32)) hx hb dX2_nextToken_292 (by decide) ?_
      refine lv_goto (tgt := 297) hx hb dX2_nextToken_293 (by decide) ?_
      exact w_X2_nextToken_297 hG hM E hr  _ _ _   h hw (lv_sub hl [0] rfl)

def f_X2_nextToken_247 (x1 : Int32) (s1 : Int32) (B : QA) (L : QL) : Option (QA × QL) :=
  qlet (qu B 1000 9 s1) fun B17 =>
  qlet (qu B17 1000 7 ((B17 1000 7) + (1:Int32))) fun B19 =>
  if x1 = (60:Int32) then (
  f_X2_nextToken_272 x1 B19 L) else (
  if x1 = (62:Int32) then (
  f_X2_nextToken_272 x1 B19 L) else (
  some (B19, L)))
set_option maxHeartbeats 4000000 in
theorem w_X2_nextToken_247 {p : Program} {l : Launch} {e : Env} {s : State} {m : MethodId} {args : Array Value} {below : List Frame} {meth : Method} {c : Code} {K : QK} {G : State → Prop} {A : QA} {rs : QX × QM} {Bo : QA} {Lo : QL} (hG : QG G) (hM : QMl K) (E : EV K G p s m args meth c cX2_nextToken "VaneCourtModel" 2) (hr : meth.sig.returnType = none) : ∀ (x1 : Int32) (s1 : Int32) (B : QA) (L : QL) {H : Heap} {locs : List Loc} {ls : Array Slot}, f_X2_nextToken_247 x1 s1 B L = some (Bo, Lo) → WP K (A, B, L, rs) H locs → lv_has ls 2 [(0, .ref (K.2.1 1000)), (1, .int x1)] → W p l e (qrm 2 61 0 0) s m args below meth c H locs 0 0 (MQ below (QE K (QR none (A, Bo, Lo, rs))) args s 0 0 (qA K)) (F0 m 247 ls [.int s1, .ref (K.2.1 1000)]) := by
  have hx := E.1
  have hb := E.2.1
  have hown := E.2.2.1
  have hts := E.2.2.2.2.1
  intro x1 s1 B L H locs ls  h hw hl
  rw [f_X2_nextToken_247] at h
  obtain ⟨B17, e18, h⟩ := qlet_s h
  refine r_putM E hw hM 9 (by decide) q1362 rfl rfl rfl (fun _ _ => rfl) dX2_nextToken_247 (fun H locs hw => ?_)
  rw [← e18] at hw
  refine lv_aload_n hx hb dX2_nextToken_250 rfl (lv_at hl 0 rfl) ?_
  refine lv_dup hx hb dX2_nextToken_251 rfl ?_
  refine r_getM (v := .int (B17 1000 7)) E hw hM 7 (by decide) q1360 rfl dX2_nextToken_252 ?_
  refine lv_iconst (v := (1:Int32)) hx hb dX2_nextToken_255 (by decide) ?_
  refine lv_iadd hx hb dX2_nextToken_256 ?_
  obtain ⟨B19, e20, h⟩ := qlet_s h
  refine r_putM E hw hM 7 (by decide) q1360 rfl rfl rfl (fun _ _ => rfl) dX2_nextToken_257 (fun H locs hw => ?_)
  rw [← e20] at hw
  refine lv_iload_n hx hb dX2_nextToken_260 rfl (lv_at hl 1 rfl) ?_
  refine lv_bipush (v := (60:Int32)) hx hb dX2_nextToken_261 (by decide) ?_
  refine lv_icmp_eq (tgt := 272) hx hb dX2_nextToken_263 (by decide) (fun c => ?_) (fun c => ?_)
  · have h := qi_t c h
    exact w_X2_nextToken_272 hG hM E hr  _ _ _   h hw (lv_sub hl [0, 1] rfl)
  · have h := qi_f c h
    refine lv_iload_n hx hb dX2_nextToken_266 rfl (lv_at hl 1 rfl) ?_
    refine lv_bipush (v := (62:Int32)) hx hb dX2_nextToken_267 (by decide) ?_
    refine lv_icmp_ne (tgt := 310) hx hb dX2_nextToken_269 (by decide) (fun c => ?_) (fun c => ?_)
    · have h := qi_f c h
      have h := Option.some.inj h
      obtain ⟨h1, h2⟩ := Prod.mk.inj h
      exact d_ret E hr hw (by rw [h1, h2]) dX2_nextToken_310
    · have h := qi_t c h
      exact w_X2_nextToken_272 hG hM E hr  _ _ _   h hw (lv_sub hl [0, 1] rfl)

def f_X2_nextToken_218 (k168 : (QA → QL → Option (QA × QL))) (s1 : Int64) (B : QA) (L : QL) : Option (QA × QL) :=
  qlet (qu L 1000 11 s1) fun L37 =>
  qlet (qu B 1000 7 ((B 1000 7) + (1:Int32))) fun B39 =>
  k168 B39 L37
set_option maxHeartbeats 4000000 in
theorem w_X2_nextToken_218 {p : Program} {l : Launch} {e : Env} {s : State} {m : MethodId} {args : Array Value} {below : List Frame} {meth : Method} {c : Code} {K : QK} {G : State → Prop} {A : QA} {rs : QX × QM} {Bo : QA} {Lo : QL} (hG : QG G) (hM : QMl K) (E : EV K G p s m args meth c cX2_nextToken "VaneCourtModel" 2) (hr : meth.sig.returnType = none) {k168 : (QA → QL → Option (QA × QL))} (hk168 : ∀ (B : QA) (L : QL) {H : Heap} {locs : List Loc} {ls : Array Slot}, k168 B L = some (Bo, Lo) → WP K (A, B, L, rs) H locs → lv_has ls 2 [(0, .ref (K.2.1 1000))] → W p l e (qrm 2 61 0 0) s m args below meth c H locs 0 0 (MQ below (QE K (QR none (A, Bo, Lo, rs))) args s 0 0 (qA K)) (F0 m 168 ls [])) : ∀ (s1 : Int64) (B : QA) (L : QL) {H : Heap} {locs : List Loc} {ls : Array Slot}, f_X2_nextToken_218 k168 s1 B L = some (Bo, Lo) → WP K (A, B, L, rs) H locs → lv_has ls 2 [(0, .ref (K.2.1 1000))] → W p l e (qrm 2 61 0 0) s m args below meth c H locs 0 0 (MQ below (QE K (QR none (A, Bo, Lo, rs))) args s 0 0 (qA K)) (F0 m 218 ls [.long s1, .ref (K.2.1 1000)]) := by
  have hx := E.1
  have hb := E.2.1
  have hown := E.2.2.1
  have hts := E.2.2.2.2.1
  intro s1 B L H locs ls  h hw hl
  rw [f_X2_nextToken_218] at h
  obtain ⟨L37, e38, h⟩ := qlet_s h
  refine r_putML E hw hM 11 (by decide) q1364 rfl rfl rfl (fun _ _ => rfl) dX2_nextToken_218 (fun H locs hw => ?_)
  rw [← e38] at hw
  refine lv_aload_n hx hb dX2_nextToken_221 rfl (lv_at hl 0 rfl) ?_
  refine lv_dup hx hb dX2_nextToken_222 rfl ?_
  refine r_getM (v := .int (B 1000 7)) E hw hM 7 (by decide) q1360 rfl dX2_nextToken_223 ?_
  refine lv_iconst (v := (1:Int32)) hx hb dX2_nextToken_226 (by decide) ?_
  refine lv_iadd hx hb dX2_nextToken_227 ?_
  obtain ⟨B39, e40, h⟩ := qlet_s h
  refine r_putM E hw hM 7 (by decide) q1360 rfl rfl rfl (fun _ _ => rfl) dX2_nextToken_228 (fun H locs hw => ?_)
  rw [← e40] at hw
  refine lv_goto (tgt := 168) hx hb dX2_nextToken_231 (by decide) ?_
  exact hk168 _ _  h hw (lv_sub hl [0] rfl)

def f_X2_nextToken_168 : Nat → QA → QL → Option (QA × QL)
  | 0, _, _ => none
  | n + 1, B, L => qb1 (f_X2_byteAt (B 1000 7) B) fun u31 =>
  qb1 (f_X2_isLetterByte u31) fun u33 =>
  if u33 = (0:Int32) then (
  some (B, L)) else (
  if (lg_cmp ((L 1000 11) >>> ((48:Int32).toInt64 &&& 63)) (0:Int64)) = (0:Int32) then (
  qb1 (f_X2_byteAt (B 1000 7) B) fun u35 =>
  f_X2_nextToken_218 (fun B' L' => f_X2_nextToken_168 n B' L') (((L 1000 11) <<< ((8:Int32).toInt64 &&& 63)) ||| (u35).toInt64) B L) else (
  f_X2_nextToken_218 (fun B' L' => f_X2_nextToken_168 n B' L') (1152921504606846976:Int64) B L))
set_option maxHeartbeats 4000000 in
theorem w_X2_nextToken_168 {p : Program} {l : Launch} {e : Env} {s : State} {m : MethodId} {args : Array Value} {below : List Frame} {meth : Method} {c : Code} {K : QK} {G : State → Prop} {A : QA} {rs : QX × QM} {Bo : QA} {Lo : QL} (hG : QG G) (hM : QMl K) (E : EV K G p s m args meth c cX2_nextToken "VaneCourtModel" 2) (hr : meth.sig.returnType = none) : ∀ (n : Nat) (B : QA) (L : QL) {H : Heap} {locs : List Loc} {ls : Array Slot}, f_X2_nextToken_168 n B L = some (Bo, Lo) → WP K (A, B, L, rs) H locs → lv_has ls 2 [(0, .ref (K.2.1 1000))] → W p l e (qrm 2 61 0 0) s m args below meth c H locs 0 0 (MQ below (QE K (QR none (A, Bo, Lo, rs))) args s 0 0 (qA K)) (F0 m 168 ls []) := by
  have hx := E.1
  have hb := E.2.1
  have hown := E.2.2.1
  have hts := E.2.2.2.2.1
  intro n
  induction n with
  | zero =>
    intro B L H locs ls  h hw hl
    cases h
  | succ n ih =>
    intro B L H locs ls  h hw hl
    rw [f_X2_nextToken_168] at h
    refine lv_aload_n hx hb dX2_nextToken_168 rfl (lv_at hl 0 rfl) ?_
    refine lv_aload_n hx hb dX2_nextToken_169 rfl (lv_at hl 0 rfl) ?_
    refine r_getM (v := .int (B 1000 7)) E hw hM 7 (by decide) q1360 rfl dX2_nextToken_170 ?_
    obtain ⟨u31, g32, h⟩ := qb1_s h
    refine d_V (As := [.int (B 1000 7)]) (v0 := some (.int u31)) (w0 := (A, B, L, rs)) hG E hw hl (m_X2_byteAt l hG hM  g32) (qM0 hM) rfl (cwV 1 hts (lw_V q1511 q1513 qs62 q140 q1514) rfl rfl rfl ⟨rfl, kd_X2_byteAt⟩ ⟨Nat.le_of_ble_eq_true rfl, Nat.le_of_ble_eq_true rfl⟩) rfl (rest := []) (st1 := [.int u31]) rfl rfl rfl dX2_nextToken_173 ⟨Nat.le_of_ble_eq_true rfl, Nat.le_of_ble_eq_true rfl⟩ (fun H locs hw => ?_)
    obtain ⟨u33, g34, h⟩ := qb1_s h
    refine d_S (As := [.int u31]) (v0 := some (.int u33)) (w0 := (A, B, L, rs)) hG E hw hl (m_X2_isLetterByte l hG hM  g34) (va_cwS 1 hts (lw_S q1519 q1520 q140 q1521) rfl rfl rfl kd_X2_isLetterByte ⟨Nat.le_of_ble_eq_true rfl, Nat.le_of_ble_eq_true rfl⟩) rfl (rest := []) (st1 := [.int u33]) rfl rfl rfl dX2_nextToken_176 ⟨Nat.le_of_ble_eq_true rfl, Nat.le_of_ble_eq_true rfl⟩ (fun H locs hw => ?_)
    refine lv_if_eq (tgt := 310) hx hb dX2_nextToken_179 (by decide) (fun c => ?_) (fun c => ?_)
    · have h := qi_t c h
      have h := Option.some.inj h
      obtain ⟨h1, h2⟩ := Prod.mk.inj h
      exact d_ret E hr hw (by rw [h1, h2]) dX2_nextToken_310
    · have h := qi_f c h
      refine lv_aload_n hx hb dX2_nextToken_182 rfl (lv_at hl 0 rfl) ?_
      refine lv_aload_n hx hb dX2_nextToken_183 rfl (lv_at hl 0 rfl) ?_
      refine r_getM (v := .long (L 1000 11)) E hw hM 11 (by decide) q1364 rfl dX2_nextToken_184 ?_
      refine lv_bipush (v := (48:Int32)) hx hb dX2_nextToken_187 (by decide) ?_
      refine lv_lshr hx hb dX2_nextToken_189 rfl ?_
      refine lv_lconst (v := (0:Int64)) hx hb dX2_nextToken_190 (by decide) ?_
      refine W.lcmp hx hb dX2_nextToken_191 ?_
      refine lv_if_eq (tgt := 201) hx hb dX2_nextToken_192 (by decide) (fun c => ?_) (fun c => ?_)
      · have h := qi_t c h
        refine lv_aload_n hx hb dX2_nextToken_201 rfl (lv_at hl 0 rfl) ?_
        refine r_getM (v := .long (L 1000 11)) E hw hM 11 (by decide) q1364 rfl dX2_nextToken_202 ?_
        refine lv_bipush (v := (8:Int32)) hx hb dX2_nextToken_205 (by decide) ?_
        refine lv_lshl hx hb dX2_nextToken_207 rfl ?_
        refine lv_aload_n hx hb dX2_nextToken_208 rfl (lv_at hl 0 rfl) ?_
        refine lv_aload_n hx hb dX2_nextToken_209 rfl (lv_at hl 0 rfl) ?_
        refine r_getM (v := .int (B 1000 7)) E hw hM 7 (by decide) q1360 rfl dX2_nextToken_210 ?_
        obtain ⟨u35, g36, h⟩ := qb1_s h
        refine d_V (As := [.int (B 1000 7)]) (v0 := some (.int u35)) (w0 := (A, B, L, rs)) hG E hw hl (m_X2_byteAt l hG hM  g36) (qM0 hM) rfl (cwV 1 hts (lw_V q1511 q1513 qs62 q140 q1514) rfl rfl rfl ⟨rfl, kd_X2_byteAt⟩ ⟨Nat.le_of_ble_eq_true rfl, Nat.le_of_ble_eq_true rfl⟩) rfl (rest := [.long ((L 1000 11) <<< ((8:Int32).toInt64 &&& 63)), .ref (K.2.1 1000)]) (st1 := [.int u35, .long ((L 1000 11) <<< ((8:Int32).toInt64 &&& 63)), .ref (K.2.1 1000)]) rfl rfl rfl dX2_nextToken_213 ⟨Nat.le_of_ble_eq_true rfl, Nat.le_of_ble_eq_true rfl⟩ (fun H locs hw => ?_)
        refine lv_i2l hx hb dX2_nextToken_216 rfl ?_
        refine lv_lor hx hb dX2_nextToken_217 ?_
        exact w_X2_nextToken_218 hG hM E hr ih _ _ _   h hw (lv_sub hl [0] rfl)
      · have h := qi_f c h
        refine lv_ldc2 (v := (1152921504606846976:Int64)) hx hb hown (hts _ q1522) dX2_nextToken_195 ?_
        refine lv_goto (tgt := 218) hx hb dX2_nextToken_198 (by decide) ?_
        exact w_X2_nextToken_218 hG hM E hr ih _ _ _   h hw (lv_sub hl [0] rfl)

def f_X2_nextToken_135 (k85 : (QA → QL → Option (QA × QL))) (s1 : Int32) (B : QA) (L : QL) : Option (QA × QL) :=
  qlet (qu B 1000 10 s1) fun B51 =>
  qlet (qu B51 1000 7 ((B51 1000 7) + (1:Int32))) fun B53 =>
  k85 B53 L
set_option maxHeartbeats 4000000 in
theorem w_X2_nextToken_135 {p : Program} {l : Launch} {e : Env} {s : State} {m : MethodId} {args : Array Value} {below : List Frame} {meth : Method} {c : Code} {K : QK} {G : State → Prop} {A : QA} {rs : QX × QM} {Bo : QA} {Lo : QL} (hG : QG G) (hM : QMl K) (E : EV K G p s m args meth c cX2_nextToken "VaneCourtModel" 2) (hr : meth.sig.returnType = none) {k85 : (QA → QL → Option (QA × QL))} (hk85 : ∀ (B : QA) (L : QL) {H : Heap} {locs : List Loc} {ls : Array Slot}, k85 B L = some (Bo, Lo) → WP K (A, B, L, rs) H locs → lv_has ls 2 [(0, .ref (K.2.1 1000))] → W p l e (qrm 2 61 0 0) s m args below meth c H locs 0 0 (MQ below (QE K (QR none (A, Bo, Lo, rs))) args s 0 0 (qA K)) (F0 m 85 ls [])) : ∀ (s1 : Int32) (B : QA) (L : QL) {H : Heap} {locs : List Loc} {ls : Array Slot}, f_X2_nextToken_135 k85 s1 B L = some (Bo, Lo) → WP K (A, B, L, rs) H locs → lv_has ls 2 [(0, .ref (K.2.1 1000))] → W p l e (qrm 2 61 0 0) s m args below meth c H locs 0 0 (MQ below (QE K (QR none (A, Bo, Lo, rs))) args s 0 0 (qA K)) (F0 m 135 ls [.int s1, .ref (K.2.1 1000)]) := by
  have hx := E.1
  have hb := E.2.1
  have hown := E.2.2.1
  have hts := E.2.2.2.2.1
  intro s1 B L H locs ls  h hw hl
  rw [f_X2_nextToken_135] at h
  obtain ⟨B51, e52, h⟩ := qlet_s h
  refine r_putM E hw hM 10 (by decide) q1363 rfl rfl rfl (fun _ _ => rfl) dX2_nextToken_135 (fun H locs hw => ?_)
  rw [← e52] at hw
  refine lv_aload_n hx hb dX2_nextToken_138 rfl (lv_at hl 0 rfl) ?_
  refine lv_dup hx hb dX2_nextToken_139 rfl ?_
  refine r_getM (v := .int (B51 1000 7)) E hw hM 7 (by decide) q1360 rfl dX2_nextToken_140 ?_
  refine lv_iconst (v := (1:Int32)) hx hb dX2_nextToken_143 (by decide) ?_
  refine lv_iadd hx hb dX2_nextToken_144 ?_
  obtain ⟨B53, e54, h⟩ := qlet_s h
  refine r_putM E hw hM 7 (by decide) q1360 rfl rfl rfl (fun _ _ => rfl) dX2_nextToken_145 (fun H locs hw => ?_)
  rw [← e54] at hw
  refine lv_goto (tgt := 85) hx hb dX2_nextToken_148 (by decide) ?_
  exact hk85 _ _  h hw (lv_sub hl [0] rfl)

def f_X2_nextToken_85 : Nat → QA → QL → Option (QA × QL)
  | 0, _, _ => none
  | n + 1, B, L => qb1 (f_X2_byteAt (B 1000 7) B) fun u45 =>
  qb1 (f_X2_isFigure u45) fun u47 =>
  if u47 = (0:Int32) then (
  some (B, L)) else (
  if (B 1000 10) ≤ (99999:Int32) then (
  qb1 (f_X2_byteAt (B 1000 7) B) fun u49 =>
  f_X2_nextToken_135 (fun B' L' => f_X2_nextToken_85 n B' L') ((((10:Int32) * (B 1000 10)) + u49) - (48:Int32)) B L) else (
  f_X2_nextToken_135 (fun B' L' => f_X2_nextToken_85 n B' L') (B 1000 10) B L))
set_option maxHeartbeats 4000000 in
theorem w_X2_nextToken_85 {p : Program} {l : Launch} {e : Env} {s : State} {m : MethodId} {args : Array Value} {below : List Frame} {meth : Method} {c : Code} {K : QK} {G : State → Prop} {A : QA} {rs : QX × QM} {Bo : QA} {Lo : QL} (hG : QG G) (hM : QMl K) (E : EV K G p s m args meth c cX2_nextToken "VaneCourtModel" 2) (hr : meth.sig.returnType = none) : ∀ (n : Nat) (B : QA) (L : QL) {H : Heap} {locs : List Loc} {ls : Array Slot}, f_X2_nextToken_85 n B L = some (Bo, Lo) → WP K (A, B, L, rs) H locs → lv_has ls 2 [(0, .ref (K.2.1 1000))] → W p l e (qrm 2 61 0 0) s m args below meth c H locs 0 0 (MQ below (QE K (QR none (A, Bo, Lo, rs))) args s 0 0 (qA K)) (F0 m 85 ls []) := by
  have hx := E.1
  have hb := E.2.1
  have hown := E.2.2.1
  have hts := E.2.2.2.2.1
  intro n
  induction n with
  | zero =>
    intro B L H locs ls  h hw hl
    cases h
  | succ n ih =>
    intro B L H locs ls  h hw hl
    rw [f_X2_nextToken_85] at h
    refine lv_aload_n hx hb dX2_nextToken_85 rfl (lv_at hl 0 rfl) ?_
    refine lv_aload_n hx hb dX2_nextToken_86 rfl (lv_at hl 0 rfl) ?_
    refine r_getM (v := .int (B 1000 7)) E hw hM 7 (by decide) q1360 rfl dX2_nextToken_87 ?_
    obtain ⟨u45, g46, h⟩ := qb1_s h
    refine d_V (As := [.int (B 1000 7)]) (v0 := some (.int u45)) (w0 := (A, B, L, rs)) hG E hw hl (m_X2_byteAt l hG hM  g46) (qM0 hM) rfl (cwV 1 hts (lw_V q1511 q1513 qs62 q140 q1514) rfl rfl rfl ⟨rfl, kd_X2_byteAt⟩ ⟨Nat.le_of_ble_eq_true rfl, Nat.le_of_ble_eq_true rfl⟩) rfl (rest := []) (st1 := [.int u45]) rfl rfl rfl dX2_nextToken_90 ⟨Nat.le_of_ble_eq_true rfl, Nat.le_of_ble_eq_true rfl⟩ (fun H locs hw => ?_)
    obtain ⟨u47, g48, h⟩ := qb1_s h
    refine d_S (As := [.int u45]) (v0 := some (.int u47)) (w0 := (A, B, L, rs)) hG E hw hl (m_X2_isFigure l hG hM  g48) (va_cwS 1 hts (lw_S q1515 q1516 q140 q1517) rfl rfl rfl kd_X2_isFigure ⟨Nat.le_of_ble_eq_true rfl, Nat.le_of_ble_eq_true rfl⟩) rfl (rest := []) (st1 := [.int u47]) rfl rfl rfl dX2_nextToken_93 ⟨Nat.le_of_ble_eq_true rfl, Nat.le_of_ble_eq_true rfl⟩ (fun H locs hw => ?_)
    refine lv_if_eq (tgt := 310) hx hb dX2_nextToken_96 (by decide) (fun c => ?_) (fun c => ?_)
    · have h := qi_t c h
      have h := Option.some.inj h
      obtain ⟨h1, h2⟩ := Prod.mk.inj h
      exact d_ret E hr hw (by rw [h1, h2]) dX2_nextToken_310
    · have h := qi_f c h
      refine lv_aload_n hx hb dX2_nextToken_99 rfl (lv_at hl 0 rfl) ?_
      refine lv_aload_n hx hb dX2_nextToken_100 rfl (lv_at hl 0 rfl) ?_
      refine r_getM (v := .int (B 1000 10)) E hw hM 10 (by decide) q1363 rfl dX2_nextToken_101 ?_
      refine lv_ldc (v := (99999:Int32)) hx hb hown (hts _ q1518) dX2_nextToken_104 ?_
      refine lv_icmp_le (tgt := 116) hx hb dX2_nextToken_106 (by decide) (fun c => ?_) (fun c => ?_)
      · have h := qi_t c h
        refine lv_bipush (v := (10:Int32)) hx hb dX2_nextToken_116 (by decide) ?_
        refine lv_aload_n hx hb dX2_nextToken_118 rfl (lv_at hl 0 rfl) ?_
        refine r_getM (v := .int (B 1000 10)) E hw hM 10 (by decide) q1363 rfl dX2_nextToken_119 ?_
        refine lv_imul hx hb dX2_nextToken_122 ?_
        refine lv_aload_n hx hb dX2_nextToken_123 rfl (lv_at hl 0 rfl) ?_
        refine lv_aload_n hx hb dX2_nextToken_124 rfl (lv_at hl 0 rfl) ?_
        refine r_getM (v := .int (B 1000 7)) E hw hM 7 (by decide) q1360 rfl dX2_nextToken_125 ?_
        obtain ⟨u49, g50, h⟩ := qb1_s h
        refine d_V (As := [.int (B 1000 7)]) (v0 := some (.int u49)) (w0 := (A, B, L, rs)) hG E hw hl (m_X2_byteAt l hG hM  g50) (qM0 hM) rfl (cwV 1 hts (lw_V q1511 q1513 qs62 q140 q1514) rfl rfl rfl ⟨rfl, kd_X2_byteAt⟩ ⟨Nat.le_of_ble_eq_true rfl, Nat.le_of_ble_eq_true rfl⟩) rfl (rest := [.int ((10:Int32) * (B 1000 10)), .ref (K.2.1 1000)]) (st1 := [.int u49, .int ((10:Int32) * (B 1000 10)), .ref (K.2.1 1000)]) rfl rfl rfl dX2_nextToken_128 ⟨Nat.le_of_ble_eq_true rfl, Nat.le_of_ble_eq_true rfl⟩ (fun H locs hw => ?_)
        refine lv_iadd hx hb dX2_nextToken_131 ?_
        refine lv_bipush (v := (48:Int32)) hx hb dX2_nextToken_132 (by decide) ?_
        refine lv_isub hx hb dX2_nextToken_134 ?_
        exact w_X2_nextToken_135 hG hM E hr ih _ _ _   h hw (lv_sub hl [0] rfl)
      · have h := qi_f c h
        refine lv_aload_n hx hb dX2_nextToken_109 rfl (lv_at hl 0 rfl) ?_
        refine r_getM (v := .int (B 1000 10)) E hw hM 10 (by decide) q1363 rfl dX2_nextToken_110 ?_
        refine lv_goto (tgt := 135) hx hb dX2_nextToken_113 (by decide) ?_
        exact w_X2_nextToken_135 hG hM E hr ih _ _ _   h hw (lv_sub hl [0] rfl)

def f_X2_nextToken_0 : Nat → QA → QL → Option (QA × QL)
  | 0, _, _ => none
  | n + 1, B, L => qb1 (f_X2_byteAt (B 1000 7) B) fun u1 =>
  if u1 = (32:Int32) then (
  f_X2_nextToken_26 (fun B' L' => f_X2_nextToken_0 n B' L') B L) else (
  qb1 (f_X2_byteAt (B 1000 7) B) fun u5 =>
  if u5 = (10:Int32) then (
  f_X2_nextToken_26 (fun B' L' => f_X2_nextToken_0 n B' L') B L) else (
  qlet (qu B 1000 8 (B 1000 7)) fun B7 =>
  qb1 (f_X2_byteAt (B7 1000 7) B7) fun u9 =>
  if (0:Int32) ≤ u9 then (
  qb1 (f_X2_isFigure u9) fun u11 =>
  if u11 = (0:Int32) then (
  qb1 (f_X2_isLetterByte u9) fun u13 =>
  if u13 = (0:Int32) then (
  qb1 (f_X2_isSign u9) fun u15 =>
  if u15 = (0:Int32) then (
  f_X2_nextToken_247 u9 (3:Int32) B7 L) else (
  f_X2_nextToken_247 u9 u9 B7 L)) else (
  qlet (qu B7 1000 9 (2:Int32)) fun B27 =>
  qlet (qu L 1000 11 (0:Int64)) fun L29 =>
  f_X2_nextToken_168 FU B27 L29)) else (
  qlet (qu B7 1000 9 (1:Int32)) fun B41 =>
  qlet (qu B41 1000 10 (0:Int32)) fun B43 =>
  f_X2_nextToken_85 FU B43 L)) else (
  qlet (qu B7 1000 9 (0:Int32)) fun B55 =>
  some (B55, L))))
set_option maxHeartbeats 4000000 in
theorem w_X2_nextToken_0 {p : Program} {l : Launch} {e : Env} {s : State} {m : MethodId} {args : Array Value} {below : List Frame} {meth : Method} {c : Code} {K : QK} {G : State → Prop} {A : QA} {rs : QX × QM} {Bo : QA} {Lo : QL} (hG : QG G) (hM : QMl K) (E : EV K G p s m args meth c cX2_nextToken "VaneCourtModel" 2) (hr : meth.sig.returnType = none) : ∀ (n : Nat) (B : QA) (L : QL) {H : Heap} {locs : List Loc} {ls : Array Slot}, f_X2_nextToken_0 n B L = some (Bo, Lo) → WP K (A, B, L, rs) H locs → lv_has ls 2 [(0, .ref (K.2.1 1000))] → W p l e (qrm 2 61 0 0) s m args below meth c H locs 0 0 (MQ below (QE K (QR none (A, Bo, Lo, rs))) args s 0 0 (qA K)) (F0 m 0 ls []) := by
  have hx := E.1
  have hb := E.2.1
  have hown := E.2.2.1
  have hts := E.2.2.2.2.1
  intro n
  induction n with
  | zero =>
    intro B L H locs ls  h hw hl
    cases h
  | succ n ih =>
    intro B L H locs ls  h hw hl
    rw [f_X2_nextToken_0] at h
    refine lv_aload_n hx hb dX2_nextToken_0 rfl (lv_at hl 0 rfl) ?_
    refine lv_aload_n hx hb dX2_nextToken_1 rfl (lv_at hl 0 rfl) ?_
    refine r_getM (v := .int (B 1000 7)) E hw hM 7 (by decide) q1360 rfl dX2_nextToken_2 ?_
    obtain ⟨u1, g2, h⟩ := qb1_s h
    refine d_V (As := [.int (B 1000 7)]) (v0 := some (.int u1)) (w0 := (A, B, L, rs)) hG E hw hl (m_X2_byteAt l hG hM  g2) (qM0 hM) rfl (cwV 1 hts (lw_V q1511 q1513 qs62 q140 q1514) rfl rfl rfl ⟨rfl, kd_X2_byteAt⟩ ⟨Nat.le_of_ble_eq_true rfl, Nat.le_of_ble_eq_true rfl⟩) rfl (rest := []) (st1 := [.int u1]) rfl rfl rfl dX2_nextToken_5 ⟨Nat.le_of_ble_eq_true rfl, Nat.le_of_ble_eq_true rfl⟩ (fun H locs hw => ?_)
    refine lv_bipush (v := (32:Int32)) hx hb dX2_nextToken_8 (by decide) ?_
    refine lv_icmp_eq (tgt := 26) hx hb dX2_nextToken_10 (by decide) (fun c => ?_) (fun c => ?_)
    · have h := qi_t c h
      exact w_X2_nextToken_26 hG hM E hr ih _ _   h hw (lv_sub hl [0] rfl)
    · have h := qi_f c h
      refine lv_aload_n hx hb dX2_nextToken_13 rfl (lv_at hl 0 rfl) ?_
      refine lv_aload_n hx hb dX2_nextToken_14 rfl (lv_at hl 0 rfl) ?_
      refine r_getM (v := .int (B 1000 7)) E hw hM 7 (by decide) q1360 rfl dX2_nextToken_15 ?_
      obtain ⟨u5, g6, h⟩ := qb1_s h
      refine d_V (As := [.int (B 1000 7)]) (v0 := some (.int u5)) (w0 := (A, B, L, rs)) hG E hw hl (m_X2_byteAt l hG hM  g6) (qM0 hM) rfl (cwV 1 hts (lw_V q1511 q1513 qs62 q140 q1514) rfl rfl rfl ⟨rfl, kd_X2_byteAt⟩ ⟨Nat.le_of_ble_eq_true rfl, Nat.le_of_ble_eq_true rfl⟩) rfl (rest := []) (st1 := [.int u5]) rfl rfl rfl dX2_nextToken_18 ⟨Nat.le_of_ble_eq_true rfl, Nat.le_of_ble_eq_true rfl⟩ (fun H locs hw => ?_)
      refine lv_bipush (v := (10:Int32)) hx hb dX2_nextToken_21 (by decide) ?_
      refine lv_icmp_ne (tgt := 39) hx hb dX2_nextToken_23 (by decide) (fun c => ?_) (fun c => ?_)
      · have h := qi_f c h
        refine lv_aload_n hx hb dX2_nextToken_39 rfl (lv_at hl 0 rfl) ?_
        refine lv_aload_n hx hb dX2_nextToken_40 rfl (lv_at hl 0 rfl) ?_
        refine r_getM (v := .int (B 1000 7)) E hw hM 7 (by decide) q1360 rfl dX2_nextToken_41 ?_
        obtain ⟨B7, e8, h⟩ := qlet_s h
        refine r_putM E hw hM 8 (by decide) q1361 rfl rfl rfl (fun _ _ => rfl) dX2_nextToken_44 (fun H locs hw => ?_)
        rw [← e8] at hw
        refine lv_aload_n hx hb dX2_nextToken_47 rfl (lv_at hl 0 rfl) ?_
        refine lv_aload_n hx hb dX2_nextToken_48 rfl (lv_at hl 0 rfl) ?_
        refine r_getM (v := .int (B7 1000 7)) E hw hM 7 (by decide) q1360 rfl dX2_nextToken_49 ?_
        obtain ⟨u9, g10, h⟩ := qb1_s h
        refine d_V (As := [.int (B7 1000 7)]) (v0 := some (.int u9)) (w0 := (A, B7, L, rs)) hG E hw hl (m_X2_byteAt l hG hM  g10) (qM0 hM) rfl (cwV 1 hts (lw_V q1511 q1513 qs62 q140 q1514) rfl rfl rfl ⟨rfl, kd_X2_byteAt⟩ ⟨Nat.le_of_ble_eq_true rfl, Nat.le_of_ble_eq_true rfl⟩) rfl (rest := []) (st1 := [.int u9]) rfl rfl rfl dX2_nextToken_52 ⟨Nat.le_of_ble_eq_true rfl, Nat.le_of_ble_eq_true rfl⟩ (fun H locs hw => ?_)
        refine lv_istore_n (lv' := [(1, .int u9), (0, .ref (K.2.1 1000))]) hx hb dX2_nextToken_55 rfl hl (by decide) rfl (fun ls hl => ?_)
        refine lv_iload_n hx hb dX2_nextToken_56 rfl (lv_at hl 0 rfl) ?_
        refine lv_if_ge (tgt := 68) hx hb dX2_nextToken_57 (by decide) (fun c => ?_) (fun c => ?_)
        · have h := qi_t c h
          refine lv_iload_n hx hb dX2_nextToken_68 rfl (lv_at hl 0 rfl) ?_
          obtain ⟨u11, g12, h⟩ := qb1_s h
          refine d_S (As := [.int u9]) (v0 := some (.int u11)) (w0 := (A, B7, L, rs)) hG E hw hl (m_X2_isFigure l hG hM  g12) (va_cwS 1 hts (lw_S q1515 q1516 q140 q1517) rfl rfl rfl kd_X2_isFigure ⟨Nat.le_of_ble_eq_true rfl, Nat.le_of_ble_eq_true rfl⟩) rfl (rest := []) (st1 := [.int u11]) rfl rfl rfl dX2_nextToken_69 ⟨Nat.le_of_ble_eq_true rfl, Nat.le_of_ble_eq_true rfl⟩ (fun H locs hw => ?_)
          refine lv_if_eq (tgt := 151) hx hb dX2_nextToken_72 (by decide) (fun c => ?_) (fun c => ?_)
          · have h := qi_t c h
            refine lv_iload_n hx hb dX2_nextToken_151 rfl (lv_at hl 0 rfl) ?_
            obtain ⟨u13, g14, h⟩ := qb1_s h
            refine d_S (As := [.int u9]) (v0 := some (.int u13)) (w0 := (A, B7, L, rs)) hG E hw hl (m_X2_isLetterByte l hG hM  g14) (va_cwS 1 hts (lw_S q1519 q1520 q140 q1521) rfl rfl rfl kd_X2_isLetterByte ⟨Nat.le_of_ble_eq_true rfl, Nat.le_of_ble_eq_true rfl⟩) rfl (rest := []) (st1 := [.int u13]) rfl rfl rfl dX2_nextToken_152 ⟨Nat.le_of_ble_eq_true rfl, Nat.le_of_ble_eq_true rfl⟩ (fun H locs hw => ?_)
            refine lv_if_eq (tgt := 234) hx hb dX2_nextToken_155 (by decide) (fun c => ?_) (fun c => ?_)
            · have h := qi_t c h
              refine lv_aload_n hx hb dX2_nextToken_234 rfl (lv_at hl 1 rfl) ?_
              refine lv_iload_n hx hb dX2_nextToken_235 rfl (lv_at hl 0 rfl) ?_
              obtain ⟨u15, g16, h⟩ := qb1_s h
              refine d_S (As := [.int u9]) (v0 := some (.int u15)) (w0 := (A, B7, L, rs)) hG E hw hl (m_X2_isSign l hG hM  g16) (va_cwS 1 hts (lw_S q1523 q1524 q140 q1525) rfl rfl rfl kd_X2_isSign ⟨Nat.le_of_ble_eq_true rfl, Nat.le_of_ble_eq_true rfl⟩) rfl (rest := [.ref (K.2.1 1000)]) (st1 := [.int u15, .ref (K.2.1 1000)]) rfl rfl rfl dX2_nextToken_236 ⟨Nat.le_of_ble_eq_true rfl, Nat.le_of_ble_eq_true rfl⟩ (fun H locs hw => ?_)
              refine lv_if_eq (tgt := 246) hx hb dX2_nextToken_239 (by decide) (fun c => ?_) (fun c => ?_)
              · have h := qi_t c h
                refine lv_iconst (v := (3:Int32)) hx hb dX2_nextToken_246 (by decide) ?_
                exact w_X2_nextToken_247 hG hM E hr  _ _ _ _   h hw (lv_sub hl [1, 0] rfl)
              · have h := qi_f c h
                refine lv_iload_n hx hb dX2_nextToken_242 rfl (lv_at hl 0 rfl) ?_
                refine lv_goto (tgt := 247) hx hb dX2_nextToken_243 (by decide) ?_
                exact w_X2_nextToken_247 hG hM E hr  _ _ _ _   h hw (lv_sub hl [1, 0] rfl)
            · have h := qi_f c h
              refine lv_aload_n hx hb dX2_nextToken_158 rfl (lv_at hl 1 rfl) ?_
              refine lv_iconst (v := (2:Int32)) hx hb dX2_nextToken_159 (by decide) ?_
              obtain ⟨B27, e28, h⟩ := qlet_s h
              refine r_putM E hw hM 9 (by decide) q1362 rfl rfl rfl (fun _ _ => rfl) dX2_nextToken_160 (fun H locs hw => ?_)
              rw [← e28] at hw
              refine lv_aload_n hx hb dX2_nextToken_163 rfl (lv_at hl 1 rfl) ?_
              refine lv_lconst (v := (0:Int64)) hx hb dX2_nextToken_164 (by decide) ?_
              obtain ⟨L29, e30, h⟩ := qlet_s h
              refine r_putML E hw hM 11 (by decide) q1364 rfl rfl rfl (fun _ _ => rfl) dX2_nextToken_165 (fun H locs hw => ?_)
              rw [← e30] at hw
              exact w_X2_nextToken_168 hG hM E hr  _ _ _   h hw (lv_sub hl [1] rfl)
          · have h := qi_f c h
            refine lv_aload_n hx hb dX2_nextToken_75 rfl (lv_at hl 1 rfl) ?_
            refine lv_iconst (v := (1:Int32)) hx hb dX2_nextToken_76 (by decide) ?_
            obtain ⟨B41, e42, h⟩ := qlet_s h
            refine r_putM E hw hM 9 (by decide) q1362 rfl rfl rfl (fun _ _ => rfl) dX2_nextToken_77 (fun H locs hw => ?_)
            rw [← e42] at hw
            refine lv_aload_n hx hb dX2_nextToken_80 rfl (lv_at hl 1 rfl) ?_
            refine lv_iconst (v := (0:Int32)) hx hb dX2_nextToken_81 (by decide) ?_
            obtain ⟨B43, e44, h⟩ := qlet_s h
            refine r_putM E hw hM 10 (by decide) q1363 rfl rfl rfl (fun _ _ => rfl) dX2_nextToken_82 (fun H locs hw => ?_)
            rw [← e44] at hw
            exact w_X2_nextToken_85 hG hM E hr  _ _ _   h hw (lv_sub hl [1] rfl)
        · have h := qi_f c h
          refine lv_aload_n hx hb dX2_nextToken_60 rfl (lv_at hl 1 rfl) ?_
          refine lv_iconst (v := (0:Int32)) hx hb dX2_nextToken_61 (by decide) ?_
          obtain ⟨B55, e56, h⟩ := qlet_s h
          refine r_putM E hw hM 9 (by decide) q1362 rfl rfl rfl (fun _ _ => rfl) dX2_nextToken_62 (fun H locs hw => ?_)
          rw [← e56] at hw
          refine lv_goto (tgt := 310) hx hb dX2_nextToken_65 (by decide) ?_
          have h := Option.some.inj h
          obtain ⟨h1, h2⟩ := Prod.mk.inj h
          exact d_ret E hr hw (by rw [h1, h2]) dX2_nextToken_310
      · have h := qi_t c h
        exact w_X2_nextToken_26 hG hM E hr ih _ _   h hw (lv_sub hl [0] rfl)

def f_X2_nextToken (B : QA) (L : QL) : Option (QA × QL) := f_X2_nextToken_0 FU B L

theorem m_X2_nextToken (l : Launch) {K : QK} {G : State → Prop} (hG : QG G) (hM : QMl K) {A : QA} {rs : QX × QM} {B : QA} {L : QL} {Bo : QA} {Lo : QL} (h : f_X2_nextToken B L = some (Bo, Lo)) : MC l K G yX2_nextToken (ws_ yX2_nextToken cX2_nextToken 2 none) 2 61 0 0 [.ref (K.2.1 1000)] (A, B, L, rs) (QR none (A, Bo, Lo, rs)) := by
  refine MC.of (by decide) (Nat.le_of_ble_eq_true rfl) (lv := [(0, .ref (K.2.1 1000))]) rfl (fun p e s m below meth c ls E hr hl hw => ?_)
  exact w_X2_nextToken_0 hG hM E hr FU _ _  h hw (lv_sub hl [0] rfl)

def f_X2_w2 (x0 : Int32) (x1 : Int32) : Option (Int64) :=
  some ((((x0).toInt64 <<< ((8:Int32).toInt64 &&& 63)) ||| (x1).toInt64))
set_option maxHeartbeats 4000000 in
theorem w_X2_w2_0 {p : Program} {l : Launch} {e : Env} {s : State} {m : MethodId} {args : Array Value} {below : List Frame} {meth : Method} {c : Code} {K : QK} {G : State → Prop} {A : QA} {rs : QX × QM} {B : QA} {L : QL} {ro : Int64} (hG : QG G) (hM : QMl K) (E : EV K G p s m args meth c cX2_w2 "VaneCourtModel" 2) (hr : meth.sig.returnType = (some .long)) : ∀ (x0 : Int32) (x1 : Int32) {H : Heap} {locs : List Loc} {ls : Array Slot}, f_X2_w2 x0 x1 = some ro → WP K (A, B, L, rs) H locs → lv_has ls 2 [(0, .int x0), (1, .int x1)] → W p l e (qrm 1 40 0 0) s m args below meth c H locs 0 0 (MQ below (QE K (QR (some (.long ro)) (A, B, L, rs))) args s 0 0 (qA K)) (F0 m 0 ls []) := by
  have hx := E.1
  have hb := E.2.1
  have hown := E.2.2.1
  have hts := E.2.2.2.2.1
  intro x0 x1 H locs ls  h hw hl
  rw [f_X2_w2] at h
  refine lv_iload_n hx hb dX2_w2_0 rfl (lv_at hl 0 rfl) ?_
  refine lv_i2l hx hb dX2_w2_1 rfl ?_
  refine lv_bipush (v := (8:Int32)) hx hb dX2_w2_2 (by decide) ?_
  refine lv_lshl hx hb dX2_w2_4 rfl ?_
  refine lv_iload_n hx hb dX2_w2_5 rfl (lv_at hl 1 rfl) ?_
  refine lv_i2l hx hb dX2_w2_6 rfl ?_
  refine lv_lor hx hb dX2_w2_7 ?_
  have h := Option.some.inj h
  have h1 := h
  exact d_lret E hr hw h1 rfl dX2_w2_8

theorem m_X2_w2 (l : Launch) {K : QK} {G : State → Prop} (hG : QG G) (hM : QMl K) {A : QA} {rs : QX × QM} {B : QA} {L : QL} {x0 : Int32} {x1 : Int32} {ro : Int64} (h : f_X2_w2 x0 x1 = some ro) : MC l K G yX2_w2 (ws_ yX2_w2 cX2_w2 2 (some .long)) 1 40 0 0 [.int x0, .int x1] (A, B, L, rs) (QR (some (.long ro)) (A, B, L, rs)) := by
  refine MC.of (by decide) (Nat.le_of_ble_eq_true rfl) (lv := [(0, .int x0), (1, .int x1)]) rfl (fun p e s m below meth c ls E hr hl hw => ?_)
  exact w_X2_w2_0 hG hM E hr _ _  h hw hl

def f_X2_w3 (x0 : Int32) (x1 : Int32) (x2 : Int32) : Option (Int64) :=
  qb1 (f_X2_w2 x0 x1) fun u1 =>
  some (((u1 <<< ((8:Int32).toInt64 &&& 63)) ||| (x2).toInt64))
set_option maxHeartbeats 4000000 in
theorem w_X2_w3_0 {p : Program} {l : Launch} {e : Env} {s : State} {m : MethodId} {args : Array Value} {below : List Frame} {meth : Method} {c : Code} {K : QK} {G : State → Prop} {A : QA} {rs : QX × QM} {B : QA} {L : QL} {ro : Int64} (hG : QG G) (hM : QMl K) (E : EV K G p s m args meth c cX2_w3 "VaneCourtModel" 3) (hr : meth.sig.returnType = (some .long)) : ∀ (x0 : Int32) (x1 : Int32) (x2 : Int32) {H : Heap} {locs : List Loc} {ls : Array Slot}, f_X2_w3 x0 x1 x2 = some ro → WP K (A, B, L, rs) H locs → lv_has ls 3 [(0, .int x0), (1, .int x1), (2, .int x2)] → W p l e (qrm 2 61 0 0) s m args below meth c H locs 0 0 (MQ below (QE K (QR (some (.long ro)) (A, B, L, rs))) args s 0 0 (qA K)) (F0 m 0 ls []) := by
  have hx := E.1
  have hb := E.2.1
  have hown := E.2.2.1
  have hts := E.2.2.2.2.1
  intro x0 x1 x2 H locs ls  h hw hl
  rw [f_X2_w3] at h
  refine lv_iload_n hx hb dX2_w3_0 rfl (lv_at hl 0 rfl) ?_
  refine lv_iload_n hx hb dX2_w3_1 rfl (lv_at hl 1 rfl) ?_
  obtain ⟨u1, g2, h⟩ := qb1_s h
  refine d_S (As := [.int x0, .int x1]) (v0 := some (.long u1)) (w0 := (A, B, L, rs)) hG E hw hl (m_X2_w2 l hG hM  g2) (va_cwS 2 hts (lw_S q1543 q1544 q140 q1545) rfl rfl rfl kd_X2_w2 ⟨Nat.le_of_ble_eq_true rfl, Nat.le_of_ble_eq_true rfl⟩) rfl (rest := []) (st1 := [.long u1]) rfl rfl rfl dX2_w3_2 ⟨Nat.le_of_ble_eq_true rfl, Nat.le_of_ble_eq_true rfl⟩ (fun H locs hw => ?_)
  refine lv_bipush (v := (8:Int32)) hx hb dX2_w3_5 (by decide) ?_
  refine lv_lshl hx hb dX2_w3_7 rfl ?_
  refine lv_iload_n hx hb dX2_w3_8 rfl (lv_at hl 2 rfl) ?_
  refine lv_i2l hx hb dX2_w3_9 rfl ?_
  refine lv_lor hx hb dX2_w3_10 ?_
  have h := Option.some.inj h
  have h1 := h
  exact d_lret E hr hw h1 rfl dX2_w3_11

theorem m_X2_w3 (l : Launch) {K : QK} {G : State → Prop} (hG : QG G) (hM : QMl K) {A : QA} {rs : QX × QM} {B : QA} {L : QL} {x0 : Int32} {x1 : Int32} {x2 : Int32} {ro : Int64} (h : f_X2_w3 x0 x1 x2 = some ro) : MC l K G yX2_w3 (ws_ yX2_w3 cX2_w3 3 (some .long)) 2 61 0 0 [.int x0, .int x1, .int x2] (A, B, L, rs) (QR (some (.long ro)) (A, B, L, rs)) := by
  refine MC.of (by decide) (Nat.le_of_ble_eq_true rfl) (lv := [(0, .int x0), (1, .int x1), (2, .int x2)]) rfl (fun p e s m below meth c ls E hr hl hw => ?_)
  exact w_X2_w3_0 hG hM E hr _ _ _  h hw hl

def f_X2_w4 (x0 : Int32) (x1 : Int32) (x2 : Int32) (x3 : Int32) : Option (Int64) :=
  qb1 (f_X2_w3 x0 x1 x2) fun u1 =>
  some (((u1 <<< ((8:Int32).toInt64 &&& 63)) ||| (x3).toInt64))
set_option maxHeartbeats 4000000 in
theorem w_X2_w4_0 {p : Program} {l : Launch} {e : Env} {s : State} {m : MethodId} {args : Array Value} {below : List Frame} {meth : Method} {c : Code} {K : QK} {G : State → Prop} {A : QA} {rs : QX × QM} {B : QA} {L : QL} {ro : Int64} (hG : QG G) (hM : QMl K) (E : EV K G p s m args meth c cX2_w4 "VaneCourtModel" 4) (hr : meth.sig.returnType = (some .long)) : ∀ (x0 : Int32) (x1 : Int32) (x2 : Int32) (x3 : Int32) {H : Heap} {locs : List Loc} {ls : Array Slot}, f_X2_w4 x0 x1 x2 x3 = some ro → WP K (A, B, L, rs) H locs → lv_has ls 4 [(0, .int x0), (1, .int x1), (2, .int x2), (3, .int x3)] → W p l e (qrm 3 83 0 0) s m args below meth c H locs 0 0 (MQ below (QE K (QR (some (.long ro)) (A, B, L, rs))) args s 0 0 (qA K)) (F0 m 0 ls []) := by
  have hx := E.1
  have hb := E.2.1
  have hown := E.2.2.1
  have hts := E.2.2.2.2.1
  intro x0 x1 x2 x3 H locs ls  h hw hl
  rw [f_X2_w4] at h
  refine lv_iload_n hx hb dX2_w4_0 rfl (lv_at hl 0 rfl) ?_
  refine lv_iload_n hx hb dX2_w4_1 rfl (lv_at hl 1 rfl) ?_
  refine lv_iload_n hx hb dX2_w4_2 rfl (lv_at hl 2 rfl) ?_
  obtain ⟨u1, g2, h⟩ := qb1_s h
  refine d_S (As := [.int x0, .int x1, .int x2]) (v0 := some (.long u1)) (w0 := (A, B, L, rs)) hG E hw hl (m_X2_w3 l hG hM  g2) (va_cwS 3 hts (lw_S q1540 q1541 q140 q1542) rfl rfl rfl kd_X2_w3 ⟨Nat.le_of_ble_eq_true rfl, Nat.le_of_ble_eq_true rfl⟩) rfl (rest := []) (st1 := [.long u1]) rfl rfl rfl dX2_w4_3 ⟨Nat.le_of_ble_eq_true rfl, Nat.le_of_ble_eq_true rfl⟩ (fun H locs hw => ?_)
  refine lv_bipush (v := (8:Int32)) hx hb dX2_w4_6 (by decide) ?_
  refine lv_lshl hx hb dX2_w4_8 rfl ?_
  refine lv_iload_n hx hb dX2_w4_9 rfl (lv_at hl 3 rfl) ?_
  refine lv_i2l hx hb dX2_w4_10 rfl ?_
  refine lv_lor hx hb dX2_w4_11 ?_
  have h := Option.some.inj h
  have h1 := h
  exact d_lret E hr hw h1 rfl dX2_w4_12

theorem m_X2_w4 (l : Launch) {K : QK} {G : State → Prop} (hG : QG G) (hM : QMl K) {A : QA} {rs : QX × QM} {B : QA} {L : QL} {x0 : Int32} {x1 : Int32} {x2 : Int32} {x3 : Int32} {ro : Int64} (h : f_X2_w4 x0 x1 x2 x3 = some ro) : MC l K G yX2_w4 (ws_ yX2_w4 cX2_w4 4 (some .long)) 3 83 0 0 [.int x0, .int x1, .int x2, .int x3] (A, B, L, rs) (QR (some (.long ro)) (A, B, L, rs)) := by
  refine MC.of (by decide) (Nat.le_of_ble_eq_true rfl) (lv := [(0, .int x0), (1, .int x1), (2, .int x2), (3, .int x3)]) rfl (fun p e s m below meth c ls E hr hl hw => ?_)
  exact w_X2_w4_0 hG hM E hr _ _ _ _  h hw hl

def f_X2_w5 (x0 : Int32) (x1 : Int32) (x2 : Int32) (x3 : Int32) (x4 : Int32) : Option (Int64) :=
  qb1 (f_X2_w4 x0 x1 x2 x3) fun u1 =>
  some (((u1 <<< ((8:Int32).toInt64 &&& 63)) ||| (x4).toInt64))
set_option maxHeartbeats 4000000 in
theorem w_X2_w5_0 {p : Program} {l : Launch} {e : Env} {s : State} {m : MethodId} {args : Array Value} {below : List Frame} {meth : Method} {c : Code} {K : QK} {G : State → Prop} {A : QA} {rs : QX × QM} {B : QA} {L : QL} {ro : Int64} (hG : QG G) (hM : QMl K) (E : EV K G p s m args meth c cX2_w5 "VaneCourtModel" 5) (hr : meth.sig.returnType = (some .long)) : ∀ (x0 : Int32) (x1 : Int32) (x2 : Int32) (x3 : Int32) (x4 : Int32) {H : Heap} {locs : List Loc} {ls : Array Slot}, f_X2_w5 x0 x1 x2 x3 x4 = some ro → WP K (A, B, L, rs) H locs → lv_has ls 5 [(0, .int x0), (1, .int x1), (2, .int x2), (3, .int x3), (4, .int x4)] → W p l e (qrm 4 106 0 0) s m args below meth c H locs 0 0 (MQ below (QE K (QR (some (.long ro)) (A, B, L, rs))) args s 0 0 (qA K)) (F0 m 0 ls []) := by
  have hx := E.1
  have hb := E.2.1
  have hown := E.2.2.1
  have hts := E.2.2.2.2.1
  intro x0 x1 x2 x3 x4 H locs ls  h hw hl
  rw [f_X2_w5] at h
  refine lv_iload_n hx hb dX2_w5_0 rfl (lv_at hl 0 rfl) ?_
  refine lv_iload_n hx hb dX2_w5_1 rfl (lv_at hl 1 rfl) ?_
  refine lv_iload_n hx hb dX2_w5_2 rfl (lv_at hl 2 rfl) ?_
  refine lv_iload_n hx hb dX2_w5_3 rfl (lv_at hl 3 rfl) ?_
  obtain ⟨u1, g2, h⟩ := qb1_s h
  refine d_S (As := [.int x0, .int x1, .int x2, .int x3]) (v0 := some (.long u1)) (w0 := (A, B, L, rs)) hG E hw hl (m_X2_w4 l hG hM  g2) (va_cwS 4 hts (lw_S q1537 q1538 q140 q1539) rfl rfl rfl kd_X2_w4 ⟨Nat.le_of_ble_eq_true rfl, Nat.le_of_ble_eq_true rfl⟩) rfl (rest := []) (st1 := [.long u1]) rfl rfl rfl dX2_w5_4 ⟨Nat.le_of_ble_eq_true rfl, Nat.le_of_ble_eq_true rfl⟩ (fun H locs hw => ?_)
  refine lv_bipush (v := (8:Int32)) hx hb dX2_w5_7 (by decide) ?_
  refine lv_lshl hx hb dX2_w5_9 rfl ?_
  refine lv_iload hx hb dX2_w5_10 (lv_at hl 4 rfl) ?_
  refine lv_i2l hx hb dX2_w5_12 rfl ?_
  refine lv_lor hx hb dX2_w5_13 ?_
  have h := Option.some.inj h
  have h1 := h
  exact d_lret E hr hw h1 rfl dX2_w5_14

theorem m_X2_w5 (l : Launch) {K : QK} {G : State → Prop} (hG : QG G) (hM : QMl K) {A : QA} {rs : QX × QM} {B : QA} {L : QL} {x0 : Int32} {x1 : Int32} {x2 : Int32} {x3 : Int32} {x4 : Int32} {ro : Int64} (h : f_X2_w5 x0 x1 x2 x3 x4 = some ro) : MC l K G yX2_w5 (ws_ yX2_w5 cX2_w5 5 (some .long)) 4 106 0 0 [.int x0, .int x1, .int x2, .int x3, .int x4] (A, B, L, rs) (QR (some (.long ro)) (A, B, L, rs)) := by
  refine MC.of (by decide) (Nat.le_of_ble_eq_true rfl) (lv := [(0, .int x0), (1, .int x1), (2, .int x2), (3, .int x3), (4, .int x4)]) rfl (fun p e s m below meth c ls E hr hl hw => ?_)
  exact w_X2_w5_0 hG hM E hr _ _ _ _ _  h hw hl

def f_X2_isWord (x1 : Int64) (B : QA) (L : QL) : Option (Int32) :=
  if (B 1000 9) = (2:Int32) then (
  if (lg_cmp (L 1000 11) x1) = (0:Int32) then (
  some ((1:Int32))) else (
  some ((0:Int32)))) else (
  some ((0:Int32)))
set_option maxHeartbeats 4000000 in
theorem w_X2_isWord_0 {p : Program} {l : Launch} {e : Env} {s : State} {m : MethodId} {args : Array Value} {below : List Frame} {meth : Method} {c : Code} {K : QK} {G : State → Prop} {A : QA} {rs : QX × QM} {ro : Int32} (hG : QG G) (hM : QMl K) (E : EV K G p s m args meth c cX2_isWord "VaneCourtModel" 3) (hr : meth.sig.returnType = (some .boolean)) : ∀ (x1 : Int64) (B : QA) (L : QL) {H : Heap} {locs : List Loc} {ls : Array Slot}, f_X2_isWord x1 B L = some ro → WP K (A, B, L, rs) H locs → lv_has ls 3 [(0, .ref (K.2.1 1000)), (1, .long x1)] → W p l e (qrm 1 40 0 0) s m args below meth c H locs 0 0 (MQ below (QE K (QR (some (.int ro)) (A, B, L, rs))) args s 0 0 (qA K)) (F0 m 0 ls []) := by
  have hx := E.1
  have hb := E.2.1
  have hown := E.2.2.1
  have hts := E.2.2.2.2.1
  intro x1 B L H locs ls  h hw hl
  rw [f_X2_isWord] at h
  refine lv_aload_n hx hb dX2_isWord_0 rfl (lv_at hl 0 rfl) ?_
  refine r_getM (v := .int (B 1000 9)) E hw hM 9 (by decide) q1362 rfl dX2_isWord_1 ?_
  refine lv_iconst (v := (2:Int32)) hx hb dX2_isWord_4 (by decide) ?_
  refine lv_icmp_ne (tgt := 21) hx hb dX2_isWord_5 (by decide) (fun c => ?_) (fun c => ?_)
  · have h := qi_f c h
    refine lv_iconst (v := (0:Int32)) hx hb dX2_isWord_21 (by decide) ?_
    have h := Option.some.inj h
    have h1 := h
    exact d_iret E hr rfl hw h1 rfl dX2_isWord_22
  · have h := qi_t c h
    refine lv_aload_n hx hb dX2_isWord_8 rfl (lv_at hl 0 rfl) ?_
    refine r_getM (v := .long (L 1000 11)) E hw hM 11 (by decide) q1364 rfl dX2_isWord_9 ?_
    refine lv_lload_n hx hb dX2_isWord_12 rfl (lv_at hl 1 rfl) ?_
    refine W.lcmp hx hb dX2_isWord_13 ?_
    refine lv_if_ne (tgt := 21) hx hb dX2_isWord_14 (by decide) (fun c => ?_) (fun c => ?_)
    · have h := qi_f c h
      refine lv_iconst (v := (0:Int32)) hx hb dX2_isWord_21 (by decide) ?_
      have h := Option.some.inj h
      have h1 := h
      exact d_iret E hr rfl hw h1 rfl dX2_isWord_22
    · have h := qi_t c h
      refine lv_iconst (v := (1:Int32)) hx hb dX2_isWord_17 (by decide) ?_
      refine lv_goto (tgt := 22) hx hb dX2_isWord_18 (by decide) ?_
      have h := Option.some.inj h
      have h1 := h
      exact d_iret E hr rfl hw h1 rfl dX2_isWord_22

theorem m_X2_isWord (l : Launch) {K : QK} {G : State → Prop} (hG : QG G) (hM : QMl K) {A : QA} {rs : QX × QM} {x1 : Int64} {B : QA} {L : QL} {ro : Int32} (h : f_X2_isWord x1 B L = some ro) : MC l K G yX2_isWord (ws_ yX2_isWord cX2_isWord 3 (some .boolean)) 1 40 0 0 [.ref (K.2.1 1000), .long x1] (A, B, L, rs) (QR (some (.int ro)) (A, B, L, rs)) := by
  refine MC.of (by decide) (Nat.le_of_ble_eq_true rfl) (lv := [(0, .ref (K.2.1 1000)), (1, .long x1)]) rfl (fun p e s m below meth c ls E hr hl hw => ?_)
  exact w_X2_isWord_0 hG hM E hr _ _ _  h hw hl

def f_X2_isLong_114 (x1 : Int64) (x3 : Int64) (s0 : Int64) (B : QA) : Option (Int32) :=
  qb1 (f_X2_byteAt (B 1000 8) B) fun u11 =>
  qb1 (f_X2_byteAt ((B 1000 8) + (1:Int32)) B) fun u13 =>
  qb1 (f_X2_byteAt ((B 1000 8) + (2:Int32)) B) fun u15 =>
  qb1 (f_X2_byteAt ((B 1000 8) + (3:Int32)) B) fun u17 =>
  qb1 (f_X2_w4 u11 u13 u15 u17) fun u19 =>
  if (lg_cmp u19 x1) = (0:Int32) then (
  if (lg_cmp s0 x3) = (0:Int32) then (
  some ((1:Int32))) else (
  some ((0:Int32)))) else (
  some ((0:Int32)))
set_option maxHeartbeats 4000000 in
theorem w_X2_isLong_114 {p : Program} {l : Launch} {e : Env} {s : State} {m : MethodId} {args : Array Value} {below : List Frame} {meth : Method} {c : Code} {K : QK} {G : State → Prop} {A : QA} {rs : QX × QM} {L : QL} {ro : Int32} (hG : QG G) (hM : QMl K) (E : EV K G p s m args meth c cX2_isLong "VaneCourtModel" 8) (hr : meth.sig.returnType = (some .boolean)) : ∀ (x1 : Int64) (x3 : Int64) (s0 : Int64) (B : QA) {H : Heap} {locs : List Loc} {ls : Array Slot}, f_X2_isLong_114 x1 x3 s0 B = some ro → WP K (A, B, L, rs) H locs → lv_has ls 8 [(0, .ref (K.2.1 1000)), (1, .long x1), (3, .long x3)] → W p l e (qrm 4 106 0 0) s m args below meth c H locs 0 0 (MQ below (QE K (QR (some (.int ro)) (A, B, L, rs))) args s 0 0 (qA K)) (F0 m 114 ls [.long s0]) := by
  have hx := E.1
  have hb := E.2.1
  have hown := E.2.2.1
  have hts := E.2.2.2.2.1
  intro x1 x3 s0 B H locs ls  h hw hl
  rw [f_X2_isLong_114] at h
  refine lv_lstore (lv' := [(6, .long s0), (0, .ref (K.2.1 1000)), (1, .long x1), (3, .long x3)]) hx hb dX2_isLong_114 hl (by decide) rfl (fun ls hl => ?_)
  refine lv_aload_n hx hb dX2_isLong_116 rfl (lv_at hl 1 rfl) ?_
  refine lv_aload_n hx hb dX2_isLong_117 rfl (lv_at hl 1 rfl) ?_
  refine r_getM (v := .int (B 1000 8)) E hw hM 8 (by decide) q1361 rfl dX2_isLong_118 ?_
  obtain ⟨u11, g12, h⟩ := qb1_s h
  refine d_V (As := [.int (B 1000 8)]) (v0 := some (.int u11)) (w0 := (A, B, L, rs)) hG E hw hl (m_X2_byteAt l hG hM  g12) (qM0 hM) rfl (cwV 1 hts (lw_V q1511 q1513 qs62 q140 q1514) rfl rfl rfl ⟨rfl, kd_X2_byteAt⟩ ⟨Nat.le_of_ble_eq_true rfl, Nat.le_of_ble_eq_true rfl⟩) rfl (rest := []) (st1 := [.int u11]) rfl rfl rfl dX2_isLong_121 ⟨Nat.le_of_ble_eq_true rfl, Nat.le_of_ble_eq_true rfl⟩ (fun H locs hw => ?_)
  refine lv_aload_n hx hb dX2_isLong_124 rfl (lv_at hl 1 rfl) ?_
  refine lv_aload_n hx hb dX2_isLong_125 rfl (lv_at hl 1 rfl) ?_
  refine r_getM (v := .int (B 1000 8)) E hw hM 8 (by decide) q1361 rfl dX2_isLong_126 ?_
  refine lv_iconst (v := (1:Int32)) hx hb dX2_isLong_129 (by decide) ?_
  refine lv_iadd hx hb dX2_isLong_130 ?_
  obtain ⟨u13, g14, h⟩ := qb1_s h
  refine d_V (As := [.int ((B 1000 8) + (1:Int32))]) (v0 := some (.int u13)) (w0 := (A, B, L, rs)) hG E hw hl (m_X2_byteAt l hG hM  g14) (qM0 hM) rfl (cwV 1 hts (lw_V q1511 q1513 qs62 q140 q1514) rfl rfl rfl ⟨rfl, kd_X2_byteAt⟩ ⟨Nat.le_of_ble_eq_true rfl, Nat.le_of_ble_eq_true rfl⟩) rfl (rest := [.int u11]) (st1 := [.int u13, .int u11]) rfl rfl rfl dX2_isLong_131 ⟨Nat.le_of_ble_eq_true rfl, Nat.le_of_ble_eq_true rfl⟩ (fun H locs hw => ?_)
  refine lv_aload_n hx hb dX2_isLong_134 rfl (lv_at hl 1 rfl) ?_
  refine lv_aload_n hx hb dX2_isLong_135 rfl (lv_at hl 1 rfl) ?_
  refine r_getM (v := .int (B 1000 8)) E hw hM 8 (by decide) q1361 rfl dX2_isLong_136 ?_
  refine lv_iconst (v := (2:Int32)) hx hb dX2_isLong_139 (by decide) ?_
  refine lv_iadd hx hb dX2_isLong_140 ?_
  obtain ⟨u15, g16, h⟩ := qb1_s h
  refine d_V (As := [.int ((B 1000 8) + (2:Int32))]) (v0 := some (.int u15)) (w0 := (A, B, L, rs)) hG E hw hl (m_X2_byteAt l hG hM  g16) (qM0 hM) rfl (cwV 1 hts (lw_V q1511 q1513 qs62 q140 q1514) rfl rfl rfl ⟨rfl, kd_X2_byteAt⟩ ⟨Nat.le_of_ble_eq_true rfl, Nat.le_of_ble_eq_true rfl⟩) rfl (rest := [.int u13, .int u11]) (st1 := [.int u15, .int u13, .int u11]) rfl rfl rfl dX2_isLong_141 ⟨Nat.le_of_ble_eq_true rfl, Nat.le_of_ble_eq_true rfl⟩ (fun H locs hw => ?_)
  refine lv_aload_n hx hb dX2_isLong_144 rfl (lv_at hl 1 rfl) ?_
  refine lv_aload_n hx hb dX2_isLong_145 rfl (lv_at hl 1 rfl) ?_
  refine r_getM (v := .int (B 1000 8)) E hw hM 8 (by decide) q1361 rfl dX2_isLong_146 ?_
  refine lv_iconst (v := (3:Int32)) hx hb dX2_isLong_149 (by decide) ?_
  refine lv_iadd hx hb dX2_isLong_150 ?_
  obtain ⟨u17, g18, h⟩ := qb1_s h
  refine d_V (As := [.int ((B 1000 8) + (3:Int32))]) (v0 := some (.int u17)) (w0 := (A, B, L, rs)) hG E hw hl (m_X2_byteAt l hG hM  g18) (qM0 hM) rfl (cwV 1 hts (lw_V q1511 q1513 qs62 q140 q1514) rfl rfl rfl ⟨rfl, kd_X2_byteAt⟩ ⟨Nat.le_of_ble_eq_true rfl, Nat.le_of_ble_eq_true rfl⟩) rfl (rest := [.int u15, .int u13, .int u11]) (st1 := [.int u17, .int u15, .int u13, .int u11]) rfl rfl rfl dX2_isLong_151 ⟨Nat.le_of_ble_eq_true rfl, Nat.le_of_ble_eq_true rfl⟩ (fun H locs hw => ?_)
  obtain ⟨u19, g20, h⟩ := qb1_s h
  refine d_S (As := [.int u11, .int u13, .int u15, .int u17]) (v0 := some (.long u19)) (w0 := (A, B, L, rs)) hG E hw hl (m_X2_w4 l hG hM  g20) (va_cwS 4 hts (lw_S q1537 q1538 q140 q1539) rfl rfl rfl kd_X2_w4 ⟨Nat.le_of_ble_eq_true rfl, Nat.le_of_ble_eq_true rfl⟩) rfl (rest := []) (st1 := [.long u19]) rfl rfl rfl dX2_isLong_154 ⟨Nat.le_of_ble_eq_true rfl, Nat.le_of_ble_eq_true rfl⟩ (fun H locs hw => ?_)
  refine lv_lload_n hx hb dX2_isLong_157 rfl (lv_at hl 2 rfl) ?_
  refine W.lcmp hx hb dX2_isLong_158 ?_
  refine lv_if_ne (tgt := 173) hx hb dX2_isLong_159 (by decide) (fun c => ?_) (fun c => ?_)
  · have h := qi_f c h
    refine lv_iconst (v := (0:Int32)) hx hb dX2_isLong_173 (by decide) ?_
    have h := Option.some.inj h
    have h1 := h
    exact d_iret E hr rfl hw h1 rfl dX2_isLong_174
  · have h := qi_t c h
    refine lv_lload hx hb dX2_isLong_162 (lv_at hl 0 rfl) ?_
    refine lv_lload_n hx hb dX2_isLong_164 rfl (lv_at hl 3 rfl) ?_
    refine W.lcmp hx hb dX2_isLong_165 ?_
    refine lv_if_ne (tgt := 173) hx hb dX2_isLong_166 (by decide) (fun c => ?_) (fun c => ?_)
    · have h := qi_f c h
      refine lv_iconst (v := (0:Int32)) hx hb dX2_isLong_173 (by decide) ?_
      have h := Option.some.inj h
      have h1 := h
      exact d_iret E hr rfl hw h1 rfl dX2_isLong_174
    · have h := qi_t c h
      refine lv_iconst (v := (1:Int32)) hx hb dX2_isLong_169 (by decide) ?_
      refine lv_goto (tgt := 174) hx hb dX2_isLong_170 (by decide) ?_
      have h := Option.some.inj h
      have h1 := h
      exact d_iret E hr rfl hw h1 rfl dX2_isLong_174

def f_X2_isLong (x1 : Int64) (x3 : Int64) (x5 : Int32) (B : QA) : Option (Int32) :=
  if (B 1000 9) = (2:Int32) then (
  if ((B 1000 7) - (B 1000 8)) = ((4:Int32) + x5) then (
  if x5 = (3:Int32) then (
  qb1 (f_X2_byteAt ((B 1000 8) + (4:Int32)) B) fun u21 =>
  qb1 (f_X2_byteAt ((B 1000 8) + (5:Int32)) B) fun u23 =>
  qb1 (f_X2_byteAt ((B 1000 8) + (6:Int32)) B) fun u25 =>
  qb1 (f_X2_w3 u21 u23 u25) fun u27 =>
  f_X2_isLong_114 x1 x3 u27 B) else (
  qb1 (f_X2_byteAt ((B 1000 8) + (4:Int32)) B) fun u1 =>
  qb1 (f_X2_byteAt ((B 1000 8) + (5:Int32)) B) fun u3 =>
  qb1 (f_X2_byteAt ((B 1000 8) + (6:Int32)) B) fun u5 =>
  qb1 (f_X2_byteAt ((B 1000 8) + (7:Int32)) B) fun u7 =>
  qb1 (f_X2_w4 u1 u3 u5 u7) fun u9 =>
  f_X2_isLong_114 x1 x3 u9 B)) else (
  some ((0:Int32)))) else (
  some ((0:Int32)))
set_option maxHeartbeats 4000000 in
theorem w_X2_isLong_0 {p : Program} {l : Launch} {e : Env} {s : State} {m : MethodId} {args : Array Value} {below : List Frame} {meth : Method} {c : Code} {K : QK} {G : State → Prop} {A : QA} {rs : QX × QM} {L : QL} {ro : Int32} (hG : QG G) (hM : QMl K) (E : EV K G p s m args meth c cX2_isLong "VaneCourtModel" 8) (hr : meth.sig.returnType = (some .boolean)) : ∀ (x1 : Int64) (x3 : Int64) (x5 : Int32) (B : QA) {H : Heap} {locs : List Loc} {ls : Array Slot}, f_X2_isLong x1 x3 x5 B = some ro → WP K (A, B, L, rs) H locs → lv_has ls 8 [(0, .ref (K.2.1 1000)), (1, .long x1), (3, .long x3), (5, .int x5)] → W p l e (qrm 4 106 0 0) s m args below meth c H locs 0 0 (MQ below (QE K (QR (some (.int ro)) (A, B, L, rs))) args s 0 0 (qA K)) (F0 m 0 ls []) := by
  have hx := E.1
  have hb := E.2.1
  have hown := E.2.2.1
  have hts := E.2.2.2.2.1
  intro x1 x3 x5 B H locs ls  h hw hl
  rw [f_X2_isLong] at h
  refine lv_aload_n hx hb dX2_isLong_0 rfl (lv_at hl 0 rfl) ?_
  refine r_getM (v := .int (B 1000 9)) E hw hM 9 (by decide) q1362 rfl dX2_isLong_1 ?_
  refine lv_iconst (v := (2:Int32)) hx hb dX2_isLong_4 (by decide) ?_
  refine lv_icmp_ne (tgt := 24) hx hb dX2_isLong_5 (by decide) (fun c => ?_) (fun c => ?_)
  · have h := qi_f c h
    refine lv_iconst (v := (0:Int32)) hx hb dX2_isLong_24 (by decide) ?_
    have h := Option.some.inj h
    have h1 := h
    exact d_iret E hr rfl hw h1 rfl dX2_isLong_25
  · have h := qi_t c h
    refine lv_aload_n hx hb dX2_isLong_8 rfl (lv_at hl 0 rfl) ?_
    refine r_getM (v := .int (B 1000 7)) E hw hM 7 (by decide) q1360 rfl dX2_isLong_9 ?_
    refine lv_aload_n hx hb dX2_isLong_12 rfl (lv_at hl 0 rfl) ?_
    refine r_getM (v := .int (B 1000 8)) E hw hM 8 (by decide) q1361 rfl dX2_isLong_13 ?_
    refine lv_isub hx hb dX2_isLong_16 ?_
    refine lv_iconst (v := (4:Int32)) hx hb dX2_isLong_17 (by decide) ?_
    refine lv_iload hx hb dX2_isLong_18 (lv_at hl 3 rfl) ?_
    refine lv_iadd hx hb dX2_isLong_20 ?_
    refine lv_icmp_eq (tgt := 26) hx hb dX2_isLong_21 (by decide) (fun c => ?_) (fun c => ?_)
    · have h := qi_t c h
      refine lv_iload hx hb dX2_isLong_26 (lv_at hl 3 rfl) ?_
      refine lv_iconst (v := (3:Int32)) hx hb dX2_isLong_28 (by decide) ?_
      refine lv_icmp_ne (tgt := 69) hx hb dX2_isLong_29 (by decide) (fun c => ?_) (fun c => ?_)
      · have h := qi_f c h
        refine lv_aload_n hx hb dX2_isLong_69 rfl (lv_at hl 0 rfl) ?_
        refine lv_aload_n hx hb dX2_isLong_70 rfl (lv_at hl 0 rfl) ?_
        refine r_getM (v := .int (B 1000 8)) E hw hM 8 (by decide) q1361 rfl dX2_isLong_71 ?_
        refine lv_iconst (v := (4:Int32)) hx hb dX2_isLong_74 (by decide) ?_
        refine lv_iadd hx hb dX2_isLong_75 ?_
        obtain ⟨u1, g2, h⟩ := qb1_s h
        refine d_V (As := [.int ((B 1000 8) + (4:Int32))]) (v0 := some (.int u1)) (w0 := (A, B, L, rs)) hG E hw hl (m_X2_byteAt l hG hM  g2) (qM0 hM) rfl (cwV 1 hts (lw_V q1511 q1513 qs62 q140 q1514) rfl rfl rfl ⟨rfl, kd_X2_byteAt⟩ ⟨Nat.le_of_ble_eq_true rfl, Nat.le_of_ble_eq_true rfl⟩) rfl (rest := []) (st1 := [.int u1]) rfl rfl rfl dX2_isLong_76 ⟨Nat.le_of_ble_eq_true rfl, Nat.le_of_ble_eq_true rfl⟩ (fun H locs hw => ?_)
        refine lv_aload_n hx hb dX2_isLong_79 rfl (lv_at hl 0 rfl) ?_
        refine lv_aload_n hx hb dX2_isLong_80 rfl (lv_at hl 0 rfl) ?_
        refine r_getM (v := .int (B 1000 8)) E hw hM 8 (by decide) q1361 rfl dX2_isLong_81 ?_
        refine lv_iconst (v := (5:Int32)) hx hb dX2_isLong_84 (by decide) ?_
        refine lv_iadd hx hb dX2_isLong_85 ?_
        obtain ⟨u3, g4, h⟩ := qb1_s h
        refine d_V (As := [.int ((B 1000 8) + (5:Int32))]) (v0 := some (.int u3)) (w0 := (A, B, L, rs)) hG E hw hl (m_X2_byteAt l hG hM  g4) (qM0 hM) rfl (cwV 1 hts (lw_V q1511 q1513 qs62 q140 q1514) rfl rfl rfl ⟨rfl, kd_X2_byteAt⟩ ⟨Nat.le_of_ble_eq_true rfl, Nat.le_of_ble_eq_true rfl⟩) rfl (rest := [.int u1]) (st1 := [.int u3, .int u1]) rfl rfl rfl dX2_isLong_86 ⟨Nat.le_of_ble_eq_true rfl, Nat.le_of_ble_eq_true rfl⟩ (fun H locs hw => ?_)
        refine lv_aload_n hx hb dX2_isLong_89 rfl (lv_at hl 0 rfl) ?_
        refine lv_aload_n hx hb dX2_isLong_90 rfl (lv_at hl 0 rfl) ?_
        refine r_getM (v := .int (B 1000 8)) E hw hM 8 (by decide) q1361 rfl dX2_isLong_91 ?_
        refine lv_bipush (v := (6:Int32)) hx hb dX2_isLong_94 (by decide) ?_
        refine lv_iadd hx hb dX2_isLong_96 ?_
        obtain ⟨u5, g6, h⟩ := qb1_s h
        refine d_V (As := [.int ((B 1000 8) + (6:Int32))]) (v0 := some (.int u5)) (w0 := (A, B, L, rs)) hG E hw hl (m_X2_byteAt l hG hM  g6) (qM0 hM) rfl (cwV 1 hts (lw_V q1511 q1513 qs62 q140 q1514) rfl rfl rfl ⟨rfl, kd_X2_byteAt⟩ ⟨Nat.le_of_ble_eq_true rfl, Nat.le_of_ble_eq_true rfl⟩) rfl (rest := [.int u3, .int u1]) (st1 := [.int u5, .int u3, .int u1]) rfl rfl rfl dX2_isLong_97 ⟨Nat.le_of_ble_eq_true rfl, Nat.le_of_ble_eq_true rfl⟩ (fun H locs hw => ?_)
        refine lv_aload_n hx hb dX2_isLong_100 rfl (lv_at hl 0 rfl) ?_
        refine lv_aload_n hx hb dX2_isLong_101 rfl (lv_at hl 0 rfl) ?_
        refine r_getM (v := .int (B 1000 8)) E hw hM 8 (by decide) q1361 rfl dX2_isLong_102 ?_
        refine lv_bipush (v := (7:Int32)) hx hb dX2_isLong_105 (by decide) ?_
        refine lv_iadd hx hb dX2_isLong_107 ?_
        obtain ⟨u7, g8, h⟩ := qb1_s h
        refine d_V (As := [.int ((B 1000 8) + (7:Int32))]) (v0 := some (.int u7)) (w0 := (A, B, L, rs)) hG E hw hl (m_X2_byteAt l hG hM  g8) (qM0 hM) rfl (cwV 1 hts (lw_V q1511 q1513 qs62 q140 q1514) rfl rfl rfl ⟨rfl, kd_X2_byteAt⟩ ⟨Nat.le_of_ble_eq_true rfl, Nat.le_of_ble_eq_true rfl⟩) rfl (rest := [.int u5, .int u3, .int u1]) (st1 := [.int u7, .int u5, .int u3, .int u1]) rfl rfl rfl dX2_isLong_108 ⟨Nat.le_of_ble_eq_true rfl, Nat.le_of_ble_eq_true rfl⟩ (fun H locs hw => ?_)
        obtain ⟨u9, g10, h⟩ := qb1_s h
        refine d_S (As := [.int u1, .int u3, .int u5, .int u7]) (v0 := some (.long u9)) (w0 := (A, B, L, rs)) hG E hw hl (m_X2_w4 l hG hM  g10) (va_cwS 4 hts (lw_S q1537 q1538 q140 q1539) rfl rfl rfl kd_X2_w4 ⟨Nat.le_of_ble_eq_true rfl, Nat.le_of_ble_eq_true rfl⟩) rfl (rest := []) (st1 := [.long u9]) rfl rfl rfl dX2_isLong_111 ⟨Nat.le_of_ble_eq_true rfl, Nat.le_of_ble_eq_true rfl⟩ (fun H locs hw => ?_)
        exact w_X2_isLong_114 hG hM E hr  _ _ _ _   h hw (lv_sub hl [0, 1, 2] rfl)
      · have h := qi_t c h
        refine lv_aload_n hx hb dX2_isLong_32 rfl (lv_at hl 0 rfl) ?_
        refine lv_aload_n hx hb dX2_isLong_33 rfl (lv_at hl 0 rfl) ?_
        refine r_getM (v := .int (B 1000 8)) E hw hM 8 (by decide) q1361 rfl dX2_isLong_34 ?_
        refine lv_iconst (v := (4:Int32)) hx hb dX2_isLong_37 (by decide) ?_
        refine lv_iadd hx hb dX2_isLong_38 ?_
        obtain ⟨u21, g22, h⟩ := qb1_s h
        refine d_V (As := [.int ((B 1000 8) + (4:Int32))]) (v0 := some (.int u21)) (w0 := (A, B, L, rs)) hG E hw hl (m_X2_byteAt l hG hM  g22) (qM0 hM) rfl (cwV 1 hts (lw_V q1511 q1513 qs62 q140 q1514) rfl rfl rfl ⟨rfl, kd_X2_byteAt⟩ ⟨Nat.le_of_ble_eq_true rfl, Nat.le_of_ble_eq_true rfl⟩) rfl (rest := []) (st1 := [.int u21]) rfl rfl rfl dX2_isLong_39 ⟨Nat.le_of_ble_eq_true rfl, Nat.le_of_ble_eq_true rfl⟩ (fun H locs hw => ?_)
        refine lv_aload_n hx hb dX2_isLong_42 rfl (lv_at hl 0 rfl) ?_
        refine lv_aload_n hx hb dX2_isLong_43 rfl (lv_at hl 0 rfl) ?_
        refine r_getM (v := .int (B 1000 8)) E hw hM 8 (by decide) q1361 rfl dX2_isLong_44 ?_
        refine lv_iconst (v := (5:Int32)) hx hb dX2_isLong_47 (by decide) ?_
        refine lv_iadd hx hb dX2_isLong_48 ?_
        obtain ⟨u23, g24, h⟩ := qb1_s h
        refine d_V (As := [.int ((B 1000 8) + (5:Int32))]) (v0 := some (.int u23)) (w0 := (A, B, L, rs)) hG E hw hl (m_X2_byteAt l hG hM  g24) (qM0 hM) rfl (cwV 1 hts (lw_V q1511 q1513 qs62 q140 q1514) rfl rfl rfl ⟨rfl, kd_X2_byteAt⟩ ⟨Nat.le_of_ble_eq_true rfl, Nat.le_of_ble_eq_true rfl⟩) rfl (rest := [.int u21]) (st1 := [.int u23, .int u21]) rfl rfl rfl dX2_isLong_49 ⟨Nat.le_of_ble_eq_true rfl, Nat.le_of_ble_eq_true rfl⟩ (fun H locs hw => ?_)
        refine lv_aload_n hx hb dX2_isLong_52 rfl (lv_at hl 0 rfl) ?_
        refine lv_aload_n hx hb dX2_isLong_53 rfl (lv_at hl 0 rfl) ?_
        refine r_getM (v := .int (B 1000 8)) E hw hM 8 (by decide) q1361 rfl dX2_isLong_54 ?_
        refine lv_bipush (v := (6:Int32)) hx hb dX2_isLong_57 (by decide) ?_
        refine lv_iadd hx hb dX2_isLong_59 ?_
        obtain ⟨u25, g26, h⟩ := qb1_s h
        refine d_V (As := [.int ((B 1000 8) + (6:Int32))]) (v0 := some (.int u25)) (w0 := (A, B, L, rs)) hG E hw hl (m_X2_byteAt l hG hM  g26) (qM0 hM) rfl (cwV 1 hts (lw_V q1511 q1513 qs62 q140 q1514) rfl rfl rfl ⟨rfl, kd_X2_byteAt⟩ ⟨Nat.le_of_ble_eq_true rfl, Nat.le_of_ble_eq_true rfl⟩) rfl (rest := [.int u23, .int u21]) (st1 := [.int u25, .int u23, .int u21]) rfl rfl rfl dX2_isLong_60 ⟨Nat.le_of_ble_eq_true rfl, Nat.le_of_ble_eq_true rfl⟩ (fun H locs hw => ?_)
        obtain ⟨u27, g28, h⟩ := qb1_s h
        refine d_S (As := [.int u21, .int u23, .int u25]) (v0 := some (.long u27)) (w0 := (A, B, L, rs)) hG E hw hl (m_X2_w3 l hG hM  g28) (va_cwS 3 hts (lw_S q1540 q1541 q140 q1542) rfl rfl rfl kd_X2_w3 ⟨Nat.le_of_ble_eq_true rfl, Nat.le_of_ble_eq_true rfl⟩) rfl (rest := []) (st1 := [.long u27]) rfl rfl rfl dX2_isLong_63 ⟨Nat.le_of_ble_eq_true rfl, Nat.le_of_ble_eq_true rfl⟩ (fun H locs hw => ?_)
        refine lv_goto (tgt := 114) hx hb dX2_isLong_66 (by decide) ?_
        exact w_X2_isLong_114 hG hM E hr  _ _ _ _   h hw (lv_sub hl [0, 1, 2] rfl)
    · have h := qi_f c h
      refine lv_iconst (v := (0:Int32)) hx hb dX2_isLong_24 (by decide) ?_
      have h := Option.some.inj h
      have h1 := h
      exact d_iret E hr rfl hw h1 rfl dX2_isLong_25

theorem m_X2_isLong (l : Launch) {K : QK} {G : State → Prop} (hG : QG G) (hM : QMl K) {A : QA} {rs : QX × QM} {L : QL} {x1 : Int64} {x3 : Int64} {x5 : Int32} {B : QA} {ro : Int32} (h : f_X2_isLong x1 x3 x5 B = some ro) : MC l K G yX2_isLong (ws_ yX2_isLong cX2_isLong 8 (some .boolean)) 4 106 0 0 [.ref (K.2.1 1000), .long x1, .long x3, .int x5] (A, B, L, rs) (QR (some (.int ro)) (A, B, L, rs)) := by
  refine MC.of (by decide) (Nat.le_of_ble_eq_true rfl) (lv := [(0, .ref (K.2.1 1000)), (1, .long x1), (3, .long x3), (5, .int x5)]) rfl (fun p e s m below meth c ls E hr hl hw => ?_)
  exact w_X2_isLong_0 hG hM E hr _ _ _ _  h hw hl

def f_X2_isSentence (B : QA) : Option (Int32) :=
  qb1 (f_X2_w4 (115:Int32) (101:Int32) (110:Int32) (116:Int32)) fun u1 =>
  qb1 (f_X2_w4 (101:Int32) (110:Int32) (99:Int32) (101:Int32)) fun u3 =>
  qb1 (f_X2_isLong u1 u3 (4:Int32) B) fun u5 =>
  qif (qbo u5) <|
  some (u5)
set_option maxHeartbeats 4000000 in
theorem w_X2_isSentence_0 {p : Program} {l : Launch} {e : Env} {s : State} {m : MethodId} {args : Array Value} {below : List Frame} {meth : Method} {c : Code} {K : QK} {G : State → Prop} {A : QA} {rs : QX × QM} {L : QL} {ro : Int32} (hG : QG G) (hM : QMl K) (E : EV K G p s m args meth c cX2_isSentence "VaneCourtModel" 1) (hr : meth.sig.returnType = (some .boolean)) : ∀ (B : QA) {H : Heap} {locs : List Loc} {ls : Array Slot}, f_X2_isSentence B = some ro → WP K (A, B, L, rs) H locs → lv_has ls 1 [(0, .ref (K.2.1 1000))] → W p l e (qrm 5 133 0 0) s m args below meth c H locs 0 0 (MQ below (QE K (QR (some (.int ro)) (A, B, L, rs))) args s 0 0 (qA K)) (F0 m 0 ls []) := by
  have hx := E.1
  have hb := E.2.1
  have hown := E.2.2.1
  have hts := E.2.2.2.2.1
  intro B H locs ls  h hw hl
  rw [f_X2_isSentence] at h
  refine lv_aload_n hx hb dX2_isSentence_0 rfl (lv_at hl 0 rfl) ?_
  refine lv_bipush (v := (115:Int32)) hx hb dX2_isSentence_1 (by decide) ?_
  refine lv_bipush (v := (101:Int32)) hx hb dX2_isSentence_3 (by decide) ?_
  refine lv_bipush (v := (110:Int32)) hx hb dX2_isSentence_5 (by decide) ?_
  refine lv_bipush (v := (116:Int32)) hx hb dX2_isSentence_7 (by decide) ?_
  obtain ⟨u1, g2, h⟩ := qb1_s h
  refine d_S (As := [.int (115:Int32), .int (101:Int32), .int (110:Int32), .int (116:Int32)]) (v0 := some (.long u1)) (w0 := (A, B, L, rs)) hG E hw hl (m_X2_w4 l hG hM  g2) (va_cwS 4 hts (lw_S q1537 q1538 q140 q1539) rfl rfl rfl kd_X2_w4 ⟨Nat.le_of_ble_eq_true rfl, Nat.le_of_ble_eq_true rfl⟩) rfl (rest := [.ref (K.2.1 1000)]) (st1 := [.long u1, .ref (K.2.1 1000)]) rfl rfl rfl dX2_isSentence_9 ⟨Nat.le_of_ble_eq_true rfl, Nat.le_of_ble_eq_true rfl⟩ (fun H locs hw => ?_)
  refine lv_bipush (v := (101:Int32)) hx hb dX2_isSentence_12 (by decide) ?_
  refine lv_bipush (v := (110:Int32)) hx hb dX2_isSentence_14 (by decide) ?_
  refine lv_bipush (v := (99:Int32)) hx hb dX2_isSentence_16 (by decide) ?_
  refine lv_bipush (v := (101:Int32)) hx hb dX2_isSentence_18 (by decide) ?_
  obtain ⟨u3, g4, h⟩ := qb1_s h
  refine d_S (As := [.int (101:Int32), .int (110:Int32), .int (99:Int32), .int (101:Int32)]) (v0 := some (.long u3)) (w0 := (A, B, L, rs)) hG E hw hl (m_X2_w4 l hG hM  g4) (va_cwS 4 hts (lw_S q1537 q1538 q140 q1539) rfl rfl rfl kd_X2_w4 ⟨Nat.le_of_ble_eq_true rfl, Nat.le_of_ble_eq_true rfl⟩) rfl (rest := [.long u1, .ref (K.2.1 1000)]) (st1 := [.long u3, .long u1, .ref (K.2.1 1000)]) rfl rfl rfl dX2_isSentence_20 ⟨Nat.le_of_ble_eq_true rfl, Nat.le_of_ble_eq_true rfl⟩ (fun H locs hw => ?_)
  refine lv_iconst (v := (4:Int32)) hx hb dX2_isSentence_23 (by decide) ?_
  obtain ⟨u5, g6, h⟩ := qb1_s h
  refine d_V (As := [.long u1, .long u3, .int (4:Int32)]) (v0 := some (.int u5)) (w0 := (A, B, L, rs)) hG E hw hl (m_X2_isLong l hG hM  g6) (qM0 hM) rfl (cwV 3 hts (lw_V q1554 q1556 qs67 q140 q1557) rfl rfl rfl ⟨rfl, kd_X2_isLong⟩ ⟨Nat.le_of_ble_eq_true rfl, Nat.le_of_ble_eq_true rfl⟩) rfl (rest := []) (st1 := [.int u5]) rfl rfl rfl dX2_isSentence_24 ⟨Nat.le_of_ble_eq_true rfl, Nat.le_of_ble_eq_true rfl⟩ (fun H locs hw => ?_)
  obtain ⟨z7, h⟩ := qif_s h
  have h := Option.some.inj h
  have h1 := h
  exact d_iret E hr (qbo_n z7) hw h1 rfl dX2_isSentence_27

theorem m_X2_isSentence (l : Launch) {K : QK} {G : State → Prop} (hG : QG G) (hM : QMl K) {A : QA} {rs : QX × QM} {L : QL} {B : QA} {ro : Int32} (h : f_X2_isSentence B = some ro) : MC l K G yX2_isSentence (ws_ yX2_isSentence cX2_isSentence 1 (some .boolean)) 5 133 0 0 [.ref (K.2.1 1000)] (A, B, L, rs) (QR (some (.int ro)) (A, B, L, rs)) := by
  refine MC.of (by decide) (Nat.le_of_ble_eq_true rfl) (lv := [(0, .ref (K.2.1 1000))]) rfl (fun p e s m below meth c ls E hr hl hw => ?_)
  exact w_X2_isSentence_0 hG hM E hr _  h hw hl

def f_X2_w6 (x0 : Int32) (x1 : Int32) (x2 : Int32) (x3 : Int32) (x4 : Int32) (x5 : Int32) : Option (Int64) :=
  qb1 (f_X2_w5 x0 x1 x2 x3 x4) fun u1 =>
  some (((u1 <<< ((8:Int32).toInt64 &&& 63)) ||| (x5).toInt64))
set_option maxHeartbeats 4000000 in
theorem w_X2_w6_0 {p : Program} {l : Launch} {e : Env} {s : State} {m : MethodId} {args : Array Value} {below : List Frame} {meth : Method} {c : Code} {K : QK} {G : State → Prop} {A : QA} {rs : QX × QM} {B : QA} {L : QL} {ro : Int64} (hG : QG G) (hM : QMl K) (E : EV K G p s m args meth c cX2_w6 "VaneCourtModel" 6) (hr : meth.sig.returnType = (some .long)) : ∀ (x0 : Int32) (x1 : Int32) (x2 : Int32) (x3 : Int32) (x4 : Int32) (x5 : Int32) {H : Heap} {locs : List Loc} {ls : Array Slot}, f_X2_w6 x0 x1 x2 x3 x4 x5 = some ro → WP K (A, B, L, rs) H locs → lv_has ls 6 [(0, .int x0), (1, .int x1), (2, .int x2), (3, .int x3), (4, .int x4), (5, .int x5)] → W p l e (qrm 5 130 0 0) s m args below meth c H locs 0 0 (MQ below (QE K (QR (some (.long ro)) (A, B, L, rs))) args s 0 0 (qA K)) (F0 m 0 ls []) := by
  have hx := E.1
  have hb := E.2.1
  have hown := E.2.2.1
  have hts := E.2.2.2.2.1
  intro x0 x1 x2 x3 x4 x5 H locs ls  h hw hl
  rw [f_X2_w6] at h
  refine lv_iload_n hx hb dX2_w6_0 rfl (lv_at hl 0 rfl) ?_
  refine lv_iload_n hx hb dX2_w6_1 rfl (lv_at hl 1 rfl) ?_
  refine lv_iload_n hx hb dX2_w6_2 rfl (lv_at hl 2 rfl) ?_
  refine lv_iload_n hx hb dX2_w6_3 rfl (lv_at hl 3 rfl) ?_
  refine lv_iload hx hb dX2_w6_4 (lv_at hl 4 rfl) ?_
  obtain ⟨u1, g2, h⟩ := qb1_s h
  refine d_S (As := [.int x0, .int x1, .int x2, .int x3, .int x4]) (v0 := some (.long u1)) (w0 := (A, B, L, rs)) hG E hw hl (m_X2_w5 l hG hM  g2) (va_cwS 5 hts (lw_S q1534 q1535 q140 q1536) rfl rfl rfl kd_X2_w5 ⟨Nat.le_of_ble_eq_true rfl, Nat.le_of_ble_eq_true rfl⟩) rfl (rest := []) (st1 := [.long u1]) rfl rfl rfl dX2_w6_6 ⟨Nat.le_of_ble_eq_true rfl, Nat.le_of_ble_eq_true rfl⟩ (fun H locs hw => ?_)
  refine lv_bipush (v := (8:Int32)) hx hb dX2_w6_9 (by decide) ?_
  refine lv_lshl hx hb dX2_w6_11 rfl ?_
  refine lv_iload hx hb dX2_w6_12 (lv_at hl 5 rfl) ?_
  refine lv_i2l hx hb dX2_w6_14 rfl ?_
  refine lv_lor hx hb dX2_w6_15 ?_
  have h := Option.some.inj h
  have h1 := h
  exact d_lret E hr hw h1 rfl dX2_w6_16

theorem m_X2_w6 (l : Launch) {K : QK} {G : State → Prop} (hG : QG G) (hM : QMl K) {A : QA} {rs : QX × QM} {B : QA} {L : QL} {x0 : Int32} {x1 : Int32} {x2 : Int32} {x3 : Int32} {x4 : Int32} {x5 : Int32} {ro : Int64} (h : f_X2_w6 x0 x1 x2 x3 x4 x5 = some ro) : MC l K G yX2_w6 (ws_ yX2_w6 cX2_w6 6 (some .long)) 5 130 0 0 [.int x0, .int x1, .int x2, .int x3, .int x4, .int x5] (A, B, L, rs) (QR (some (.long ro)) (A, B, L, rs)) := by
  refine MC.of (by decide) (Nat.le_of_ble_eq_true rfl) (lv := [(0, .int x0), (1, .int x1), (2, .int x2), (3, .int x3), (4, .int x4), (5, .int x5)]) rfl (fun p e s m below meth c ls E hr hl hw => ?_)
  exact w_X2_w6_0 hG hM E hr _ _ _ _ _ _  h hw hl

def f_X2_isWithdraw (B : QA) : Option (Int32) :=
  qb1 (f_X2_w4 (119:Int32) (105:Int32) (116:Int32) (104:Int32)) fun u1 =>
  qb1 (f_X2_w4 (100:Int32) (114:Int32) (97:Int32) (119:Int32)) fun u3 =>
  qb1 (f_X2_isLong u1 u3 (4:Int32) B) fun u5 =>
  qif (qbo u5) <|
  some (u5)
set_option maxHeartbeats 4000000 in
theorem w_X2_isWithdraw_0 {p : Program} {l : Launch} {e : Env} {s : State} {m : MethodId} {args : Array Value} {below : List Frame} {meth : Method} {c : Code} {K : QK} {G : State → Prop} {A : QA} {rs : QX × QM} {L : QL} {ro : Int32} (hG : QG G) (hM : QMl K) (E : EV K G p s m args meth c cX2_isWithdraw "VaneCourtModel" 1) (hr : meth.sig.returnType = (some .boolean)) : ∀ (B : QA) {H : Heap} {locs : List Loc} {ls : Array Slot}, f_X2_isWithdraw B = some ro → WP K (A, B, L, rs) H locs → lv_has ls 1 [(0, .ref (K.2.1 1000))] → W p l e (qrm 5 133 0 0) s m args below meth c H locs 0 0 (MQ below (QE K (QR (some (.int ro)) (A, B, L, rs))) args s 0 0 (qA K)) (F0 m 0 ls []) := by
  have hx := E.1
  have hb := E.2.1
  have hown := E.2.2.1
  have hts := E.2.2.2.2.1
  intro B H locs ls  h hw hl
  rw [f_X2_isWithdraw] at h
  refine lv_aload_n hx hb dX2_isWithdraw_0 rfl (lv_at hl 0 rfl) ?_
  refine lv_bipush (v := (119:Int32)) hx hb dX2_isWithdraw_1 (by decide) ?_
  refine lv_bipush (v := (105:Int32)) hx hb dX2_isWithdraw_3 (by decide) ?_
  refine lv_bipush (v := (116:Int32)) hx hb dX2_isWithdraw_5 (by decide) ?_
  refine lv_bipush (v := (104:Int32)) hx hb dX2_isWithdraw_7 (by decide) ?_
  obtain ⟨u1, g2, h⟩ := qb1_s h
  refine d_S (As := [.int (119:Int32), .int (105:Int32), .int (116:Int32), .int (104:Int32)]) (v0 := some (.long u1)) (w0 := (A, B, L, rs)) hG E hw hl (m_X2_w4 l hG hM  g2) (va_cwS 4 hts (lw_S q1537 q1538 q140 q1539) rfl rfl rfl kd_X2_w4 ⟨Nat.le_of_ble_eq_true rfl, Nat.le_of_ble_eq_true rfl⟩) rfl (rest := [.ref (K.2.1 1000)]) (st1 := [.long u1, .ref (K.2.1 1000)]) rfl rfl rfl dX2_isWithdraw_9 ⟨Nat.le_of_ble_eq_true rfl, Nat.le_of_ble_eq_true rfl⟩ (fun H locs hw => ?_)
  refine lv_bipush (v := (100:Int32)) hx hb dX2_isWithdraw_12 (by decide) ?_
  refine lv_bipush (v := (114:Int32)) hx hb dX2_isWithdraw_14 (by decide) ?_
  refine lv_bipush (v := (97:Int32)) hx hb dX2_isWithdraw_16 (by decide) ?_
  refine lv_bipush (v := (119:Int32)) hx hb dX2_isWithdraw_18 (by decide) ?_
  obtain ⟨u3, g4, h⟩ := qb1_s h
  refine d_S (As := [.int (100:Int32), .int (114:Int32), .int (97:Int32), .int (119:Int32)]) (v0 := some (.long u3)) (w0 := (A, B, L, rs)) hG E hw hl (m_X2_w4 l hG hM  g4) (va_cwS 4 hts (lw_S q1537 q1538 q140 q1539) rfl rfl rfl kd_X2_w4 ⟨Nat.le_of_ble_eq_true rfl, Nat.le_of_ble_eq_true rfl⟩) rfl (rest := [.long u1, .ref (K.2.1 1000)]) (st1 := [.long u3, .long u1, .ref (K.2.1 1000)]) rfl rfl rfl dX2_isWithdraw_20 ⟨Nat.le_of_ble_eq_true rfl, Nat.le_of_ble_eq_true rfl⟩ (fun H locs hw => ?_)
  refine lv_iconst (v := (4:Int32)) hx hb dX2_isWithdraw_23 (by decide) ?_
  obtain ⟨u5, g6, h⟩ := qb1_s h
  refine d_V (As := [.long u1, .long u3, .int (4:Int32)]) (v0 := some (.int u5)) (w0 := (A, B, L, rs)) hG E hw hl (m_X2_isLong l hG hM  g6) (qM0 hM) rfl (cwV 3 hts (lw_V q1554 q1556 qs67 q140 q1557) rfl rfl rfl ⟨rfl, kd_X2_isLong⟩ ⟨Nat.le_of_ble_eq_true rfl, Nat.le_of_ble_eq_true rfl⟩) rfl (rest := []) (st1 := [.int u5]) rfl rfl rfl dX2_isWithdraw_24 ⟨Nat.le_of_ble_eq_true rfl, Nat.le_of_ble_eq_true rfl⟩ (fun H locs hw => ?_)
  obtain ⟨z7, h⟩ := qif_s h
  have h := Option.some.inj h
  have h1 := h
  exact d_iret E hr (qbo_n z7) hw h1 rfl dX2_isWithdraw_27

theorem m_X2_isWithdraw (l : Launch) {K : QK} {G : State → Prop} (hG : QG G) (hM : QMl K) {A : QA} {rs : QX × QM} {L : QL} {B : QA} {ro : Int32} (h : f_X2_isWithdraw B = some ro) : MC l K G yX2_isWithdraw (ws_ yX2_isWithdraw cX2_isWithdraw 1 (some .boolean)) 5 133 0 0 [.ref (K.2.1 1000)] (A, B, L, rs) (QR (some (.int ro)) (A, B, L, rs)) := by
  refine MC.of (by decide) (Nat.le_of_ble_eq_true rfl) (lv := [(0, .ref (K.2.1 1000))]) rfl (fun p e s m below meth c ls E hr hl hw => ?_)
  exact w_X2_isWithdraw_0 hG hM E hr _  h hw hl

def f_X2_sortOf (B : QA) (L : QL) : Option (Int32) :=
  qb1 (f_X2_w5 (118:Int32) (101:Int32) (101:Int32) (114:Int32) (115:Int32)) fun u1 =>
  qb1 (f_X2_isWord u1 B L) fun u3 =>
  if u3 = (0:Int32) then (
  qb1 (f_X2_w5 (98:Int32) (108:Int32) (111:Int32) (119:Int32) (115:Int32)) fun u5 =>
  qb1 (f_X2_isWord u5 B L) fun u7 =>
  if u7 = (0:Int32) then (
  qb1 (f_X2_w4 (102:Int32) (111:Int32) (103:Int32) (115:Int32)) fun u9 =>
  qb1 (f_X2_isWord u9 B L) fun u11 =>
  if u11 = (0:Int32) then (
  qb1 (f_X2_isSentence B) fun u13 =>
  if u13 = (0:Int32) then (
  qb1 (f_X2_w4 (99:Int32) (111:Int32) (100:Int32) (101:Int32)) fun u15 =>
  qb1 (f_X2_isWord u15 B L) fun u17 =>
  if u17 = (0:Int32) then (
  qb1 (f_X2_w4 (99:Int32) (97:Int32) (115:Int32) (101:Int32)) fun u19 =>
  qb1 (f_X2_isWord u19 B L) fun u21 =>
  if u21 = (0:Int32) then (
  qb1 (f_X2_w4 (99:Int32) (97:Int32) (108:Int32) (108:Int32)) fun u23 =>
  qb1 (f_X2_isWord u23 B L) fun u25 =>
  if u25 = (0:Int32) then (
  qb1 (f_X2_w5 (100:Int32) (101:Int32) (108:Int32) (97:Int32) (121:Int32)) fun u27 =>
  qb1 (f_X2_isWord u27 B L) fun u29 =>
  if u29 = (0:Int32) then (
  qb1 (f_X2_w6 (97:Int32) (112:Int32) (112:Int32) (101:Int32) (97:Int32) (108:Int32)) fun u31 =>
  qb1 (f_X2_isWord u31 B L) fun u33 =>
  if u33 = (0:Int32) then (
  qb1 (f_X2_w4 (103:Int32) (117:Int32) (115:Int32) (116:Int32)) fun u35 =>
  qb1 (f_X2_isWord u35 B L) fun u37 =>
  if u37 = (0:Int32) then (
  qb1 (f_X2_isWithdraw B) fun u39 =>
  if u39 = (0:Int32) then (
  qb1 (f_X2_w4 (104:Int32) (111:Int32) (117:Int32) (114:Int32)) fun u41 =>
  qb1 (f_X2_isWord u41 B L) fun u43 =>
  if u43 = (0:Int32) then (
  some ((-1:Int32))) else (
  some ((11:Int32)))) else (
  some ((10:Int32)))) else (
  some ((9:Int32)))) else (
  some ((8:Int32)))) else (
  some ((7:Int32)))) else (
  some ((6:Int32)))) else (
  some ((5:Int32)))) else (
  some ((4:Int32)))) else (
  some ((3:Int32)))) else (
  some ((2:Int32)))) else (
  some ((1:Int32)))) else (
  some ((0:Int32)))
set_option maxHeartbeats 4000000 in
theorem w_X2_sortOf_0 {p : Program} {l : Launch} {e : Env} {s : State} {m : MethodId} {args : Array Value} {below : List Frame} {meth : Method} {c : Code} {K : QK} {G : State → Prop} {A : QA} {rs : QX × QM} {ro : Int32} (hG : QG G) (hM : QMl K) (E : EV K G p s m args meth c cX2_sortOf "VaneCourtModel" 1) (hr : meth.sig.returnType = (some .int)) : ∀ (B : QA) (L : QL) {H : Heap} {locs : List Loc} {ls : Array Slot}, f_X2_sortOf B L = some ro → WP K (A, B, L, rs) H locs → lv_has ls 1 [(0, .ref (K.2.1 1000))] → W p l e (qrm 6 155 0 0) s m args below meth c H locs 0 0 (MQ below (QE K (QR (some (.int ro)) (A, B, L, rs))) args s 0 0 (qA K)) (F0 m 0 ls []) := by
  have hx := E.1
  have hb := E.2.1
  have hown := E.2.2.1
  have hts := E.2.2.2.2.1
  intro B L H locs ls  h hw hl
  rw [f_X2_sortOf] at h
  refine lv_aload_n hx hb dX2_sortOf_0 rfl (lv_at hl 0 rfl) ?_
  refine lv_bipush (v := (118:Int32)) hx hb dX2_sortOf_1 (by decide) ?_
  refine lv_bipush (v := (101:Int32)) hx hb dX2_sortOf_3 (by decide) ?_
  refine lv_bipush (v := (101:Int32)) hx hb dX2_sortOf_5 (by decide) ?_
  refine lv_bipush (v := (114:Int32)) hx hb dX2_sortOf_7 (by decide) ?_
  refine lv_bipush (v := (115:Int32)) hx hb dX2_sortOf_9 (by decide) ?_
  obtain ⟨u1, g2, h⟩ := qb1_s h
  refine d_S (As := [.int (118:Int32), .int (101:Int32), .int (101:Int32), .int (114:Int32), .int (115:Int32)]) (v0 := some (.long u1)) (w0 := (A, B, L, rs)) hG E hw hl (m_X2_w5 l hG hM  g2) (va_cwS 5 hts (lw_S q1534 q1535 q140 q1536) rfl rfl rfl kd_X2_w5 ⟨Nat.le_of_ble_eq_true rfl, Nat.le_of_ble_eq_true rfl⟩) rfl (rest := [.ref (K.2.1 1000)]) (st1 := [.long u1, .ref (K.2.1 1000)]) rfl rfl rfl dX2_sortOf_11 ⟨Nat.le_of_ble_eq_true rfl, Nat.le_of_ble_eq_true rfl⟩ (fun H locs hw => ?_)
  obtain ⟨u3, g4, h⟩ := qb1_s h
  refine d_V (As := [.long u1]) (v0 := some (.int u3)) (w0 := (A, B, L, rs)) hG E hw hl (m_X2_isWord l hG hM  g4) (qM0 hM) rfl (cwV 1 hts (lw_V q1546 q1548 qs65 q140 q1549) rfl rfl rfl ⟨rfl, kd_X2_isWord⟩ ⟨Nat.le_of_ble_eq_true rfl, Nat.le_of_ble_eq_true rfl⟩) rfl (rest := []) (st1 := [.int u3]) rfl rfl rfl dX2_sortOf_14 ⟨Nat.le_of_ble_eq_true rfl, Nat.le_of_ble_eq_true rfl⟩ (fun H locs hw => ?_)
  refine lv_if_eq (tgt := 22) hx hb dX2_sortOf_17 (by decide) (fun c => ?_) (fun c => ?_)
  · have h := qi_t c h
    refine lv_aload_n hx hb dX2_sortOf_22 rfl (lv_at hl 0 rfl) ?_
    refine lv_bipush (v := (98:Int32)) hx hb dX2_sortOf_23 (by decide) ?_
    refine lv_bipush (v := (108:Int32)) hx hb dX2_sortOf_25 (by decide) ?_
    refine lv_bipush (v := (111:Int32)) hx hb dX2_sortOf_27 (by decide) ?_
    refine lv_bipush (v := (119:Int32)) hx hb dX2_sortOf_29 (by decide) ?_
    refine lv_bipush (v := (115:Int32)) hx hb dX2_sortOf_31 (by decide) ?_
    obtain ⟨u5, g6, h⟩ := qb1_s h
    refine d_S (As := [.int (98:Int32), .int (108:Int32), .int (111:Int32), .int (119:Int32), .int (115:Int32)]) (v0 := some (.long u5)) (w0 := (A, B, L, rs)) hG E hw hl (m_X2_w5 l hG hM  g6) (va_cwS 5 hts (lw_S q1534 q1535 q140 q1536) rfl rfl rfl kd_X2_w5 ⟨Nat.le_of_ble_eq_true rfl, Nat.le_of_ble_eq_true rfl⟩) rfl (rest := [.ref (K.2.1 1000)]) (st1 := [.long u5, .ref (K.2.1 1000)]) rfl rfl rfl dX2_sortOf_33 ⟨Nat.le_of_ble_eq_true rfl, Nat.le_of_ble_eq_true rfl⟩ (fun H locs hw => ?_)
    obtain ⟨u7, g8, h⟩ := qb1_s h
    refine d_V (As := [.long u5]) (v0 := some (.int u7)) (w0 := (A, B, L, rs)) hG E hw hl (m_X2_isWord l hG hM  g8) (qM0 hM) rfl (cwV 1 hts (lw_V q1546 q1548 qs65 q140 q1549) rfl rfl rfl ⟨rfl, kd_X2_isWord⟩ ⟨Nat.le_of_ble_eq_true rfl, Nat.le_of_ble_eq_true rfl⟩) rfl (rest := []) (st1 := [.int u7]) rfl rfl rfl dX2_sortOf_36 ⟨Nat.le_of_ble_eq_true rfl, Nat.le_of_ble_eq_true rfl⟩ (fun H locs hw => ?_)
    refine lv_if_eq (tgt := 44) hx hb dX2_sortOf_39 (by decide) (fun c => ?_) (fun c => ?_)
    · have h := qi_t c h
      refine lv_aload_n hx hb dX2_sortOf_44 rfl (lv_at hl 0 rfl) ?_
      refine lv_bipush (v := (102:Int32)) hx hb dX2_sortOf_45 (by decide) ?_
      refine lv_bipush (v := (111:Int32)) hx hb dX2_sortOf_47 (by decide) ?_
      refine lv_bipush (v := (103:Int32)) hx hb dX2_sortOf_49 (by decide) ?_
      refine lv_bipush (v := (115:Int32)) hx hb dX2_sortOf_51 (by decide) ?_
      obtain ⟨u9, g10, h⟩ := qb1_s h
      refine d_S (As := [.int (102:Int32), .int (111:Int32), .int (103:Int32), .int (115:Int32)]) (v0 := some (.long u9)) (w0 := (A, B, L, rs)) hG E hw hl (m_X2_w4 l hG hM  g10) (va_cwS 4 hts (lw_S q1537 q1538 q140 q1539) rfl rfl rfl kd_X2_w4 ⟨Nat.le_of_ble_eq_true rfl, Nat.le_of_ble_eq_true rfl⟩) rfl (rest := [.ref (K.2.1 1000)]) (st1 := [.long u9, .ref (K.2.1 1000)]) rfl rfl rfl dX2_sortOf_53 ⟨Nat.le_of_ble_eq_true rfl, Nat.le_of_ble_eq_true rfl⟩ (fun H locs hw => ?_)
      obtain ⟨u11, g12, h⟩ := qb1_s h
      refine d_V (As := [.long u9]) (v0 := some (.int u11)) (w0 := (A, B, L, rs)) hG E hw hl (m_X2_isWord l hG hM  g12) (qM0 hM) rfl (cwV 1 hts (lw_V q1546 q1548 qs65 q140 q1549) rfl rfl rfl ⟨rfl, kd_X2_isWord⟩ ⟨Nat.le_of_ble_eq_true rfl, Nat.le_of_ble_eq_true rfl⟩) rfl (rest := []) (st1 := [.int u11]) rfl rfl rfl dX2_sortOf_56 ⟨Nat.le_of_ble_eq_true rfl, Nat.le_of_ble_eq_true rfl⟩ (fun H locs hw => ?_)
      refine lv_if_eq (tgt := 64) hx hb dX2_sortOf_59 (by decide) (fun c => ?_) (fun c => ?_)
      · have h := qi_t c h
        refine lv_aload_n hx hb dX2_sortOf_64 rfl (lv_at hl 0 rfl) ?_
        obtain ⟨u13, g14, h⟩ := qb1_s h
        refine d_V (As := []) (v0 := some (.int u13)) (w0 := (A, B, L, rs)) hG E hw hl (m_X2_isSentence l hG hM  g14) (qM0 hM) rfl (cwV 0 hts (lw_V q1550 q1552 qs66 q140 q1553) rfl rfl rfl ⟨rfl, kd_X2_isSentence⟩ ⟨Nat.le_of_ble_eq_true rfl, Nat.le_of_ble_eq_true rfl⟩) rfl (rest := []) (st1 := [.int u13]) rfl rfl rfl dX2_sortOf_65 ⟨Nat.le_of_ble_eq_true rfl, Nat.le_of_ble_eq_true rfl⟩ (fun H locs hw => ?_)
        refine lv_if_eq (tgt := 73) hx hb dX2_sortOf_68 (by decide) (fun c => ?_) (fun c => ?_)
        · have h := qi_t c h
          refine lv_aload_n hx hb dX2_sortOf_73 rfl (lv_at hl 0 rfl) ?_
          refine lv_bipush (v := (99:Int32)) hx hb dX2_sortOf_74 (by decide) ?_
          refine lv_bipush (v := (111:Int32)) hx hb dX2_sortOf_76 (by decide) ?_
          refine lv_bipush (v := (100:Int32)) hx hb dX2_sortOf_78 (by decide) ?_
          refine lv_bipush (v := (101:Int32)) hx hb dX2_sortOf_80 (by decide) ?_
          obtain ⟨u15, g16, h⟩ := qb1_s h
          refine d_S (As := [.int (99:Int32), .int (111:Int32), .int (100:Int32), .int (101:Int32)]) (v0 := some (.long u15)) (w0 := (A, B, L, rs)) hG E hw hl (m_X2_w4 l hG hM  g16) (va_cwS 4 hts (lw_S q1537 q1538 q140 q1539) rfl rfl rfl kd_X2_w4 ⟨Nat.le_of_ble_eq_true rfl, Nat.le_of_ble_eq_true rfl⟩) rfl (rest := [.ref (K.2.1 1000)]) (st1 := [.long u15, .ref (K.2.1 1000)]) rfl rfl rfl dX2_sortOf_82 ⟨Nat.le_of_ble_eq_true rfl, Nat.le_of_ble_eq_true rfl⟩ (fun H locs hw => ?_)
          obtain ⟨u17, g18, h⟩ := qb1_s h
          refine d_V (As := [.long u15]) (v0 := some (.int u17)) (w0 := (A, B, L, rs)) hG E hw hl (m_X2_isWord l hG hM  g18) (qM0 hM) rfl (cwV 1 hts (lw_V q1546 q1548 qs65 q140 q1549) rfl rfl rfl ⟨rfl, kd_X2_isWord⟩ ⟨Nat.le_of_ble_eq_true rfl, Nat.le_of_ble_eq_true rfl⟩) rfl (rest := []) (st1 := [.int u17]) rfl rfl rfl dX2_sortOf_85 ⟨Nat.le_of_ble_eq_true rfl, Nat.le_of_ble_eq_true rfl⟩ (fun H locs hw => ?_)
          refine lv_if_eq (tgt := 93) hx hb dX2_sortOf_88 (by decide) (fun c => ?_) (fun c => ?_)
          · have h := qi_t c h
            refine lv_aload_n hx hb dX2_sortOf_93 rfl (lv_at hl 0 rfl) ?_
            refine lv_bipush (v := (99:Int32)) hx hb dX2_sortOf_94 (by decide) ?_
            refine lv_bipush (v := (97:Int32)) hx hb dX2_sortOf_96 (by decide) ?_
            refine lv_bipush (v := (115:Int32)) hx hb dX2_sortOf_98 (by decide) ?_
            refine lv_bipush (v := (101:Int32)) hx hb dX2_sortOf_100 (by decide) ?_
            obtain ⟨u19, g20, h⟩ := qb1_s h
            refine d_S (As := [.int (99:Int32), .int (97:Int32), .int (115:Int32), .int (101:Int32)]) (v0 := some (.long u19)) (w0 := (A, B, L, rs)) hG E hw hl (m_X2_w4 l hG hM  g20) (va_cwS 4 hts (lw_S q1537 q1538 q140 q1539) rfl rfl rfl kd_X2_w4 ⟨Nat.le_of_ble_eq_true rfl, Nat.le_of_ble_eq_true rfl⟩) rfl (rest := [.ref (K.2.1 1000)]) (st1 := [.long u19, .ref (K.2.1 1000)]) rfl rfl rfl dX2_sortOf_102 ⟨Nat.le_of_ble_eq_true rfl, Nat.le_of_ble_eq_true rfl⟩ (fun H locs hw => ?_)
            obtain ⟨u21, g22, h⟩ := qb1_s h
            refine d_V (As := [.long u19]) (v0 := some (.int u21)) (w0 := (A, B, L, rs)) hG E hw hl (m_X2_isWord l hG hM  g22) (qM0 hM) rfl (cwV 1 hts (lw_V q1546 q1548 qs65 q140 q1549) rfl rfl rfl ⟨rfl, kd_X2_isWord⟩ ⟨Nat.le_of_ble_eq_true rfl, Nat.le_of_ble_eq_true rfl⟩) rfl (rest := []) (st1 := [.int u21]) rfl rfl rfl dX2_sortOf_105 ⟨Nat.le_of_ble_eq_true rfl, Nat.le_of_ble_eq_true rfl⟩ (fun H locs hw => ?_)
            refine lv_if_eq (tgt := 113) hx hb dX2_sortOf_108 (by decide) (fun c => ?_) (fun c => ?_)
            · have h := qi_t c h
              refine lv_aload_n hx hb dX2_sortOf_113 rfl (lv_at hl 0 rfl) ?_
              refine lv_bipush (v := (99:Int32)) hx hb dX2_sortOf_114 (by decide) ?_
              refine lv_bipush (v := (97:Int32)) hx hb dX2_sortOf_116 (by decide) ?_
              refine lv_bipush (v := (108:Int32)) hx hb dX2_sortOf_118 (by decide) ?_
              refine lv_bipush (v := (108:Int32)) hx hb dX2_sortOf_120 (by decide) ?_
              obtain ⟨u23, g24, h⟩ := qb1_s h
              refine d_S (As := [.int (99:Int32), .int (97:Int32), .int (108:Int32), .int (108:Int32)]) (v0 := some (.long u23)) (w0 := (A, B, L, rs)) hG E hw hl (m_X2_w4 l hG hM  g24) (va_cwS 4 hts (lw_S q1537 q1538 q140 q1539) rfl rfl rfl kd_X2_w4 ⟨Nat.le_of_ble_eq_true rfl, Nat.le_of_ble_eq_true rfl⟩) rfl (rest := [.ref (K.2.1 1000)]) (st1 := [.long u23, .ref (K.2.1 1000)]) rfl rfl rfl dX2_sortOf_122 ⟨Nat.le_of_ble_eq_true rfl, Nat.le_of_ble_eq_true rfl⟩ (fun H locs hw => ?_)
              obtain ⟨u25, g26, h⟩ := qb1_s h
              refine d_V (As := [.long u23]) (v0 := some (.int u25)) (w0 := (A, B, L, rs)) hG E hw hl (m_X2_isWord l hG hM  g26) (qM0 hM) rfl (cwV 1 hts (lw_V q1546 q1548 qs65 q140 q1549) rfl rfl rfl ⟨rfl, kd_X2_isWord⟩ ⟨Nat.le_of_ble_eq_true rfl, Nat.le_of_ble_eq_true rfl⟩) rfl (rest := []) (st1 := [.int u25]) rfl rfl rfl dX2_sortOf_125 ⟨Nat.le_of_ble_eq_true rfl, Nat.le_of_ble_eq_true rfl⟩ (fun H locs hw => ?_)
              refine lv_if_eq (tgt := 134) hx hb dX2_sortOf_128 (by decide) (fun c => ?_) (fun c => ?_)
              · have h := qi_t c h
                refine lv_aload_n hx hb dX2_sortOf_134 rfl (lv_at hl 0 rfl) ?_
                refine lv_bipush (v := (100:Int32)) hx hb dX2_sortOf_135 (by decide) ?_
                refine lv_bipush (v := (101:Int32)) hx hb dX2_sortOf_137 (by decide) ?_
                refine lv_bipush (v := (108:Int32)) hx hb dX2_sortOf_139 (by decide) ?_
                refine lv_bipush (v := (97:Int32)) hx hb dX2_sortOf_141 (by decide) ?_
                refine lv_bipush (v := (121:Int32)) hx hb dX2_sortOf_143 (by decide) ?_
                obtain ⟨u27, g28, h⟩ := qb1_s h
                refine d_S (As := [.int (100:Int32), .int (101:Int32), .int (108:Int32), .int (97:Int32), .int (121:Int32)]) (v0 := some (.long u27)) (w0 := (A, B, L, rs)) hG E hw hl (m_X2_w5 l hG hM  g28) (va_cwS 5 hts (lw_S q1534 q1535 q140 q1536) rfl rfl rfl kd_X2_w5 ⟨Nat.le_of_ble_eq_true rfl, Nat.le_of_ble_eq_true rfl⟩) rfl (rest := [.ref (K.2.1 1000)]) (st1 := [.long u27, .ref (K.2.1 1000)]) rfl rfl rfl dX2_sortOf_145 ⟨Nat.le_of_ble_eq_true rfl, Nat.le_of_ble_eq_true rfl⟩ (fun H locs hw => ?_)
                obtain ⟨u29, g30, h⟩ := qb1_s h
                refine d_V (As := [.long u27]) (v0 := some (.int u29)) (w0 := (A, B, L, rs)) hG E hw hl (m_X2_isWord l hG hM  g30) (qM0 hM) rfl (cwV 1 hts (lw_V q1546 q1548 qs65 q140 q1549) rfl rfl rfl ⟨rfl, kd_X2_isWord⟩ ⟨Nat.le_of_ble_eq_true rfl, Nat.le_of_ble_eq_true rfl⟩) rfl (rest := []) (st1 := [.int u29]) rfl rfl rfl dX2_sortOf_148 ⟨Nat.le_of_ble_eq_true rfl, Nat.le_of_ble_eq_true rfl⟩ (fun H locs hw => ?_)
                refine lv_if_eq (tgt := 157) hx hb dX2_sortOf_151 (by decide) (fun c => ?_) (fun c => ?_)
                · have h := qi_t c h
                  refine lv_aload_n hx hb dX2_sortOf_157 rfl (lv_at hl 0 rfl) ?_
                  refine lv_bipush (v := (97:Int32)) hx hb dX2_sortOf_158 (by decide) ?_
                  refine lv_bipush (v := (112:Int32)) hx hb dX2_sortOf_160 (by decide) ?_
                  refine lv_bipush (v := (112:Int32)) hx hb dX2_sortOf_162 (by decide) ?_
                  refine lv_bipush (v := (101:Int32)) hx hb dX2_sortOf_164 (by decide) ?_
                  refine lv_bipush (v := (97:Int32)) hx hb dX2_sortOf_166 (by decide) ?_
                  refine lv_bipush (v := (108:Int32)) hx hb dX2_sortOf_168 (by decide) ?_
                  obtain ⟨u31, g32, h⟩ := qb1_s h
                  refine d_S (As := [.int (97:Int32), .int (112:Int32), .int (112:Int32), .int (101:Int32), .int (97:Int32), .int (108:Int32)]) (v0 := some (.long u31)) (w0 := (A, B, L, rs)) hG E hw hl (m_X2_w6 l hG hM  g32) (va_cwS 6 hts (lw_S q1558 q1559 q140 q1560) rfl rfl rfl kd_X2_w6 ⟨Nat.le_of_ble_eq_true rfl, Nat.le_of_ble_eq_true rfl⟩) rfl (rest := [.ref (K.2.1 1000)]) (st1 := [.long u31, .ref (K.2.1 1000)]) rfl rfl rfl dX2_sortOf_170 ⟨Nat.le_of_ble_eq_true rfl, Nat.le_of_ble_eq_true rfl⟩ (fun H locs hw => ?_)
                  obtain ⟨u33, g34, h⟩ := qb1_s h
                  refine d_V (As := [.long u31]) (v0 := some (.int u33)) (w0 := (A, B, L, rs)) hG E hw hl (m_X2_isWord l hG hM  g34) (qM0 hM) rfl (cwV 1 hts (lw_V q1546 q1548 qs65 q140 q1549) rfl rfl rfl ⟨rfl, kd_X2_isWord⟩ ⟨Nat.le_of_ble_eq_true rfl, Nat.le_of_ble_eq_true rfl⟩) rfl (rest := []) (st1 := [.int u33]) rfl rfl rfl dX2_sortOf_173 ⟨Nat.le_of_ble_eq_true rfl, Nat.le_of_ble_eq_true rfl⟩ (fun H locs hw => ?_)
                  refine lv_if_eq (tgt := 182) hx hb dX2_sortOf_176 (by decide) (fun c => ?_) (fun c => ?_)
                  · have h := qi_t c h
                    refine lv_aload_n hx hb dX2_sortOf_182 rfl (lv_at hl 0 rfl) ?_
                    refine lv_bipush (v := (103:Int32)) hx hb dX2_sortOf_183 (by decide) ?_
                    refine lv_bipush (v := (117:Int32)) hx hb dX2_sortOf_185 (by decide) ?_
                    refine lv_bipush (v := (115:Int32)) hx hb dX2_sortOf_187 (by decide) ?_
                    refine lv_bipush (v := (116:Int32)) hx hb dX2_sortOf_189 (by decide) ?_
                    obtain ⟨u35, g36, h⟩ := qb1_s h
                    refine d_S (As := [.int (103:Int32), .int (117:Int32), .int (115:Int32), .int (116:Int32)]) (v0 := some (.long u35)) (w0 := (A, B, L, rs)) hG E hw hl (m_X2_w4 l hG hM  g36) (va_cwS 4 hts (lw_S q1537 q1538 q140 q1539) rfl rfl rfl kd_X2_w4 ⟨Nat.le_of_ble_eq_true rfl, Nat.le_of_ble_eq_true rfl⟩) rfl (rest := [.ref (K.2.1 1000)]) (st1 := [.long u35, .ref (K.2.1 1000)]) rfl rfl rfl dX2_sortOf_191 ⟨Nat.le_of_ble_eq_true rfl, Nat.le_of_ble_eq_true rfl⟩ (fun H locs hw => ?_)
                    obtain ⟨u37, g38, h⟩ := qb1_s h
                    refine d_V (As := [.long u35]) (v0 := some (.int u37)) (w0 := (A, B, L, rs)) hG E hw hl (m_X2_isWord l hG hM  g38) (qM0 hM) rfl (cwV 1 hts (lw_V q1546 q1548 qs65 q140 q1549) rfl rfl rfl ⟨rfl, kd_X2_isWord⟩ ⟨Nat.le_of_ble_eq_true rfl, Nat.le_of_ble_eq_true rfl⟩) rfl (rest := []) (st1 := [.int u37]) rfl rfl rfl dX2_sortOf_194 ⟨Nat.le_of_ble_eq_true rfl, Nat.le_of_ble_eq_true rfl⟩ (fun H locs hw => ?_)
                    refine lv_if_eq (tgt := 203) hx hb dX2_sortOf_197 (by decide) (fun c => ?_) (fun c => ?_)
                    · have h := qi_t c h
                      refine lv_aload_n hx hb dX2_sortOf_203 rfl (lv_at hl 0 rfl) ?_
                      obtain ⟨u39, g40, h⟩ := qb1_s h
                      refine d_V (As := []) (v0 := some (.int u39)) (w0 := (A, B, L, rs)) hG E hw hl (m_X2_isWithdraw l hG hM  g40) (qM0 hM) rfl (cwV 0 hts (lw_V q1561 q1563 qs68 q140 q1564) rfl rfl rfl ⟨rfl, kd_X2_isWithdraw⟩ ⟨Nat.le_of_ble_eq_true rfl, Nat.le_of_ble_eq_true rfl⟩) rfl (rest := []) (st1 := [.int u39]) rfl rfl rfl dX2_sortOf_204 ⟨Nat.le_of_ble_eq_true rfl, Nat.le_of_ble_eq_true rfl⟩ (fun H locs hw => ?_)
                      refine lv_if_eq (tgt := 215) hx hb dX2_sortOf_207 (by decide) (fun c => ?_) (fun c => ?_)
                      · have h := qi_t c h
                        refine lv_aload_n hx hb dX2_sortOf_215 rfl (lv_at hl 0 rfl) ?_
                        refine lv_bipush (v := (104:Int32)) hx hb dX2_sortOf_216 (by decide) ?_
                        refine lv_bipush (v := (111:Int32)) hx hb dX2_sortOf_218 (by decide) ?_
                        refine lv_bipush (v := (117:Int32)) hx hb dX2_sortOf_220 (by decide) ?_
                        refine lv_bipush (v := (114:Int32)) hx hb dX2_sortOf_222 (by decide) ?_
                        obtain ⟨u41, g42, h⟩ := qb1_s h
                        refine d_S (As := [.int (104:Int32), .int (111:Int32), .int (117:Int32), .int (114:Int32)]) (v0 := some (.long u41)) (w0 := (A, B, L, rs)) hG E hw hl (m_X2_w4 l hG hM  g42) (va_cwS 4 hts (lw_S q1537 q1538 q140 q1539) rfl rfl rfl kd_X2_w4 ⟨Nat.le_of_ble_eq_true rfl, Nat.le_of_ble_eq_true rfl⟩) rfl (rest := [.ref (K.2.1 1000)]) (st1 := [.long u41, .ref (K.2.1 1000)]) rfl rfl rfl dX2_sortOf_224 ⟨Nat.le_of_ble_eq_true rfl, Nat.le_of_ble_eq_true rfl⟩ (fun H locs hw => ?_)
                        obtain ⟨u43, g44, h⟩ := qb1_s h
                        refine d_V (As := [.long u41]) (v0 := some (.int u43)) (w0 := (A, B, L, rs)) hG E hw hl (m_X2_isWord l hG hM  g44) (qM0 hM) rfl (cwV 1 hts (lw_V q1546 q1548 qs65 q140 q1549) rfl rfl rfl ⟨rfl, kd_X2_isWord⟩ ⟨Nat.le_of_ble_eq_true rfl, Nat.le_of_ble_eq_true rfl⟩) rfl (rest := []) (st1 := [.int u43]) rfl rfl rfl dX2_sortOf_227 ⟨Nat.le_of_ble_eq_true rfl, Nat.le_of_ble_eq_true rfl⟩ (fun H locs hw => ?_)
                        refine lv_if_eq (tgt := 238) hx hb dX2_sortOf_230 (by decide) (fun c => ?_) (fun c => ?_)
                        · have h := qi_t c h
                          refine lv_iconst (v := (-1:Int32)) hx hb dX2_sortOf_238 (by decide) ?_
                          have h := Option.some.inj h
                          have h1 := h
                          exact d_iret E hr rfl hw h1 rfl dX2_sortOf_239
                        · have h := qi_f c h
                          refine lv_bipush (v := (11:Int32)) hx hb dX2_sortOf_233 (by decide) ?_
                          refine lv_goto (tgt := 239) hx hb dX2_sortOf_235 (by decide) ?_
                          have h := Option.some.inj h
                          have h1 := h
                          exact d_iret E hr rfl hw h1 rfl dX2_sortOf_239
                      · have h := qi_f c h
                        refine lv_bipush (v := (10:Int32)) hx hb dX2_sortOf_210 (by decide) ?_
                        refine lv_goto (tgt := 239) hx hb dX2_sortOf_212 (by decide) ?_
                        have h := Option.some.inj h
                        have h1 := h
                        exact d_iret E hr rfl hw h1 rfl dX2_sortOf_239
                    · have h := qi_f c h
                      refine lv_bipush (v := (9:Int32)) hx hb dX2_sortOf_200 (by decide) ?_
                      have h := Option.some.inj h
                      have h1 := h
                      exact d_iret E hr rfl hw h1 rfl dX2_sortOf_202
                  · have h := qi_f c h
                    refine lv_bipush (v := (8:Int32)) hx hb dX2_sortOf_179 (by decide) ?_
                    have h := Option.some.inj h
                    have h1 := h
                    exact d_iret E hr rfl hw h1 rfl dX2_sortOf_181
                · have h := qi_f c h
                  refine lv_bipush (v := (7:Int32)) hx hb dX2_sortOf_154 (by decide) ?_
                  have h := Option.some.inj h
                  have h1 := h
                  exact d_iret E hr rfl hw h1 rfl dX2_sortOf_156
              · have h := qi_f c h
                refine lv_bipush (v := (6:Int32)) hx hb dX2_sortOf_131 (by decide) ?_
                have h := Option.some.inj h
                have h1 := h
                exact d_iret E hr rfl hw h1 rfl dX2_sortOf_133
            · have h := qi_f c h
              refine lv_iconst (v := (5:Int32)) hx hb dX2_sortOf_111 (by decide) ?_
              have h := Option.some.inj h
              have h1 := h
              exact d_iret E hr rfl hw h1 rfl dX2_sortOf_112
          · have h := qi_f c h
            refine lv_iconst (v := (4:Int32)) hx hb dX2_sortOf_91 (by decide) ?_
            have h := Option.some.inj h
            have h1 := h
            exact d_iret E hr rfl hw h1 rfl dX2_sortOf_92
        · have h := qi_f c h
          refine lv_iconst (v := (3:Int32)) hx hb dX2_sortOf_71 (by decide) ?_
          have h := Option.some.inj h
          have h1 := h
          exact d_iret E hr rfl hw h1 rfl dX2_sortOf_72
      · have h := qi_f c h
        refine lv_iconst (v := (2:Int32)) hx hb dX2_sortOf_62 (by decide) ?_
        have h := Option.some.inj h
        have h1 := h
        exact d_iret E hr rfl hw h1 rfl dX2_sortOf_63
    · have h := qi_f c h
      refine lv_iconst (v := (1:Int32)) hx hb dX2_sortOf_42 (by decide) ?_
      have h := Option.some.inj h
      have h1 := h
      exact d_iret E hr rfl hw h1 rfl dX2_sortOf_43
  · have h := qi_f c h
    refine lv_iconst (v := (0:Int32)) hx hb dX2_sortOf_20 (by decide) ?_
    have h := Option.some.inj h
    have h1 := h
    exact d_iret E hr rfl hw h1 rfl dX2_sortOf_21

theorem m_X2_sortOf (l : Launch) {K : QK} {G : State → Prop} (hG : QG G) (hM : QMl K) {A : QA} {rs : QX × QM} {B : QA} {L : QL} {ro : Int32} (h : f_X2_sortOf B L = some ro) : MC l K G yX2_sortOf (ws_ yX2_sortOf cX2_sortOf 1 (some .int)) 6 155 0 0 [.ref (K.2.1 1000)] (A, B, L, rs) (QR (some (.int ro)) (A, B, L, rs)) := by
  refine MC.of (by decide) (Nat.le_of_ble_eq_true rfl) (lv := [(0, .ref (K.2.1 1000))]) rfl (fun p e s m below meth c ls E hr hl hw => ?_)
  exact w_X2_sortOf_0 hG hM E hr _ _  h hw hl

def f_X2_has (x0 : Int32) (x1 : Int32) : Option (Int32) :=
  if ((x0 >>> (x1 &&& 31)) &&& (1:Int32)) = (1:Int32) then (
  some ((1:Int32))) else (
  some ((0:Int32)))
set_option maxHeartbeats 4000000 in
theorem w_X2_has_0 {p : Program} {l : Launch} {e : Env} {s : State} {m : MethodId} {args : Array Value} {below : List Frame} {meth : Method} {c : Code} {K : QK} {G : State → Prop} {A : QA} {rs : QX × QM} {B : QA} {L : QL} {ro : Int32} (hG : QG G) (hM : QMl K) (E : EV K G p s m args meth c cX2_has "VaneCourtModel" 2) (hr : meth.sig.returnType = (some .boolean)) : ∀ (x0 : Int32) (x1 : Int32) {H : Heap} {locs : List Loc} {ls : Array Slot}, f_X2_has x0 x1 = some ro → WP K (A, B, L, rs) H locs → lv_has ls 2 [(0, .int x0), (1, .int x1)] → W p l e (qrm 1 40 0 0) s m args below meth c H locs 0 0 (MQ below (QE K (QR (some (.int ro)) (A, B, L, rs))) args s 0 0 (qA K)) (F0 m 0 ls []) := by
  have hx := E.1
  have hb := E.2.1
  have hown := E.2.2.1
  have hts := E.2.2.2.2.1
  intro x0 x1 H locs ls  h hw hl
  rw [f_X2_has] at h
  refine lv_iload_n hx hb dX2_has_0 rfl (lv_at hl 0 rfl) ?_
  refine lv_iload_n hx hb dX2_has_1 rfl (lv_at hl 1 rfl) ?_
  refine lv_ishr hx hb dX2_has_2 ?_
  refine lv_iconst (v := (1:Int32)) hx hb dX2_has_3 (by decide) ?_
  refine lv_iand hx hb dX2_has_4 ?_
  refine lv_iconst (v := (1:Int32)) hx hb dX2_has_5 (by decide) ?_
  refine lv_icmp_ne (tgt := 13) hx hb dX2_has_6 (by decide) (fun c => ?_) (fun c => ?_)
  · have h := qi_f c h
    refine lv_iconst (v := (0:Int32)) hx hb dX2_has_13 (by decide) ?_
    have h := Option.some.inj h
    have h1 := h
    exact d_iret E hr rfl hw h1 rfl dX2_has_14
  · have h := qi_t c h
    refine lv_iconst (v := (1:Int32)) hx hb dX2_has_9 (by decide) ?_
    refine lv_goto (tgt := 14) hx hb dX2_has_10 (by decide) ?_
    have h := Option.some.inj h
    have h1 := h
    exact d_iret E hr rfl hw h1 rfl dX2_has_14

theorem m_X2_has (l : Launch) {K : QK} {G : State → Prop} (hG : QG G) (hM : QMl K) {A : QA} {rs : QX × QM} {B : QA} {L : QL} {x0 : Int32} {x1 : Int32} {ro : Int32} (h : f_X2_has x0 x1 = some ro) : MC l K G yX2_has (ws_ yX2_has cX2_has 2 (some .boolean)) 1 40 0 0 [.int x0, .int x1] (A, B, L, rs) (QR (some (.int ro)) (A, B, L, rs)) := by
  refine MC.of (by decide) (Nat.le_of_ble_eq_true rfl) (lv := [(0, .int x0), (1, .int x1)]) rfl (fun p e s m below meth c ls E hr hl hw => ?_)
  exact w_X2_has_0 hG hM E hr _ _  h hw hl

def f_X2_figure (x1 : Int32) (x2 : Int32) (x3 : Int32) (B : QA) (L : QL) : Option (Int32 × QA × QL) :=
  if (B 1000 9) = (1:Int32) then (
  qb1 (f_X2_isIn (B 1000 10) x2 x3) fun u1 =>
  if u1 = (0:Int32) then (
  some ((2:Int32), B, L)) else (
  qif (qok x1 2820) <|
  qlet (qu B 1003 x1.toNatClampNeg (B 1000 10)) fun B4 =>
  qb2 (f_X2_nextToken B4 L) fun B6 L7 =>
  some ((0:Int32), B6, L7))) else (
  some ((1:Int32), B, L))
set_option maxHeartbeats 4000000 in
theorem w_X2_figure_0 {p : Program} {l : Launch} {e : Env} {s : State} {m : MethodId} {args : Array Value} {below : List Frame} {meth : Method} {c : Code} {K : QK} {G : State → Prop} {A : QA} {rs : QX × QM} {ro : Int32} {Bo : QA} {Lo : QL} (hG : QG G) (hM : QMl K) (E : EV K G p s m args meth c cX2_figure "VaneCourtModel" 4) (hr : meth.sig.returnType = (some .int)) : ∀ (x1 : Int32) (x2 : Int32) (x3 : Int32) (B : QA) (L : QL) {H : Heap} {locs : List Loc} {ls : Array Slot}, f_X2_figure x1 x2 x3 B L = some (ro, Bo, Lo) → WP K (A, B, L, rs) H locs → lv_has ls 4 [(0, .ref (K.2.1 1000)), (1, .int x1), (2, .int x2), (3, .int x3)] → W p l e (qrm 3 82 0 0) s m args below meth c H locs 0 0 (MQ below (QE K (QR (some (.int ro)) (A, Bo, Lo, rs))) args s 0 0 (qA K)) (F0 m 0 ls []) := by
  have hx := E.1
  have hb := E.2.1
  have hown := E.2.2.1
  have hts := E.2.2.2.2.1
  intro x1 x2 x3 B L H locs ls  h hw hl
  rw [f_X2_figure] at h
  refine lv_aload_n hx hb dX2_figure_0 rfl (lv_at hl 0 rfl) ?_
  refine r_getM (v := .int (B 1000 9)) E hw hM 9 (by decide) q1362 rfl dX2_figure_1 ?_
  refine lv_iconst (v := (1:Int32)) hx hb dX2_figure_4 (by decide) ?_
  refine lv_icmp_eq (tgt := 10) hx hb dX2_figure_5 (by decide) (fun c => ?_) (fun c => ?_)
  · have h := qi_t c h
    refine lv_aload_n hx hb dX2_figure_10 rfl (lv_at hl 0 rfl) ?_
    refine r_getM (v := .int (B 1000 10)) E hw hM 10 (by decide) q1363 rfl dX2_figure_11 ?_
    refine lv_iload_n hx hb dX2_figure_14 rfl (lv_at hl 2 rfl) ?_
    refine lv_iload_n hx hb dX2_figure_15 rfl (lv_at hl 3 rfl) ?_
    obtain ⟨u1, g2, h⟩ := qb1_s h
    refine d_S (As := [.int (B 1000 10), .int x2, .int x3]) (v0 := some (.int u1)) (w0 := (A, B, L, rs)) hG E hw hl (m_X2_isIn l hG hM  g2) (va_cwS 3 hts (lw_S q1480 q1481 q140 q1482) rfl rfl rfl kd_X2_isIn ⟨Nat.le_of_ble_eq_true rfl, Nat.le_of_ble_eq_true rfl⟩) rfl (rest := []) (st1 := [.int u1]) rfl rfl rfl dX2_figure_16 ⟨Nat.le_of_ble_eq_true rfl, Nat.le_of_ble_eq_true rfl⟩ (fun H locs hw => ?_)
    refine lv_if_ne (tgt := 24) hx hb dX2_figure_19 (by decide) (fun c => ?_) (fun c => ?_)
    · have h := qi_f c h
      refine lv_aload_n hx hb dX2_figure_24 rfl (lv_at hl 0 rfl) ?_
      refine r_getM (v := .ref (K.2.1 1003)) E hw hM 2 (by decide) q1355 rfl dX2_figure_25 ?_
      refine lv_iload_n hx hb dX2_figure_28 rfl (lv_at hl 1 rfl) ?_
      refine lv_aload_n hx hb dX2_figure_29 rfl (lv_at hl 0 rfl) ?_
      refine r_getM (v := .int (B 1000 10)) E hw hM 10 (by decide) q1363 rfl dX2_figure_30 ?_
      obtain ⟨z3, h⟩ := qif_s h
      obtain ⟨B4, e5, h⟩ := qlet_s h
      refine r_iastB (j := x1.toNatClampNeg) E hw (qi_1003 hM) (qok_in z3) rfl dX2_figure_33 (fun H locs hw => ?_)
      rw [← e5] at hw
      refine lv_aload_n hx hb dX2_figure_34 rfl (lv_at hl 0 rfl) ?_
      obtain ⟨B6, L7, g8, h⟩ := qb2_s h
      refine d_V (As := []) (v0 := none) (w0 := (A, B6, L7, rs)) hG E hw hl (m_X2_nextToken l hG hM  g8) (qM0 hM) rfl (cwV 0 hts (lw_V q1507 q1509 qs61 q140 q1510) rfl rfl rfl ⟨rfl, kd_X2_nextToken⟩ ⟨Nat.le_of_ble_eq_true rfl, Nat.le_of_ble_eq_true rfl⟩) rfl (rest := []) (st1 := []) rfl rfl rfl dX2_figure_35 ⟨Nat.le_of_ble_eq_true rfl, Nat.le_of_ble_eq_true rfl⟩ (fun H locs hw => ?_)
      refine lv_iconst (v := (0:Int32)) hx hb dX2_figure_38 (by decide) ?_
      have h := Option.some.inj h
      obtain ⟨h1, h2⟩ := Prod.mk.inj h
      obtain ⟨h2, h3⟩ := Prod.mk.inj h2
      exact d_iret E hr rfl hw h1 (by rw [h2, h3]) dX2_figure_39
    · have h := qi_t c h
      refine lv_iconst (v := (2:Int32)) hx hb dX2_figure_22 (by decide) ?_
      have h := Option.some.inj h
      obtain ⟨h1, h2⟩ := Prod.mk.inj h
      obtain ⟨h2, h3⟩ := Prod.mk.inj h2
      exact d_iret E hr rfl hw h1 (by rw [h2, h3]) dX2_figure_23
  · have h := qi_f c h
    refine lv_iconst (v := (1:Int32)) hx hb dX2_figure_8 (by decide) ?_
    have h := Option.some.inj h
    obtain ⟨h1, h2⟩ := Prod.mk.inj h
    obtain ⟨h2, h3⟩ := Prod.mk.inj h2
    exact d_iret E hr rfl hw h1 (by rw [h2, h3]) dX2_figure_9

theorem m_X2_figure (l : Launch) {K : QK} {G : State → Prop} (hG : QG G) (hM : QMl K) {A : QA} {rs : QX × QM} {x1 : Int32} {x2 : Int32} {x3 : Int32} {B : QA} {L : QL} {ro : Int32} {Bo : QA} {Lo : QL} (h : f_X2_figure x1 x2 x3 B L = some (ro, Bo, Lo)) : MC l K G yX2_figure (ws_ yX2_figure cX2_figure 4 (some .int)) 3 82 0 0 [.ref (K.2.1 1000), .int x1, .int x2, .int x3] (A, B, L, rs) (QR (some (.int ro)) (A, Bo, Lo, rs)) := by
  refine MC.of (by decide) (Nat.le_of_ble_eq_true rfl) (lv := [(0, .ref (K.2.1 1000)), (1, .int x1), (2, .int x2), (3, .int x3)]) rfl (fun p e s m below meth c ls E hr hl hw => ?_)
  exact w_X2_figure_0 hG hM E hr _ _ _ _ _  h hw hl

def f_X2_openNow_28 (x1 : Int32) (B : QA) : Option (Int32) :=
  if (0:Int32) ≤ x1 then (
  qif (qok x1 160) <|
  some ((B 1005 x1.toNatClampNeg))) else (
  some ((-1:Int32)))
set_option maxHeartbeats 4000000 in
theorem w_X2_openNow_28 {p : Program} {l : Launch} {e : Env} {s : State} {m : MethodId} {args : Array Value} {below : List Frame} {meth : Method} {c : Code} {K : QK} {G : State → Prop} {A : QA} {rs : QX × QM} {L : QL} {ro : Int32} (hG : QG G) (hM : QMl K) (E : EV K G p s m args meth c cX2_openNow "VaneCourtModel" 2) (hr : meth.sig.returnType = (some .int)) : ∀ (x1 : Int32) (B : QA) {H : Heap} {locs : List Loc} {ls : Array Slot}, f_X2_openNow_28 x1 B = some ro → WP K (A, B, L, rs) H locs → lv_has ls 2 [(0, .ref (K.2.1 1000)), (1, .int x1)] → W p l e (qrm 1 40 0 0) s m args below meth c H locs 0 0 (MQ below (QE K (QR (some (.int ro)) (A, B, L, rs))) args s 0 0 (qA K)) (F0 m 28 ls []) := by
  have hx := E.1
  have hb := E.2.1
  have hown := E.2.2.1
  have hts := E.2.2.2.2.1
  intro x1 B H locs ls  h hw hl
  rw [f_X2_openNow_28] at h
  refine lv_iload_n hx hb dX2_openNow_28 rfl (lv_at hl 1 rfl) ?_
  refine lv_if_ge (tgt := 36) hx hb dX2_openNow_29 (by decide) (fun c => ?_) (fun c => ?_)
  · have h := qi_t c h
    refine lv_aload_n hx hb dX2_openNow_36 rfl (lv_at hl 0 rfl) ?_
    refine r_getM (v := .ref (K.2.1 1005)) E hw hM 15 (by decide) q1368 rfl dX2_openNow_37 ?_
    refine lv_iload_n hx hb dX2_openNow_40 rfl (lv_at hl 1 rfl) ?_
    obtain ⟨z3, h⟩ := qif_s h
    refine r_iald (j := x1.toNatClampNeg) E hw (qi_1005 hM).at (qok_in z3) rfl dX2_openNow_41 ?_
    have h := Option.some.inj h
    have h1 := h
    exact d_iret E hr rfl hw h1 rfl dX2_openNow_42
  · have h := qi_f c h
    refine lv_iconst (v := (-1:Int32)) hx hb dX2_openNow_32 (by decide) ?_
    refine lv_goto (tgt := 42) hx hb dX2_openNow_33 (by decide) ?_
    have h := Option.some.inj h
    have h1 := h
    exact d_iret E hr rfl hw h1 rfl dX2_openNow_42

def f_X2_openNow_7 : Nat → Int32 → QA → Option (Int32)
  | 0, _, _ => none
  | n + 1, x1, B => if x1 < (0:Int32) then (
  f_X2_openNow_28 x1 B) else (
  qif (qok x1 160) <|
  if (40:Int32) ≤ (B 1005 x1.toNatClampNeg) then (
  f_X2_openNow_28 x1 B) else (
  qlet (x1 + (-1:Int32)) fun x1_5 =>
  f_X2_openNow_7 n x1_5 B))
set_option maxHeartbeats 4000000 in
theorem w_X2_openNow_7 {p : Program} {l : Launch} {e : Env} {s : State} {m : MethodId} {args : Array Value} {below : List Frame} {meth : Method} {c : Code} {K : QK} {G : State → Prop} {A : QA} {rs : QX × QM} {L : QL} {ro : Int32} (hG : QG G) (hM : QMl K) (E : EV K G p s m args meth c cX2_openNow "VaneCourtModel" 2) (hr : meth.sig.returnType = (some .int)) : ∀ (n : Nat) (x1 : Int32) (B : QA) {H : Heap} {locs : List Loc} {ls : Array Slot}, f_X2_openNow_7 n x1 B = some ro → WP K (A, B, L, rs) H locs → lv_has ls 2 [(0, .ref (K.2.1 1000)), (1, .int x1)] → W p l e (qrm 1 40 0 0) s m args below meth c H locs 0 0 (MQ below (QE K (QR (some (.int ro)) (A, B, L, rs))) args s 0 0 (qA K)) (F0 m 7 ls []) := by
  have hx := E.1
  have hb := E.2.1
  have hown := E.2.2.1
  have hts := E.2.2.2.2.1
  intro n
  induction n with
  | zero =>
    intro x1 B H locs ls  h hw hl
    cases h
  | succ n ih =>
    intro x1 B H locs ls  h hw hl
    rw [f_X2_openNow_7] at h
    refine lv_iload_n hx hb dX2_openNow_7 rfl (lv_at hl 1 rfl) ?_
    refine lv_if_lt (tgt := 28) hx hb dX2_openNow_8 (by decide) (fun c => ?_) (fun c => ?_)
    · have h := qi_t c h
      exact w_X2_openNow_28 hG hM E hr  _ _   h hw (lv_sub hl [0, 1] rfl)
    · have h := qi_f c h
      refine lv_aload_n hx hb dX2_openNow_11 rfl (lv_at hl 0 rfl) ?_
      refine r_getM (v := .ref (K.2.1 1005)) E hw hM 15 (by decide) q1368 rfl dX2_openNow_12 ?_
      refine lv_iload_n hx hb dX2_openNow_15 rfl (lv_at hl 1 rfl) ?_
      obtain ⟨z4, h⟩ := qif_s h
      refine r_iald (j := x1.toNatClampNeg) E hw (qi_1005 hM).at (qok_in z4) rfl dX2_openNow_16 ?_
      refine lv_bipush (v := (40:Int32)) hx hb dX2_openNow_17 (by decide) ?_
      refine lv_icmp_ge (tgt := 28) hx hb dX2_openNow_19 (by decide) (fun c => ?_) (fun c => ?_)
      · have h := qi_t c h
        exact w_X2_openNow_28 hG hM E hr  _ _   h hw (lv_sub hl [0, 1] rfl)
      · have h := qi_f c h
        obtain ⟨x1_5, e6, h⟩ := qlet_s h
        refine lv_iinc (v := x1_5) (lv' := [(1, .int x1_5), (0, .ref (K.2.1 1000))]) (k := 1) hx hb dX2_openNow_22 hl rfl (by rw [e6]; rfl) (by decide) rfl (fun ls hl => ?_)
        refine lv_goto (tgt := 7) hx hb dX2_openNow_25 (by decide) ?_
        exact ih _ _  h hw (lv_sub hl [1, 0] rfl)

def f_X2_openNow (B : QA) : Option (Int32) :=
  qlet ((B 1000 17) - (1:Int32)) fun x1_1 =>
  f_X2_openNow_7 FU x1_1 B
set_option maxHeartbeats 4000000 in
theorem w_X2_openNow_0 {p : Program} {l : Launch} {e : Env} {s : State} {m : MethodId} {args : Array Value} {below : List Frame} {meth : Method} {c : Code} {K : QK} {G : State → Prop} {A : QA} {rs : QX × QM} {L : QL} {ro : Int32} (hG : QG G) (hM : QMl K) (E : EV K G p s m args meth c cX2_openNow "VaneCourtModel" 2) (hr : meth.sig.returnType = (some .int)) : ∀ (B : QA) {H : Heap} {locs : List Loc} {ls : Array Slot}, f_X2_openNow B = some ro → WP K (A, B, L, rs) H locs → lv_has ls 2 [(0, .ref (K.2.1 1000))] → W p l e (qrm 1 40 0 0) s m args below meth c H locs 0 0 (MQ below (QE K (QR (some (.int ro)) (A, B, L, rs))) args s 0 0 (qA K)) (F0 m 0 ls []) := by
  have hx := E.1
  have hb := E.2.1
  have hown := E.2.2.1
  have hts := E.2.2.2.2.1
  intro B H locs ls  h hw hl
  rw [f_X2_openNow] at h
  refine lv_aload_n hx hb dX2_openNow_0 rfl (lv_at hl 0 rfl) ?_
  refine r_getM (v := .int (B 1000 17)) E hw hM 17 (by decide) q1370 rfl dX2_openNow_1 ?_
  refine lv_iconst (v := (1:Int32)) hx hb dX2_openNow_4 (by decide) ?_
  refine lv_isub hx hb dX2_openNow_5 ?_
  obtain ⟨x1_1, e2, h⟩ := qlet_s h
  refine r_nm e2 ?_
  refine lv_istore_n (lv' := [(1, .int x1_1), (0, .ref (K.2.1 1000))]) hx hb dX2_openNow_6 rfl hl (by decide) rfl (fun ls hl => ?_)
  exact w_X2_openNow_7 hG hM E hr  _ _ _   h hw (lv_sub hl [1, 0] rfl)

theorem m_X2_openNow (l : Launch) {K : QK} {G : State → Prop} (hG : QG G) (hM : QMl K) {A : QA} {rs : QX × QM} {L : QL} {B : QA} {ro : Int32} (h : f_X2_openNow B = some ro) : MC l K G yX2_openNow (ws_ yX2_openNow cX2_openNow 2 (some .int)) 1 40 0 0 [.ref (K.2.1 1000)] (A, B, L, rs) (QR (some (.int ro)) (A, B, L, rs)) := by
  refine MC.of (by decide) (Nat.le_of_ble_eq_true rfl) (lv := [(0, .ref (K.2.1 1000))]) rfl (fun p e s m below meth c ls E hr hl hw => ?_)
  exact w_X2_openNow_0 hG hM E hr _  h hw hl

def f_X2_isAskHere (B : QA) : Option (Int32) :=
  if (B 1000 21) = (0:Int32) then (
  some ((0:Int32))) else (
  qb1 (f_X2_openNow B) fun u1 =>
  if u1 = (40:Int32) then (
  some ((0:Int32))) else (
  some ((1:Int32))))
set_option maxHeartbeats 4000000 in
theorem w_X2_isAskHere_0 {p : Program} {l : Launch} {e : Env} {s : State} {m : MethodId} {args : Array Value} {below : List Frame} {meth : Method} {c : Code} {K : QK} {G : State → Prop} {A : QA} {rs : QX × QM} {L : QL} {ro : Int32} (hG : QG G) (hM : QMl K) (E : EV K G p s m args meth c cX2_isAskHere "VaneCourtModel" 1) (hr : meth.sig.returnType = (some .boolean)) : ∀ (B : QA) {H : Heap} {locs : List Loc} {ls : Array Slot}, f_X2_isAskHere B = some ro → WP K (A, B, L, rs) H locs → lv_has ls 1 [(0, .ref (K.2.1 1000))] → W p l e (qrm 2 61 0 0) s m args below meth c H locs 0 0 (MQ below (QE K (QR (some (.int ro)) (A, B, L, rs))) args s 0 0 (qA K)) (F0 m 0 ls []) := by
  have hx := E.1
  have hb := E.2.1
  have hown := E.2.2.1
  have hts := E.2.2.2.2.1
  intro B H locs ls  h hw hl
  rw [f_X2_isAskHere] at h
  refine lv_aload_n hx hb dX2_isAskHere_0 rfl (lv_at hl 0 rfl) ?_
  refine r_getM (v := .int (B 1000 21)) E hw hM 21 (by decide) q1374 rfl dX2_isAskHere_1 ?_
  refine lv_if_eq (tgt := 20) hx hb dX2_isAskHere_4 (by decide) (fun c => ?_) (fun c => ?_)
  · have h := qi_t c h
    refine lv_iconst (v := (0:Int32)) hx hb dX2_isAskHere_20 (by decide) ?_
    have h := Option.some.inj h
    have h1 := h
    exact d_iret E hr rfl hw h1 rfl dX2_isAskHere_21
  · have h := qi_f c h
    refine lv_aload_n hx hb dX2_isAskHere_7 rfl (lv_at hl 0 rfl) ?_
    obtain ⟨u1, g2, h⟩ := qb1_s h
    refine d_V (As := []) (v0 := some (.int u1)) (w0 := (A, B, L, rs)) hG E hw hl (m_X2_openNow l hG hM  g2) (qM0 hM) rfl (cwV 0 hts (lw_V q1600 q1602 qs77 q140 q1603) rfl rfl rfl ⟨rfl, kd_X2_openNow⟩ ⟨Nat.le_of_ble_eq_true rfl, Nat.le_of_ble_eq_true rfl⟩) rfl (rest := []) (st1 := [.int u1]) rfl rfl rfl dX2_isAskHere_8 ⟨Nat.le_of_ble_eq_true rfl, Nat.le_of_ble_eq_true rfl⟩ (fun H locs hw => ?_)
    refine lv_bipush (v := (40:Int32)) hx hb dX2_isAskHere_11 (by decide) ?_
    refine lv_icmp_eq (tgt := 20) hx hb dX2_isAskHere_13 (by decide) (fun c => ?_) (fun c => ?_)
    · have h := qi_t c h
      refine lv_iconst (v := (0:Int32)) hx hb dX2_isAskHere_20 (by decide) ?_
      have h := Option.some.inj h
      have h1 := h
      exact d_iret E hr rfl hw h1 rfl dX2_isAskHere_21
    · have h := qi_f c h
      refine lv_iconst (v := (1:Int32)) hx hb dX2_isAskHere_16 (by decide) ?_
      refine lv_goto (tgt := 21) hx hb dX2_isAskHere_17 (by decide) ?_
      have h := Option.some.inj h
      have h1 := h
      exact d_iret E hr rfl hw h1 rfl dX2_isAskHere_21

theorem m_X2_isAskHere (l : Launch) {K : QK} {G : State → Prop} (hG : QG G) (hM : QMl K) {A : QA} {rs : QX × QM} {L : QL} {B : QA} {ro : Int32} (h : f_X2_isAskHere B = some ro) : MC l K G yX2_isAskHere (ws_ yX2_isAskHere cX2_isAskHere 1 (some .boolean)) 2 61 0 0 [.ref (K.2.1 1000)] (A, B, L, rs) (QR (some (.int ro)) (A, B, L, rs)) := by
  refine MC.of (by decide) (Nat.le_of_ble_eq_true rfl) (lv := [(0, .ref (K.2.1 1000))]) rfl (fun p e s m below meth c ls E hr hl hw => ?_)
  exact w_X2_isAskHere_0 hG hM E hr _  h hw hl

def f_X2_rank (x0 : Int32) : Option (Int32) :=
  if x0 < (40:Int32) then (
  if x0 < (20:Int32) then (
  if x0 < (10:Int32) then (
  if x0 = (4:Int32) then (
  some ((8:Int32))) else (
  if x0 < (7:Int32) then (
  some ((6:Int32))) else (
  some ((7:Int32))))) else (
  some ((5:Int32)))) else (
  some (((4:Int32) - (x0 - (20:Int32)))))) else (
  some ((0:Int32)))
set_option maxHeartbeats 4000000 in
theorem w_X2_rank_0 {p : Program} {l : Launch} {e : Env} {s : State} {m : MethodId} {args : Array Value} {below : List Frame} {meth : Method} {c : Code} {K : QK} {G : State → Prop} {A : QA} {rs : QX × QM} {B : QA} {L : QL} {ro : Int32} (hG : QG G) (hM : QMl K) (E : EV K G p s m args meth c cX2_rank "VaneCourtModel" 1) (hr : meth.sig.returnType = (some .int)) : ∀ (x0 : Int32) {H : Heap} {locs : List Loc} {ls : Array Slot}, f_X2_rank x0 = some ro → WP K (A, B, L, rs) H locs → lv_has ls 1 [(0, .int x0)] → W p l e (qrm 1 40 0 0) s m args below meth c H locs 0 0 (MQ below (QE K (QR (some (.int ro)) (A, B, L, rs))) args s 0 0 (qA K)) (F0 m 0 ls []) := by
  have hx := E.1
  have hb := E.2.1
  have hown := E.2.2.1
  have hts := E.2.2.2.2.1
  intro x0 H locs ls  h hw hl
  rw [f_X2_rank] at h
  refine lv_iload_n hx hb dX2_rank_0 rfl (lv_at hl 0 rfl) ?_
  refine lv_bipush (v := (40:Int32)) hx hb dX2_rank_1 (by decide) ?_
  refine lv_icmp_lt (tgt := 10) hx hb dX2_rank_3 (by decide) (fun c => ?_) (fun c => ?_)
  · have h := qi_t c h
    refine lv_iload_n hx hb dX2_rank_10 rfl (lv_at hl 0 rfl) ?_
    refine lv_bipush (v := (20:Int32)) hx hb dX2_rank_11 (by decide) ?_
    refine lv_icmp_lt (tgt := 25) hx hb dX2_rank_13 (by decide) (fun c => ?_) (fun c => ?_)
    · have h := qi_t c h
      refine lv_iload_n hx hb dX2_rank_25 rfl (lv_at hl 0 rfl) ?_
      refine lv_bipush (v := (10:Int32)) hx hb dX2_rank_26 (by decide) ?_
      refine lv_icmp_lt (tgt := 35) hx hb dX2_rank_28 (by decide) (fun c => ?_) (fun c => ?_)
      · have h := qi_t c h
        refine lv_iload_n hx hb dX2_rank_35 rfl (lv_at hl 0 rfl) ?_
        refine lv_iconst (v := (4:Int32)) hx hb dX2_rank_36 (by decide) ?_
        refine lv_icmp_ne (tgt := 45) hx hb dX2_rank_37 (by decide) (fun c => ?_) (fun c => ?_)
        · have h := qi_f c h
          refine lv_iload_n hx hb dX2_rank_45 rfl (lv_at hl 0 rfl) ?_
          refine lv_bipush (v := (7:Int32)) hx hb dX2_rank_46 (by decide) ?_
          refine lv_icmp_lt (tgt := 56) hx hb dX2_rank_48 (by decide) (fun c => ?_) (fun c => ?_)
          · have h := qi_t c h
            refine lv_bipush (v := (6:Int32)) hx hb dX2_rank_56 (by decide) ?_
            have h := Option.some.inj h
            have h1 := h
            exact d_iret E hr rfl hw h1 rfl dX2_rank_58
          · have h := qi_f c h
            refine lv_bipush (v := (7:Int32)) hx hb dX2_rank_51 (by decide) ?_
            refine lv_goto (tgt := 58) hx hb dX2_rank_53 (by decide) ?_
            have h := Option.some.inj h
            have h1 := h
            exact d_iret E hr rfl hw h1 rfl dX2_rank_58
        · have h := qi_t c h
          refine lv_bipush (v := (8:Int32)) hx hb dX2_rank_40 (by decide) ?_
          refine lv_goto (tgt := 58) hx hb dX2_rank_42 (by decide) ?_
          have h := Option.some.inj h
          have h1 := h
          exact d_iret E hr rfl hw h1 rfl dX2_rank_58
      · have h := qi_f c h
        refine lv_iconst (v := (5:Int32)) hx hb dX2_rank_31 (by decide) ?_
        refine lv_goto (tgt := 58) hx hb dX2_rank_32 (by decide) ?_
        have h := Option.some.inj h
        have h1 := h
        exact d_iret E hr rfl hw h1 rfl dX2_rank_58
    · have h := qi_f c h
      refine lv_iconst (v := (4:Int32)) hx hb dX2_rank_16 (by decide) ?_
      refine lv_iload_n hx hb dX2_rank_17 rfl (lv_at hl 0 rfl) ?_
      refine lv_bipush (v := (20:Int32)) hx hb dX2_rank_18 (by decide) ?_
      refine lv_isub hx hb dX2_rank_20 ?_
      refine lv_isub hx hb dX2_rank_21 ?_
      refine lv_goto (tgt := 58) hx hb dX2_rank_22 (by decide) ?_
      have h := Option.some.inj h
      have h1 := h
      exact d_iret E hr rfl hw h1 rfl dX2_rank_58
  · have h := qi_f c h
    refine lv_iconst (v := (0:Int32)) hx hb dX2_rank_6 (by decide) ?_
    refine lv_goto (tgt := 58) hx hb dX2_rank_7 (by decide) ?_
    have h := Option.some.inj h
    have h1 := h
    exact d_iret E hr rfl hw h1 rfl dX2_rank_58

theorem m_X2_rank (l : Launch) {K : QK} {G : State → Prop} (hG : QG G) (hM : QMl K) {A : QA} {rs : QX × QM} {B : QA} {L : QL} {x0 : Int32} {ro : Int32} (h : f_X2_rank x0 = some ro) : MC l K G yX2_rank (ws_ yX2_rank cX2_rank 1 (some .int)) 1 40 0 0 [.int x0] (A, B, L, rs) (QR (some (.int ro)) (A, B, L, rs)) := by
  refine MC.of (by decide) (Nat.le_of_ble_eq_true rfl) (lv := [(0, .int x0)]) rfl (fun p e s m below meth c ls E hr hl hw => ?_)
  exact w_X2_rank_0 hG hM E hr _  h hw hl

def f_X2_isCompared_30 (x1 : Int32) (B : QA) : Option (Int32) :=
  if x1 < (0:Int32) then (
  some ((0:Int32))) else (
  qif (qok x1 160) <|
  qb1 (f_X2_rank (B 1005 x1.toNatClampNeg)) fun u4 =>
  if u4 = (5:Int32) then (
  some ((1:Int32))) else (
  some ((0:Int32))))
set_option maxHeartbeats 4000000 in
theorem w_X2_isCompared_30 {p : Program} {l : Launch} {e : Env} {s : State} {m : MethodId} {args : Array Value} {below : List Frame} {meth : Method} {c : Code} {K : QK} {G : State → Prop} {A : QA} {rs : QX × QM} {L : QL} {ro : Int32} (hG : QG G) (hM : QMl K) (E : EV K G p s m args meth c cX2_isCompared "VaneCourtModel" 2) (hr : meth.sig.returnType = (some .boolean)) : ∀ (x1 : Int32) (B : QA) {H : Heap} {locs : List Loc} {ls : Array Slot}, f_X2_isCompared_30 x1 B = some ro → WP K (A, B, L, rs) H locs → lv_has ls 2 [(0, .ref (K.2.1 1000)), (1, .int x1)] → W p l e (qrm 2 60 0 0) s m args below meth c H locs 0 0 (MQ below (QE K (QR (some (.int ro)) (A, B, L, rs))) args s 0 0 (qA K)) (F0 m 30 ls []) := by
  have hx := E.1
  have hb := E.2.1
  have hown := E.2.2.1
  have hts := E.2.2.2.2.1
  intro x1 B H locs ls  h hw hl
  rw [f_X2_isCompared_30] at h
  refine lv_iload_n hx hb dX2_isCompared_30 rfl (lv_at hl 1 rfl) ?_
  refine lv_if_lt (tgt := 51) hx hb dX2_isCompared_31 (by decide) (fun c => ?_) (fun c => ?_)
  · have h := qi_t c h
    refine lv_iconst (v := (0:Int32)) hx hb dX2_isCompared_51 (by decide) ?_
    have h := Option.some.inj h
    have h1 := h
    exact d_iret E hr rfl hw h1 rfl dX2_isCompared_52
  · have h := qi_f c h
    refine lv_aload_n hx hb dX2_isCompared_34 rfl (lv_at hl 0 rfl) ?_
    refine r_getM (v := .ref (K.2.1 1005)) E hw hM 15 (by decide) q1368 rfl dX2_isCompared_35 ?_
    refine lv_iload_n hx hb dX2_isCompared_38 rfl (lv_at hl 1 rfl) ?_
    obtain ⟨z3, h⟩ := qif_s h
    refine r_iald (j := x1.toNatClampNeg) E hw (qi_1005 hM).at (qok_in z3) rfl dX2_isCompared_39 ?_
    obtain ⟨u4, g5, h⟩ := qb1_s h
    refine d_S (As := [.int (B 1005 x1.toNatClampNeg)]) (v0 := some (.int u4)) (w0 := (A, B, L, rs)) hG E hw hl (m_X2_rank l hG hM  g5) (va_cwS 1 hts (lw_S q1608 q1609 q140 q1610) rfl rfl rfl kd_X2_rank ⟨Nat.le_of_ble_eq_true rfl, Nat.le_of_ble_eq_true rfl⟩) rfl (rest := []) (st1 := [.int u4]) rfl rfl rfl dX2_isCompared_40 ⟨Nat.le_of_ble_eq_true rfl, Nat.le_of_ble_eq_true rfl⟩ (fun H locs hw => ?_)
    refine lv_iconst (v := (5:Int32)) hx hb dX2_isCompared_43 (by decide) ?_
    refine lv_icmp_ne (tgt := 51) hx hb dX2_isCompared_44 (by decide) (fun c => ?_) (fun c => ?_)
    · have h := qi_f c h
      refine lv_iconst (v := (0:Int32)) hx hb dX2_isCompared_51 (by decide) ?_
      have h := Option.some.inj h
      have h1 := h
      exact d_iret E hr rfl hw h1 rfl dX2_isCompared_52
    · have h := qi_t c h
      refine lv_iconst (v := (1:Int32)) hx hb dX2_isCompared_47 (by decide) ?_
      refine lv_goto (tgt := 52) hx hb dX2_isCompared_48 (by decide) ?_
      have h := Option.some.inj h
      have h1 := h
      exact d_iret E hr rfl hw h1 rfl dX2_isCompared_52

def f_X2_isCompared_7 : Nat → Int32 → QA → Option (Int32)
  | 0, _, _ => none
  | n + 1, x1, B => if x1 < (0:Int32) then (
  f_X2_isCompared_30 x1 B) else (
  qif (qok x1 160) <|
  qb1 (f_X2_rank (B 1005 x1.toNatClampNeg)) fun u7 =>
  if u7 ≤ (5:Int32) then (
  f_X2_isCompared_30 x1 B) else (
  qlet (x1 + (-1:Int32)) fun x1_9 =>
  f_X2_isCompared_7 n x1_9 B))
set_option maxHeartbeats 4000000 in
theorem w_X2_isCompared_7 {p : Program} {l : Launch} {e : Env} {s : State} {m : MethodId} {args : Array Value} {below : List Frame} {meth : Method} {c : Code} {K : QK} {G : State → Prop} {A : QA} {rs : QX × QM} {L : QL} {ro : Int32} (hG : QG G) (hM : QMl K) (E : EV K G p s m args meth c cX2_isCompared "VaneCourtModel" 2) (hr : meth.sig.returnType = (some .boolean)) : ∀ (n : Nat) (x1 : Int32) (B : QA) {H : Heap} {locs : List Loc} {ls : Array Slot}, f_X2_isCompared_7 n x1 B = some ro → WP K (A, B, L, rs) H locs → lv_has ls 2 [(0, .ref (K.2.1 1000)), (1, .int x1)] → W p l e (qrm 2 60 0 0) s m args below meth c H locs 0 0 (MQ below (QE K (QR (some (.int ro)) (A, B, L, rs))) args s 0 0 (qA K)) (F0 m 7 ls []) := by
  have hx := E.1
  have hb := E.2.1
  have hown := E.2.2.1
  have hts := E.2.2.2.2.1
  intro n
  induction n with
  | zero =>
    intro x1 B H locs ls  h hw hl
    cases h
  | succ n ih =>
    intro x1 B H locs ls  h hw hl
    rw [f_X2_isCompared_7] at h
    refine lv_iload_n hx hb dX2_isCompared_7 rfl (lv_at hl 1 rfl) ?_
    refine lv_if_lt (tgt := 30) hx hb dX2_isCompared_8 (by decide) (fun c => ?_) (fun c => ?_)
    · have h := qi_t c h
      exact w_X2_isCompared_30 hG hM E hr  _ _   h hw (lv_sub hl [0, 1] rfl)
    · have h := qi_f c h
      refine lv_aload_n hx hb dX2_isCompared_11 rfl (lv_at hl 0 rfl) ?_
      refine r_getM (v := .ref (K.2.1 1005)) E hw hM 15 (by decide) q1368 rfl dX2_isCompared_12 ?_
      refine lv_iload_n hx hb dX2_isCompared_15 rfl (lv_at hl 1 rfl) ?_
      obtain ⟨z6, h⟩ := qif_s h
      refine r_iald (j := x1.toNatClampNeg) E hw (qi_1005 hM).at (qok_in z6) rfl dX2_isCompared_16 ?_
      obtain ⟨u7, g8, h⟩ := qb1_s h
      refine d_S (As := [.int (B 1005 x1.toNatClampNeg)]) (v0 := some (.int u7)) (w0 := (A, B, L, rs)) hG E hw hl (m_X2_rank l hG hM  g8) (va_cwS 1 hts (lw_S q1608 q1609 q140 q1610) rfl rfl rfl kd_X2_rank ⟨Nat.le_of_ble_eq_true rfl, Nat.le_of_ble_eq_true rfl⟩) rfl (rest := []) (st1 := [.int u7]) rfl rfl rfl dX2_isCompared_17 ⟨Nat.le_of_ble_eq_true rfl, Nat.le_of_ble_eq_true rfl⟩ (fun H locs hw => ?_)
      refine lv_iconst (v := (5:Int32)) hx hb dX2_isCompared_20 (by decide) ?_
      refine lv_icmp_le (tgt := 30) hx hb dX2_isCompared_21 (by decide) (fun c => ?_) (fun c => ?_)
      · have h := qi_t c h
        exact w_X2_isCompared_30 hG hM E hr  _ _   h hw (lv_sub hl [0, 1] rfl)
      · have h := qi_f c h
        obtain ⟨x1_9, e10, h⟩ := qlet_s h
        refine lv_iinc (v := x1_9) (lv' := [(1, .int x1_9), (0, .ref (K.2.1 1000))]) (k := 1) hx hb dX2_isCompared_24 hl rfl (by rw [e10]; rfl) (by decide) rfl (fun ls hl => ?_)
        refine lv_goto (tgt := 7) hx hb dX2_isCompared_27 (by decide) ?_
        exact ih _ _  h hw (lv_sub hl [1, 0] rfl)

def f_X2_isCompared (B : QA) : Option (Int32) :=
  qlet ((B 1000 17) - (1:Int32)) fun x1_1 =>
  f_X2_isCompared_7 FU x1_1 B
set_option maxHeartbeats 4000000 in
theorem w_X2_isCompared_0 {p : Program} {l : Launch} {e : Env} {s : State} {m : MethodId} {args : Array Value} {below : List Frame} {meth : Method} {c : Code} {K : QK} {G : State → Prop} {A : QA} {rs : QX × QM} {L : QL} {ro : Int32} (hG : QG G) (hM : QMl K) (E : EV K G p s m args meth c cX2_isCompared "VaneCourtModel" 2) (hr : meth.sig.returnType = (some .boolean)) : ∀ (B : QA) {H : Heap} {locs : List Loc} {ls : Array Slot}, f_X2_isCompared B = some ro → WP K (A, B, L, rs) H locs → lv_has ls 2 [(0, .ref (K.2.1 1000))] → W p l e (qrm 2 60 0 0) s m args below meth c H locs 0 0 (MQ below (QE K (QR (some (.int ro)) (A, B, L, rs))) args s 0 0 (qA K)) (F0 m 0 ls []) := by
  have hx := E.1
  have hb := E.2.1
  have hown := E.2.2.1
  have hts := E.2.2.2.2.1
  intro B H locs ls  h hw hl
  rw [f_X2_isCompared] at h
  refine lv_aload_n hx hb dX2_isCompared_0 rfl (lv_at hl 0 rfl) ?_
  refine r_getM (v := .int (B 1000 17)) E hw hM 17 (by decide) q1370 rfl dX2_isCompared_1 ?_
  refine lv_iconst (v := (1:Int32)) hx hb dX2_isCompared_4 (by decide) ?_
  refine lv_isub hx hb dX2_isCompared_5 ?_
  obtain ⟨x1_1, e2, h⟩ := qlet_s h
  refine r_nm e2 ?_
  refine lv_istore_n (lv' := [(1, .int x1_1), (0, .ref (K.2.1 1000))]) hx hb dX2_isCompared_6 rfl hl (by decide) rfl (fun ls hl => ?_)
  exact w_X2_isCompared_7 hG hM E hr  _ _ _   h hw (lv_sub hl [1, 0] rfl)

theorem m_X2_isCompared (l : Launch) {K : QK} {G : State → Prop} (hG : QG G) (hM : QMl K) {A : QA} {rs : QX × QM} {L : QL} {B : QA} {ro : Int32} (h : f_X2_isCompared B = some ro) : MC l K G yX2_isCompared (ws_ yX2_isCompared cX2_isCompared 2 (some .boolean)) 2 60 0 0 [.ref (K.2.1 1000)] (A, B, L, rs) (QR (some (.int ro)) (A, B, L, rs)) := by
  refine MC.of (by decide) (Nat.le_of_ble_eq_true rfl) (lv := [(0, .ref (K.2.1 1000))]) rfl (fun p e s m below meth c ls E hr hl hw => ?_)
  exact w_X2_isCompared_0 hG hM E hr _  h hw hl

def f_X2_compareOf (B : QA) : Option (Int32) :=
  if (B 1000 9) = (60:Int32) then (
  some ((10:Int32))) else (
  if (B 1000 9) = (4:Int32) then (
  some ((11:Int32))) else (
  if (B 1000 9) = (62:Int32) then (
  some ((12:Int32))) else (
  if (B 1000 9) = (5:Int32) then (
  some ((13:Int32))) else (
  if (B 1000 9) = (61:Int32) then (
  some ((14:Int32))) else (
  if (B 1000 9) = (35:Int32) then (
  some ((15:Int32))) else (
  some ((-1:Int32))))))))
set_option maxHeartbeats 4000000 in
theorem w_X2_compareOf_0 {p : Program} {l : Launch} {e : Env} {s : State} {m : MethodId} {args : Array Value} {below : List Frame} {meth : Method} {c : Code} {K : QK} {G : State → Prop} {A : QA} {rs : QX × QM} {L : QL} {ro : Int32} (hG : QG G) (hM : QMl K) (E : EV K G p s m args meth c cX2_compareOf "VaneCourtModel" 1) (hr : meth.sig.returnType = (some .int)) : ∀ (B : QA) {H : Heap} {locs : List Loc} {ls : Array Slot}, f_X2_compareOf B = some ro → WP K (A, B, L, rs) H locs → lv_has ls 1 [(0, .ref (K.2.1 1000))] → W p l e (qrm 1 40 0 0) s m args below meth c H locs 0 0 (MQ below (QE K (QR (some (.int ro)) (A, B, L, rs))) args s 0 0 (qA K)) (F0 m 0 ls []) := by
  have hx := E.1
  have hb := E.2.1
  have hown := E.2.2.1
  have hts := E.2.2.2.2.1
  intro B H locs ls  h hw hl
  rw [f_X2_compareOf] at h
  refine lv_aload_n hx hb dX2_compareOf_0 rfl (lv_at hl 0 rfl) ?_
  refine r_getM (v := .int (B 1000 9)) E hw hM 9 (by decide) q1362 rfl dX2_compareOf_1 ?_
  refine lv_bipush (v := (60:Int32)) hx hb dX2_compareOf_4 (by decide) ?_
  refine lv_icmp_ne (tgt := 14) hx hb dX2_compareOf_6 (by decide) (fun c => ?_) (fun c => ?_)
  · have h := qi_f c h
    refine lv_aload_n hx hb dX2_compareOf_14 rfl (lv_at hl 0 rfl) ?_
    refine r_getM (v := .int (B 1000 9)) E hw hM 9 (by decide) q1362 rfl dX2_compareOf_15 ?_
    refine lv_iconst (v := (4:Int32)) hx hb dX2_compareOf_18 (by decide) ?_
    refine lv_icmp_ne (tgt := 27) hx hb dX2_compareOf_19 (by decide) (fun c => ?_) (fun c => ?_)
    · have h := qi_f c h
      refine lv_aload_n hx hb dX2_compareOf_27 rfl (lv_at hl 0 rfl) ?_
      refine r_getM (v := .int (B 1000 9)) E hw hM 9 (by decide) q1362 rfl dX2_compareOf_28 ?_
      refine lv_bipush (v := (62:Int32)) hx hb dX2_compareOf_31 (by decide) ?_
      refine lv_icmp_ne (tgt := 41) hx hb dX2_compareOf_33 (by decide) (fun c => ?_) (fun c => ?_)
      · have h := qi_f c h
        refine lv_aload_n hx hb dX2_compareOf_41 rfl (lv_at hl 0 rfl) ?_
        refine r_getM (v := .int (B 1000 9)) E hw hM 9 (by decide) q1362 rfl dX2_compareOf_42 ?_
        refine lv_iconst (v := (5:Int32)) hx hb dX2_compareOf_45 (by decide) ?_
        refine lv_icmp_ne (tgt := 54) hx hb dX2_compareOf_46 (by decide) (fun c => ?_) (fun c => ?_)
        · have h := qi_f c h
          refine lv_aload_n hx hb dX2_compareOf_54 rfl (lv_at hl 0 rfl) ?_
          refine r_getM (v := .int (B 1000 9)) E hw hM 9 (by decide) q1362 rfl dX2_compareOf_55 ?_
          refine lv_bipush (v := (61:Int32)) hx hb dX2_compareOf_58 (by decide) ?_
          refine lv_icmp_ne (tgt := 68) hx hb dX2_compareOf_60 (by decide) (fun c => ?_) (fun c => ?_)
          · have h := qi_f c h
            refine lv_aload_n hx hb dX2_compareOf_68 rfl (lv_at hl 0 rfl) ?_
            refine r_getM (v := .int (B 1000 9)) E hw hM 9 (by decide) q1362 rfl dX2_compareOf_69 ?_
            refine lv_bipush (v := (35:Int32)) hx hb dX2_compareOf_72 (by decide) ?_
            refine lv_icmp_ne (tgt := 82) hx hb dX2_compareOf_74 (by decide) (fun c => ?_) (fun c => ?_)
            · have h := qi_f c h
              refine lv_iconst (v := (-1:Int32)) hx hb dX2_compareOf_82 (by decide) ?_
              have h := Option.some.inj h
              have h1 := h
              exact d_iret E hr rfl hw h1 rfl dX2_compareOf_83
            · have h := qi_t c h
              refine lv_bipush (v := (15:Int32)) hx hb dX2_compareOf_77 (by decide) ?_
              refine lv_goto (tgt := 83) hx hb dX2_compareOf_79 (by decide) ?_
              have h := Option.some.inj h
              have h1 := h
              exact d_iret E hr rfl hw h1 rfl dX2_compareOf_83
          · have h := qi_t c h
            refine lv_bipush (v := (14:Int32)) hx hb dX2_compareOf_63 (by decide) ?_
            refine lv_goto (tgt := 83) hx hb dX2_compareOf_65 (by decide) ?_
            have h := Option.some.inj h
            have h1 := h
            exact d_iret E hr rfl hw h1 rfl dX2_compareOf_83
        · have h := qi_t c h
          refine lv_bipush (v := (13:Int32)) hx hb dX2_compareOf_49 (by decide) ?_
          refine lv_goto (tgt := 83) hx hb dX2_compareOf_51 (by decide) ?_
          have h := Option.some.inj h
          have h1 := h
          exact d_iret E hr rfl hw h1 rfl dX2_compareOf_83
      · have h := qi_t c h
        refine lv_bipush (v := (12:Int32)) hx hb dX2_compareOf_36 (by decide) ?_
        refine lv_goto (tgt := 83) hx hb dX2_compareOf_38 (by decide) ?_
        have h := Option.some.inj h
        have h1 := h
        exact d_iret E hr rfl hw h1 rfl dX2_compareOf_83
    · have h := qi_t c h
      refine lv_bipush (v := (11:Int32)) hx hb dX2_compareOf_22 (by decide) ?_
      refine lv_goto (tgt := 83) hx hb dX2_compareOf_24 (by decide) ?_
      have h := Option.some.inj h
      have h1 := h
      exact d_iret E hr rfl hw h1 rfl dX2_compareOf_83
  · have h := qi_t c h
    refine lv_bipush (v := (10:Int32)) hx hb dX2_compareOf_9 (by decide) ?_
    refine lv_goto (tgt := 83) hx hb dX2_compareOf_11 (by decide) ?_
    have h := Option.some.inj h
    have h1 := h
    exact d_iret E hr rfl hw h1 rfl dX2_compareOf_83

theorem m_X2_compareOf (l : Launch) {K : QK} {G : State → Prop} (hG : QG G) (hM : QMl K) {A : QA} {rs : QX × QM} {L : QL} {B : QA} {ro : Int32} (h : f_X2_compareOf B = some ro) : MC l K G yX2_compareOf (ws_ yX2_compareOf cX2_compareOf 1 (some .int)) 1 40 0 0 [.ref (K.2.1 1000)] (A, B, L, rs) (QR (some (.int ro)) (A, B, L, rs)) := by
  refine MC.of (by decide) (Nat.le_of_ble_eq_true rfl) (lv := [(0, .ref (K.2.1 1000))]) rfl (fun p e s m below meth c ls E hr hl hw => ?_)
  exact w_X2_compareOf_0 hG hM E hr _  h hw hl

def f_X2_betweenOf_92 (B : QA) (L : QL) : Option (Int32) :=
  qb1 (f_X2_isAskHere B) fun u1 =>
  if u1 = (0:Int32) then (
  some ((-1:Int32))) else (
  qb1 (f_X2_isCompared B) fun u3 =>
  if u3 = (0:Int32) then (
  qb1 (f_X2_compareOf B) fun u19 =>
  some (u19)) else (
  qb1 (f_X2_w3 (97:Int32) (110:Int32) (100:Int32)) fun u5 =>
  qb1 (f_X2_isWord u5 B L) fun u7 =>
  if u7 = (0:Int32) then (
  qb1 (f_X2_w2 (111:Int32) (114:Int32)) fun u9 =>
  qb1 (f_X2_isWord u9 B L) fun u11 =>
  if u11 = (0:Int32) then (
  qb1 (f_X2_w6 (117:Int32) (110:Int32) (108:Int32) (101:Int32) (115:Int32) (115:Int32)) fun u13 =>
  qb1 (f_X2_isWord u13 B L) fun u15 =>
  if u15 = (0:Int32) then (
  some ((-1:Int32))) else (
  qb1 (f_X2_openNow B) fun u17 =>
  if u17 = (-1:Int32) then (
  if (B 1000 22) = (0:Int32) then (
  some ((23:Int32))) else (
  some ((-1:Int32)))) else (
  some ((-1:Int32))))) else (
  some ((22:Int32)))) else (
  some ((21:Int32)))))
set_option maxHeartbeats 4000000 in
theorem w_X2_betweenOf_92 {p : Program} {l : Launch} {e : Env} {s : State} {m : MethodId} {args : Array Value} {below : List Frame} {meth : Method} {c : Code} {K : QK} {G : State → Prop} {A : QA} {rs : QX × QM} {ro : Int32} (hG : QG G) (hM : QMl K) (E : EV K G p s m args meth c cX2_betweenOf "VaneCourtModel" 2) (hr : meth.sig.returnType = (some .int)) : ∀ (B : QA) (L : QL) {H : Heap} {locs : List Loc} {ls : Array Slot}, f_X2_betweenOf_92 B L = some ro → WP K (A, B, L, rs) H locs → lv_has ls 2 [(0, .ref (K.2.1 1000))] → W p l e (qrm 6 155 0 0) s m args below meth c H locs 0 0 (MQ below (QE K (QR (some (.int ro)) (A, B, L, rs))) args s 0 0 (qA K)) (F0 m 92 ls []) := by
  have hx := E.1
  have hb := E.2.1
  have hown := E.2.2.1
  have hts := E.2.2.2.2.1
  intro B L H locs ls  h hw hl
  rw [f_X2_betweenOf_92] at h
  refine lv_aload_n hx hb dX2_betweenOf_92 rfl (lv_at hl 0 rfl) ?_
  obtain ⟨u1, g2, h⟩ := qb1_s h
  refine d_V (As := []) (v0 := some (.int u1)) (w0 := (A, B, L, rs)) hG E hw hl (m_X2_isAskHere l hG hM  g2) (qM0 hM) rfl (cwV 0 hts (lw_V q1596 q1598 qs76 q140 q1599) rfl rfl rfl ⟨rfl, kd_X2_isAskHere⟩ ⟨Nat.le_of_ble_eq_true rfl, Nat.le_of_ble_eq_true rfl⟩) rfl (rest := []) (st1 := [.int u1]) rfl rfl rfl dX2_betweenOf_93 ⟨Nat.le_of_ble_eq_true rfl, Nat.le_of_ble_eq_true rfl⟩ (fun H locs hw => ?_)
  refine lv_if_ne (tgt := 101) hx hb dX2_betweenOf_96 (by decide) (fun c => ?_) (fun c => ?_)
  · have h := qi_f c h
    refine lv_aload_n hx hb dX2_betweenOf_101 rfl (lv_at hl 0 rfl) ?_
    obtain ⟨u3, g4, h⟩ := qb1_s h
    refine d_V (As := []) (v0 := some (.int u3)) (w0 := (A, B, L, rs)) hG E hw hl (m_X2_isCompared l hG hM  g4) (qM0 hM) rfl (cwV 0 hts (lw_V q1604 q1606 qs78 q140 q1607) rfl rfl rfl ⟨rfl, kd_X2_isCompared⟩ ⟨Nat.le_of_ble_eq_true rfl, Nat.le_of_ble_eq_true rfl⟩) rfl (rest := []) (st1 := [.int u3]) rfl rfl rfl dX2_betweenOf_102 ⟨Nat.le_of_ble_eq_true rfl, Nat.le_of_ble_eq_true rfl⟩ (fun H locs hw => ?_)
    refine lv_if_ne (tgt := 113) hx hb dX2_betweenOf_105 (by decide) (fun c => ?_) (fun c => ?_)
    · have h := qi_f c h
      refine lv_aload_n hx hb dX2_betweenOf_113 rfl (lv_at hl 0 rfl) ?_
      refine lv_bipush (v := (97:Int32)) hx hb dX2_betweenOf_114 (by decide) ?_
      refine lv_bipush (v := (110:Int32)) hx hb dX2_betweenOf_116 (by decide) ?_
      refine lv_bipush (v := (100:Int32)) hx hb dX2_betweenOf_118 (by decide) ?_
      obtain ⟨u5, g6, h⟩ := qb1_s h
      refine d_S (As := [.int (97:Int32), .int (110:Int32), .int (100:Int32)]) (v0 := some (.long u5)) (w0 := (A, B, L, rs)) hG E hw hl (m_X2_w3 l hG hM  g6) (va_cwS 3 hts (lw_S q1540 q1541 q140 q1542) rfl rfl rfl kd_X2_w3 ⟨Nat.le_of_ble_eq_true rfl, Nat.le_of_ble_eq_true rfl⟩) rfl (rest := [.ref (K.2.1 1000)]) (st1 := [.long u5, .ref (K.2.1 1000)]) rfl rfl rfl dX2_betweenOf_120 ⟨Nat.le_of_ble_eq_true rfl, Nat.le_of_ble_eq_true rfl⟩ (fun H locs hw => ?_)
      obtain ⟨u7, g8, h⟩ := qb1_s h
      refine d_V (As := [.long u5]) (v0 := some (.int u7)) (w0 := (A, B, L, rs)) hG E hw hl (m_X2_isWord l hG hM  g8) (qM0 hM) rfl (cwV 1 hts (lw_V q1546 q1548 qs65 q140 q1549) rfl rfl rfl ⟨rfl, kd_X2_isWord⟩ ⟨Nat.le_of_ble_eq_true rfl, Nat.le_of_ble_eq_true rfl⟩) rfl (rest := []) (st1 := [.int u7]) rfl rfl rfl dX2_betweenOf_123 ⟨Nat.le_of_ble_eq_true rfl, Nat.le_of_ble_eq_true rfl⟩ (fun H locs hw => ?_)
      refine lv_if_eq (tgt := 132) hx hb dX2_betweenOf_126 (by decide) (fun c => ?_) (fun c => ?_)
      · have h := qi_t c h
        refine lv_aload_n hx hb dX2_betweenOf_132 rfl (lv_at hl 0 rfl) ?_
        refine lv_bipush (v := (111:Int32)) hx hb dX2_betweenOf_133 (by decide) ?_
        refine lv_bipush (v := (114:Int32)) hx hb dX2_betweenOf_135 (by decide) ?_
        obtain ⟨u9, g10, h⟩ := qb1_s h
        refine d_S (As := [.int (111:Int32), .int (114:Int32)]) (v0 := some (.long u9)) (w0 := (A, B, L, rs)) hG E hw hl (m_X2_w2 l hG hM  g10) (va_cwS 2 hts (lw_S q1543 q1544 q140 q1545) rfl rfl rfl kd_X2_w2 ⟨Nat.le_of_ble_eq_true rfl, Nat.le_of_ble_eq_true rfl⟩) rfl (rest := [.ref (K.2.1 1000)]) (st1 := [.long u9, .ref (K.2.1 1000)]) rfl rfl rfl dX2_betweenOf_137 ⟨Nat.le_of_ble_eq_true rfl, Nat.le_of_ble_eq_true rfl⟩ (fun H locs hw => ?_)
        obtain ⟨u11, g12, h⟩ := qb1_s h
        refine d_V (As := [.long u9]) (v0 := some (.int u11)) (w0 := (A, B, L, rs)) hG E hw hl (m_X2_isWord l hG hM  g12) (qM0 hM) rfl (cwV 1 hts (lw_V q1546 q1548 qs65 q140 q1549) rfl rfl rfl ⟨rfl, kd_X2_isWord⟩ ⟨Nat.le_of_ble_eq_true rfl, Nat.le_of_ble_eq_true rfl⟩) rfl (rest := []) (st1 := [.int u11]) rfl rfl rfl dX2_betweenOf_140 ⟨Nat.le_of_ble_eq_true rfl, Nat.le_of_ble_eq_true rfl⟩ (fun H locs hw => ?_)
        refine lv_if_eq (tgt := 149) hx hb dX2_betweenOf_143 (by decide) (fun c => ?_) (fun c => ?_)
        · have h := qi_t c h
          refine lv_aload_n hx hb dX2_betweenOf_149 rfl (lv_at hl 0 rfl) ?_
          refine lv_bipush (v := (117:Int32)) hx hb dX2_betweenOf_150 (by decide) ?_
          refine lv_bipush (v := (110:Int32)) hx hb dX2_betweenOf_152 (by decide) ?_
          refine lv_bipush (v := (108:Int32)) hx hb dX2_betweenOf_154 (by decide) ?_
          refine lv_bipush (v := (101:Int32)) hx hb dX2_betweenOf_156 (by decide) ?_
          refine lv_bipush (v := (115:Int32)) hx hb dX2_betweenOf_158 (by decide) ?_
          refine lv_bipush (v := (115:Int32)) hx hb dX2_betweenOf_160 (by decide) ?_
          obtain ⟨u13, g14, h⟩ := qb1_s h
          refine d_S (As := [.int (117:Int32), .int (110:Int32), .int (108:Int32), .int (101:Int32), .int (115:Int32), .int (115:Int32)]) (v0 := some (.long u13)) (w0 := (A, B, L, rs)) hG E hw hl (m_X2_w6 l hG hM  g14) (va_cwS 6 hts (lw_S q1558 q1559 q140 q1560) rfl rfl rfl kd_X2_w6 ⟨Nat.le_of_ble_eq_true rfl, Nat.le_of_ble_eq_true rfl⟩) rfl (rest := [.ref (K.2.1 1000)]) (st1 := [.long u13, .ref (K.2.1 1000)]) rfl rfl rfl dX2_betweenOf_162 ⟨Nat.le_of_ble_eq_true rfl, Nat.le_of_ble_eq_true rfl⟩ (fun H locs hw => ?_)
          obtain ⟨u15, g16, h⟩ := qb1_s h
          refine d_V (As := [.long u13]) (v0 := some (.int u15)) (w0 := (A, B, L, rs)) hG E hw hl (m_X2_isWord l hG hM  g16) (qM0 hM) rfl (cwV 1 hts (lw_V q1546 q1548 qs65 q140 q1549) rfl rfl rfl ⟨rfl, kd_X2_isWord⟩ ⟨Nat.le_of_ble_eq_true rfl, Nat.le_of_ble_eq_true rfl⟩) rfl (rest := []) (st1 := [.int u15]) rfl rfl rfl dX2_betweenOf_165 ⟨Nat.le_of_ble_eq_true rfl, Nat.le_of_ble_eq_true rfl⟩ (fun H locs hw => ?_)
          refine lv_if_eq (tgt := 191) hx hb dX2_betweenOf_168 (by decide) (fun c => ?_) (fun c => ?_)
          · have h := qi_t c h
            refine lv_iconst (v := (-1:Int32)) hx hb dX2_betweenOf_191 (by decide) ?_
            have h := Option.some.inj h
            have h1 := h
            exact d_iret E hr rfl hw h1 rfl dX2_betweenOf_192
          · have h := qi_f c h
            refine lv_aload_n hx hb dX2_betweenOf_171 rfl (lv_at hl 0 rfl) ?_
            obtain ⟨u17, g18, h⟩ := qb1_s h
            refine d_V (As := []) (v0 := some (.int u17)) (w0 := (A, B, L, rs)) hG E hw hl (m_X2_openNow l hG hM  g18) (qM0 hM) rfl (cwV 0 hts (lw_V q1600 q1602 qs77 q140 q1603) rfl rfl rfl ⟨rfl, kd_X2_openNow⟩ ⟨Nat.le_of_ble_eq_true rfl, Nat.le_of_ble_eq_true rfl⟩) rfl (rest := []) (st1 := [.int u17]) rfl rfl rfl dX2_betweenOf_172 ⟨Nat.le_of_ble_eq_true rfl, Nat.le_of_ble_eq_true rfl⟩ (fun H locs hw => ?_)
            refine lv_iconst (v := (-1:Int32)) hx hb dX2_betweenOf_175 (by decide) ?_
            refine lv_icmp_ne (tgt := 191) hx hb dX2_betweenOf_176 (by decide) (fun c => ?_) (fun c => ?_)
            · have h := qi_f c h
              refine lv_iconst (v := (-1:Int32)) hx hb dX2_betweenOf_191 (by decide) ?_
              have h := Option.some.inj h
              have h1 := h
              exact d_iret E hr rfl hw h1 rfl dX2_betweenOf_192
            · have h := qi_t c h
              refine lv_aload_n hx hb dX2_betweenOf_179 rfl (lv_at hl 0 rfl) ?_
              refine r_getM (v := .int (B 1000 22)) E hw hM 22 (by decide) q1375 rfl dX2_betweenOf_180 ?_
              refine lv_if_ne (tgt := 191) hx hb dX2_betweenOf_183 (by decide) (fun c => ?_) (fun c => ?_)
              · have h := qi_f c h
                refine lv_iconst (v := (-1:Int32)) hx hb dX2_betweenOf_191 (by decide) ?_
                have h := Option.some.inj h
                have h1 := h
                exact d_iret E hr rfl hw h1 rfl dX2_betweenOf_192
              · have h := qi_t c h
                refine lv_bipush (v := (23:Int32)) hx hb dX2_betweenOf_186 (by decide) ?_
                refine lv_goto (tgt := 192) hx hb dX2_betweenOf_188 (by decide) ?_
                have h := Option.some.inj h
                have h1 := h
                exact d_iret E hr rfl hw h1 rfl dX2_betweenOf_192
        · have h := qi_f c h
          refine lv_bipush (v := (22:Int32)) hx hb dX2_betweenOf_146 (by decide) ?_
          have h := Option.some.inj h
          have h1 := h
          exact d_iret E hr rfl hw h1 rfl dX2_betweenOf_148
      · have h := qi_f c h
        refine lv_bipush (v := (21:Int32)) hx hb dX2_betweenOf_129 (by decide) ?_
        have h := Option.some.inj h
        have h1 := h
        exact d_iret E hr rfl hw h1 rfl dX2_betweenOf_131
    · have h := qi_t c h
      refine lv_aload_n hx hb dX2_betweenOf_108 rfl (lv_at hl 0 rfl) ?_
      obtain ⟨u19, g20, h⟩ := qb1_s h
      refine d_V (As := []) (v0 := some (.int u19)) (w0 := (A, B, L, rs)) hG E hw hl (m_X2_compareOf l hG hM  g20) (qM0 hM) rfl (cwV 0 hts (lw_V q1611 q1613 qs79 q140 q1614) rfl rfl rfl ⟨rfl, kd_X2_compareOf⟩ ⟨Nat.le_of_ble_eq_true rfl, Nat.le_of_ble_eq_true rfl⟩) rfl (rest := []) (st1 := [.int u19]) rfl rfl rfl dX2_betweenOf_109 ⟨Nat.le_of_ble_eq_true rfl, Nat.le_of_ble_eq_true rfl⟩ (fun H locs hw => ?_)
      have h := Option.some.inj h
      have h1 := h
      exact d_iret E hr rfl hw h1 rfl dX2_betweenOf_112
  · have h := qi_t c h
    refine lv_iconst (v := (-1:Int32)) hx hb dX2_betweenOf_99 (by decide) ?_
    have h := Option.some.inj h
    have h1 := h
    exact d_iret E hr rfl hw h1 rfl dX2_betweenOf_100

def f_X2_betweenOf_76 (x1 : Int32) (B : QA) (L : QL) : Option (Int32) :=
  if x1 = (0:Int32) then (
  if (B 1000 9) = (47:Int32) then (
  some ((8:Int32))) else (
  f_X2_betweenOf_92 B L)) else (
  f_X2_betweenOf_92 B L)
set_option maxHeartbeats 4000000 in
theorem w_X2_betweenOf_76 {p : Program} {l : Launch} {e : Env} {s : State} {m : MethodId} {args : Array Value} {below : List Frame} {meth : Method} {c : Code} {K : QK} {G : State → Prop} {A : QA} {rs : QX × QM} {ro : Int32} (hG : QG G) (hM : QMl K) (E : EV K G p s m args meth c cX2_betweenOf "VaneCourtModel" 2) (hr : meth.sig.returnType = (some .int)) : ∀ (x1 : Int32) (B : QA) (L : QL) {H : Heap} {locs : List Loc} {ls : Array Slot}, f_X2_betweenOf_76 x1 B L = some ro → WP K (A, B, L, rs) H locs → lv_has ls 2 [(0, .ref (K.2.1 1000)), (1, .int x1)] → W p l e (qrm 6 155 0 0) s m args below meth c H locs 0 0 (MQ below (QE K (QR (some (.int ro)) (A, B, L, rs))) args s 0 0 (qA K)) (F0 m 76 ls []) := by
  have hx := E.1
  have hb := E.2.1
  have hown := E.2.2.1
  have hts := E.2.2.2.2.1
  intro x1 B L H locs ls  h hw hl
  rw [f_X2_betweenOf_76] at h
  refine lv_iload_n hx hb dX2_betweenOf_76 rfl (lv_at hl 1 rfl) ?_
  refine lv_if_ne (tgt := 92) hx hb dX2_betweenOf_77 (by decide) (fun c => ?_) (fun c => ?_)
  · have h := qi_f c h
    exact w_X2_betweenOf_92 hG hM E hr  _ _   h hw (lv_sub hl [0] rfl)
  · have h := qi_t c h
    refine lv_aload_n hx hb dX2_betweenOf_80 rfl (lv_at hl 0 rfl) ?_
    refine r_getM (v := .int (B 1000 9)) E hw hM 9 (by decide) q1362 rfl dX2_betweenOf_81 ?_
    refine lv_bipush (v := (47:Int32)) hx hb dX2_betweenOf_84 (by decide) ?_
    refine lv_icmp_ne (tgt := 92) hx hb dX2_betweenOf_86 (by decide) (fun c => ?_) (fun c => ?_)
    · have h := qi_f c h
      exact w_X2_betweenOf_92 hG hM E hr  _ _   h hw (lv_sub hl [0] rfl)
    · have h := qi_t c h
      refine lv_bipush (v := (8:Int32)) hx hb dX2_betweenOf_89 (by decide) ?_
      have h := Option.some.inj h
      have h1 := h
      exact d_iret E hr rfl hw h1 rfl dX2_betweenOf_91

def f_X2_betweenOf_60 (x1 : Int32) (B : QA) (L : QL) : Option (Int32) :=
  if x1 = (0:Int32) then (
  if (B 1000 9) = (42:Int32) then (
  some ((7:Int32))) else (
  f_X2_betweenOf_76 x1 B L)) else (
  f_X2_betweenOf_76 x1 B L)
set_option maxHeartbeats 4000000 in
theorem w_X2_betweenOf_60 {p : Program} {l : Launch} {e : Env} {s : State} {m : MethodId} {args : Array Value} {below : List Frame} {meth : Method} {c : Code} {K : QK} {G : State → Prop} {A : QA} {rs : QX × QM} {ro : Int32} (hG : QG G) (hM : QMl K) (E : EV K G p s m args meth c cX2_betweenOf "VaneCourtModel" 2) (hr : meth.sig.returnType = (some .int)) : ∀ (x1 : Int32) (B : QA) (L : QL) {H : Heap} {locs : List Loc} {ls : Array Slot}, f_X2_betweenOf_60 x1 B L = some ro → WP K (A, B, L, rs) H locs → lv_has ls 2 [(0, .ref (K.2.1 1000)), (1, .int x1)] → W p l e (qrm 6 155 0 0) s m args below meth c H locs 0 0 (MQ below (QE K (QR (some (.int ro)) (A, B, L, rs))) args s 0 0 (qA K)) (F0 m 60 ls []) := by
  have hx := E.1
  have hb := E.2.1
  have hown := E.2.2.1
  have hts := E.2.2.2.2.1
  intro x1 B L H locs ls  h hw hl
  rw [f_X2_betweenOf_60] at h
  refine lv_iload_n hx hb dX2_betweenOf_60 rfl (lv_at hl 1 rfl) ?_
  refine lv_if_ne (tgt := 76) hx hb dX2_betweenOf_61 (by decide) (fun c => ?_) (fun c => ?_)
  · have h := qi_f c h
    exact w_X2_betweenOf_76 hG hM E hr  _ _ _   h hw (lv_sub hl [0, 1] rfl)
  · have h := qi_t c h
    refine lv_aload_n hx hb dX2_betweenOf_64 rfl (lv_at hl 0 rfl) ?_
    refine r_getM (v := .int (B 1000 9)) E hw hM 9 (by decide) q1362 rfl dX2_betweenOf_65 ?_
    refine lv_bipush (v := (42:Int32)) hx hb dX2_betweenOf_68 (by decide) ?_
    refine lv_icmp_ne (tgt := 76) hx hb dX2_betweenOf_70 (by decide) (fun c => ?_) (fun c => ?_)
    · have h := qi_f c h
      exact w_X2_betweenOf_76 hG hM E hr  _ _ _   h hw (lv_sub hl [0, 1] rfl)
    · have h := qi_t c h
      refine lv_bipush (v := (7:Int32)) hx hb dX2_betweenOf_73 (by decide) ?_
      have h := Option.some.inj h
      have h1 := h
      exact d_iret E hr rfl hw h1 rfl dX2_betweenOf_75

def f_X2_betweenOf_44 (x1 : Int32) (B : QA) (L : QL) : Option (Int32) :=
  if x1 = (0:Int32) then (
  if (B 1000 9) = (45:Int32) then (
  some ((6:Int32))) else (
  f_X2_betweenOf_60 x1 B L)) else (
  f_X2_betweenOf_60 x1 B L)
set_option maxHeartbeats 4000000 in
theorem w_X2_betweenOf_44 {p : Program} {l : Launch} {e : Env} {s : State} {m : MethodId} {args : Array Value} {below : List Frame} {meth : Method} {c : Code} {K : QK} {G : State → Prop} {A : QA} {rs : QX × QM} {ro : Int32} (hG : QG G) (hM : QMl K) (E : EV K G p s m args meth c cX2_betweenOf "VaneCourtModel" 2) (hr : meth.sig.returnType = (some .int)) : ∀ (x1 : Int32) (B : QA) (L : QL) {H : Heap} {locs : List Loc} {ls : Array Slot}, f_X2_betweenOf_44 x1 B L = some ro → WP K (A, B, L, rs) H locs → lv_has ls 2 [(0, .ref (K.2.1 1000)), (1, .int x1)] → W p l e (qrm 6 155 0 0) s m args below meth c H locs 0 0 (MQ below (QE K (QR (some (.int ro)) (A, B, L, rs))) args s 0 0 (qA K)) (F0 m 44 ls []) := by
  have hx := E.1
  have hb := E.2.1
  have hown := E.2.2.1
  have hts := E.2.2.2.2.1
  intro x1 B L H locs ls  h hw hl
  rw [f_X2_betweenOf_44] at h
  refine lv_iload_n hx hb dX2_betweenOf_44 rfl (lv_at hl 1 rfl) ?_
  refine lv_if_ne (tgt := 60) hx hb dX2_betweenOf_45 (by decide) (fun c => ?_) (fun c => ?_)
  · have h := qi_f c h
    exact w_X2_betweenOf_60 hG hM E hr  _ _ _   h hw (lv_sub hl [0, 1] rfl)
  · have h := qi_t c h
    refine lv_aload_n hx hb dX2_betweenOf_48 rfl (lv_at hl 0 rfl) ?_
    refine r_getM (v := .int (B 1000 9)) E hw hM 9 (by decide) q1362 rfl dX2_betweenOf_49 ?_
    refine lv_bipush (v := (45:Int32)) hx hb dX2_betweenOf_52 (by decide) ?_
    refine lv_icmp_ne (tgt := 60) hx hb dX2_betweenOf_54 (by decide) (fun c => ?_) (fun c => ?_)
    · have h := qi_f c h
      exact w_X2_betweenOf_60 hG hM E hr  _ _ _   h hw (lv_sub hl [0, 1] rfl)
    · have h := qi_t c h
      refine lv_bipush (v := (6:Int32)) hx hb dX2_betweenOf_57 (by decide) ?_
      have h := Option.some.inj h
      have h1 := h
      exact d_iret E hr rfl hw h1 rfl dX2_betweenOf_59

def f_X2_betweenOf_28 (s0 : Int32) (B : QA) (L : QL) : Option (Int32) :=
  if s0 = (0:Int32) then (
  if (B 1000 9) = (43:Int32) then (
  some ((5:Int32))) else (
  f_X2_betweenOf_44 s0 B L)) else (
  f_X2_betweenOf_44 s0 B L)
set_option maxHeartbeats 4000000 in
theorem w_X2_betweenOf_28 {p : Program} {l : Launch} {e : Env} {s : State} {m : MethodId} {args : Array Value} {below : List Frame} {meth : Method} {c : Code} {K : QK} {G : State → Prop} {A : QA} {rs : QX × QM} {ro : Int32} (hG : QG G) (hM : QMl K) (E : EV K G p s m args meth c cX2_betweenOf "VaneCourtModel" 2) (hr : meth.sig.returnType = (some .int)) : ∀ (s0 : Int32) (B : QA) (L : QL) {H : Heap} {locs : List Loc} {ls : Array Slot}, f_X2_betweenOf_28 s0 B L = some ro → WP K (A, B, L, rs) H locs → lv_has ls 2 [(0, .ref (K.2.1 1000))] → W p l e (qrm 6 155 0 0) s m args below meth c H locs 0 0 (MQ below (QE K (QR (some (.int ro)) (A, B, L, rs))) args s 0 0 (qA K)) (F0 m 28 ls [.int s0]) := by
  have hx := E.1
  have hb := E.2.1
  have hown := E.2.2.1
  have hts := E.2.2.2.2.1
  intro s0 B L H locs ls  h hw hl
  rw [f_X2_betweenOf_28] at h
  refine lv_istore_n (lv' := [(1, .int s0), (0, .ref (K.2.1 1000))]) hx hb dX2_betweenOf_28 rfl hl (by decide) rfl (fun ls hl => ?_)
  refine lv_iload_n hx hb dX2_betweenOf_29 rfl (lv_at hl 0 rfl) ?_
  refine lv_if_ne (tgt := 44) hx hb dX2_betweenOf_30 (by decide) (fun c => ?_) (fun c => ?_)
  · have h := qi_f c h
    exact w_X2_betweenOf_44 hG hM E hr  _ _ _   h hw (lv_sub hl [1, 0] rfl)
  · have h := qi_t c h
    refine lv_aload_n hx hb dX2_betweenOf_33 rfl (lv_at hl 1 rfl) ?_
    refine r_getM (v := .int (B 1000 9)) E hw hM 9 (by decide) q1362 rfl dX2_betweenOf_34 ?_
    refine lv_bipush (v := (43:Int32)) hx hb dX2_betweenOf_37 (by decide) ?_
    refine lv_icmp_ne (tgt := 44) hx hb dX2_betweenOf_39 (by decide) (fun c => ?_) (fun c => ?_)
    · have h := qi_f c h
      exact w_X2_betweenOf_44 hG hM E hr  _ _ _   h hw (lv_sub hl [1, 0] rfl)
    · have h := qi_t c h
      refine lv_iconst (v := (5:Int32)) hx hb dX2_betweenOf_42 (by decide) ?_
      have h := Option.some.inj h
      have h1 := h
      exact d_iret E hr rfl hw h1 rfl dX2_betweenOf_43

def f_X2_betweenOf_27 (B : QA) (L : QL) : Option (Int32) :=
  f_X2_betweenOf_28 (0:Int32) B L
set_option maxHeartbeats 4000000 in
theorem w_X2_betweenOf_27 {p : Program} {l : Launch} {e : Env} {s : State} {m : MethodId} {args : Array Value} {below : List Frame} {meth : Method} {c : Code} {K : QK} {G : State → Prop} {A : QA} {rs : QX × QM} {ro : Int32} (hG : QG G) (hM : QMl K) (E : EV K G p s m args meth c cX2_betweenOf "VaneCourtModel" 2) (hr : meth.sig.returnType = (some .int)) : ∀ (B : QA) (L : QL) {H : Heap} {locs : List Loc} {ls : Array Slot}, f_X2_betweenOf_27 B L = some ro → WP K (A, B, L, rs) H locs → lv_has ls 2 [(0, .ref (K.2.1 1000))] → W p l e (qrm 6 155 0 0) s m args below meth c H locs 0 0 (MQ below (QE K (QR (some (.int ro)) (A, B, L, rs))) args s 0 0 (qA K)) (F0 m 27 ls []) := by
  have hx := E.1
  have hb := E.2.1
  have hown := E.2.2.1
  have hts := E.2.2.2.2.1
  intro B L H locs ls  h hw hl
  rw [f_X2_betweenOf_27] at h
  refine lv_iconst (v := (0:Int32)) hx hb dX2_betweenOf_27 (by decide) ?_
  exact w_X2_betweenOf_28 hG hM E hr  _ _ _   h hw (lv_sub hl [0] rfl)

def f_X2_betweenOf (B : QA) (L : QL) : Option (Int32) :=
  if (B 1000 17) ≤ (0:Int32) then (
  f_X2_betweenOf_27 B L) else (
  qif (qok ((B 1000 17) - (1:Int32)) 160) <|
  if (B 1005 ((B 1000 17) - (1:Int32)).toNatClampNeg) = (16:Int32) then (
  f_X2_betweenOf_28 (1:Int32) B L) else (
  f_X2_betweenOf_27 B L))
set_option maxHeartbeats 4000000 in
theorem w_X2_betweenOf_0 {p : Program} {l : Launch} {e : Env} {s : State} {m : MethodId} {args : Array Value} {below : List Frame} {meth : Method} {c : Code} {K : QK} {G : State → Prop} {A : QA} {rs : QX × QM} {ro : Int32} (hG : QG G) (hM : QMl K) (E : EV K G p s m args meth c cX2_betweenOf "VaneCourtModel" 2) (hr : meth.sig.returnType = (some .int)) : ∀ (B : QA) (L : QL) {H : Heap} {locs : List Loc} {ls : Array Slot}, f_X2_betweenOf B L = some ro → WP K (A, B, L, rs) H locs → lv_has ls 2 [(0, .ref (K.2.1 1000))] → W p l e (qrm 6 155 0 0) s m args below meth c H locs 0 0 (MQ below (QE K (QR (some (.int ro)) (A, B, L, rs))) args s 0 0 (qA K)) (F0 m 0 ls []) := by
  have hx := E.1
  have hb := E.2.1
  have hown := E.2.2.1
  have hts := E.2.2.2.2.1
  intro B L H locs ls  h hw hl
  rw [f_X2_betweenOf] at h
  refine lv_aload_n hx hb dX2_betweenOf_0 rfl (lv_at hl 0 rfl) ?_
  refine r_getM (v := .int (B 1000 17)) E hw hM 17 (by decide) q1370 rfl dX2_betweenOf_1 ?_
  refine lv_if_le (tgt := 27) hx hb dX2_betweenOf_4 (by decide) (fun c => ?_) (fun c => ?_)
  · have h := qi_t c h
    exact w_X2_betweenOf_27 hG hM E hr  _ _   h hw (lv_sub hl [0] rfl)
  · have h := qi_f c h
    refine lv_aload_n hx hb dX2_betweenOf_7 rfl (lv_at hl 0 rfl) ?_
    refine r_getM (v := .ref (K.2.1 1005)) E hw hM 15 (by decide) q1368 rfl dX2_betweenOf_8 ?_
    refine lv_aload_n hx hb dX2_betweenOf_11 rfl (lv_at hl 0 rfl) ?_
    refine r_getM (v := .int (B 1000 17)) E hw hM 17 (by decide) q1370 rfl dX2_betweenOf_12 ?_
    refine lv_iconst (v := (1:Int32)) hx hb dX2_betweenOf_15 (by decide) ?_
    refine lv_isub hx hb dX2_betweenOf_16 ?_
    obtain ⟨z21, h⟩ := qif_s h
    refine r_iald (j := ((B 1000 17) - (1:Int32)).toNatClampNeg) E hw (qi_1005 hM).at (qok_in z21) rfl dX2_betweenOf_17 ?_
    refine lv_bipush (v := (16:Int32)) hx hb dX2_betweenOf_18 (by decide) ?_
    refine lv_icmp_ne (tgt := 27) hx hb dX2_betweenOf_20 (by decide) (fun c => ?_) (fun c => ?_)
    · have h := qi_f c h
      exact w_X2_betweenOf_27 hG hM E hr  _ _   h hw (lv_sub hl [0] rfl)
    · have h := qi_t c h
      refine lv_iconst (v := (1:Int32)) hx hb dX2_betweenOf_23 (by decide) ?_
      refine lv_goto (tgt := 28) hx hb dX2_betweenOf_24 (by decide) ?_
      exact w_X2_betweenOf_28 hG hM E hr  _ _ _   h hw (lv_sub hl [0] rfl)

theorem m_X2_betweenOf (l : Launch) {K : QK} {G : State → Prop} (hG : QG G) (hM : QMl K) {A : QA} {rs : QX × QM} {B : QA} {L : QL} {ro : Int32} (h : f_X2_betweenOf B L = some ro) : MC l K G yX2_betweenOf (ws_ yX2_betweenOf cX2_betweenOf 2 (some .int)) 6 155 0 0 [.ref (K.2.1 1000)] (A, B, L, rs) (QR (some (.int ro)) (A, B, L, rs)) := by
  refine MC.of (by decide) (Nat.le_of_ble_eq_true rfl) (lv := [(0, .ref (K.2.1 1000))]) rfl (fun p e s m below meth c ls E hr hl hw => ?_)
  exact w_X2_betweenOf_0 hG hM E hr _ _  h hw hl

def f_X2_emit (x1 : Int32) (x2 : Int32) (B : QA) : Option (QA) :=
  qif (qok (((B 1000 12) + (97:Int32)) + ((2:Int32) * (B 1000 13))) 2820) <|
  qlet (qu B 1003 (((B 1000 12) + (97:Int32)) + ((2:Int32) * (B 1000 13))).toNatClampNeg x1) fun B2 =>
  qif (qok ((((B2 1000 12) + (97:Int32)) + ((2:Int32) * (B2 1000 13))) + (1:Int32)) 2820) <|
  qlet (qu B2 1003 ((((B2 1000 12) + (97:Int32)) + ((2:Int32) * (B2 1000 13))) + (1:Int32)).toNatClampNeg x2) fun B5 =>
  qlet (qu B5 1000 13 ((B5 1000 13) + (1:Int32))) fun B7 =>
  some (B7)
set_option maxHeartbeats 4000000 in
theorem w_X2_emit_0 {p : Program} {l : Launch} {e : Env} {s : State} {m : MethodId} {args : Array Value} {below : List Frame} {meth : Method} {c : Code} {K : QK} {G : State → Prop} {A : QA} {rs : QX × QM} {L : QL} {Bo : QA} (hG : QG G) (hM : QMl K) (E : EV K G p s m args meth c cX2_emit "VaneCourtModel" 3) (hr : meth.sig.returnType = none) : ∀ (x1 : Int32) (x2 : Int32) (B : QA) {H : Heap} {locs : List Loc} {ls : Array Slot}, f_X2_emit x1 x2 B = some Bo → WP K (A, B, L, rs) H locs → lv_has ls 3 [(0, .ref (K.2.1 1000)), (1, .int x1), (2, .int x2)] → W p l e (qrm 1 40 0 0) s m args below meth c H locs 0 0 (MQ below (QE K (QR none (A, Bo, L, rs))) args s 0 0 (qA K)) (F0 m 0 ls []) := by
  have hx := E.1
  have hb := E.2.1
  have hown := E.2.2.1
  have hts := E.2.2.2.2.1
  intro x1 x2 B H locs ls  h hw hl
  rw [f_X2_emit] at h
  refine lv_aload_n hx hb dX2_emit_0 rfl (lv_at hl 0 rfl) ?_
  refine r_getM (v := .ref (K.2.1 1003)) E hw hM 2 (by decide) q1355 rfl dX2_emit_1 ?_
  refine lv_aload_n hx hb dX2_emit_4 rfl (lv_at hl 0 rfl) ?_
  refine r_getM (v := .int (B 1000 12)) E hw hM 12 (by decide) q1365 rfl dX2_emit_5 ?_
  refine lv_bipush (v := (97:Int32)) hx hb dX2_emit_8 (by decide) ?_
  refine lv_iadd hx hb dX2_emit_10 ?_
  refine lv_iconst (v := (2:Int32)) hx hb dX2_emit_11 (by decide) ?_
  refine lv_aload_n hx hb dX2_emit_12 rfl (lv_at hl 0 rfl) ?_
  refine r_getM (v := .int (B 1000 13)) E hw hM 13 (by decide) q1366 rfl dX2_emit_13 ?_
  refine lv_imul hx hb dX2_emit_16 ?_
  refine lv_iadd hx hb dX2_emit_17 ?_
  refine lv_iload_n hx hb dX2_emit_18 rfl (lv_at hl 1 rfl) ?_
  obtain ⟨z1, h⟩ := qif_s h
  obtain ⟨B2, e3, h⟩ := qlet_s h
  refine r_iastB (j := (((B 1000 12) + (97:Int32)) + ((2:Int32) * (B 1000 13))).toNatClampNeg) E hw (qi_1003 hM) (qok_in z1) rfl dX2_emit_19 (fun H locs hw => ?_)
  rw [← e3] at hw
  refine lv_aload_n hx hb dX2_emit_20 rfl (lv_at hl 0 rfl) ?_
  refine r_getM (v := .ref (K.2.1 1003)) E hw hM 2 (by decide) q1355 rfl dX2_emit_21 ?_
  refine lv_aload_n hx hb dX2_emit_24 rfl (lv_at hl 0 rfl) ?_
  refine r_getM (v := .int (B2 1000 12)) E hw hM 12 (by decide) q1365 rfl dX2_emit_25 ?_
  refine lv_bipush (v := (97:Int32)) hx hb dX2_emit_28 (by decide) ?_
  refine lv_iadd hx hb dX2_emit_30 ?_
  refine lv_iconst (v := (2:Int32)) hx hb dX2_emit_31 (by decide) ?_
  refine lv_aload_n hx hb dX2_emit_32 rfl (lv_at hl 0 rfl) ?_
  refine r_getM (v := .int (B2 1000 13)) E hw hM 13 (by decide) q1366 rfl dX2_emit_33 ?_
  refine lv_imul hx hb dX2_emit_36 ?_
  refine lv_iadd hx hb dX2_emit_37 ?_
  refine lv_iconst (v := (1:Int32)) hx hb dX2_emit_38 (by decide) ?_
  refine lv_iadd hx hb dX2_emit_39 ?_
  refine lv_iload_n hx hb dX2_emit_40 rfl (lv_at hl 2 rfl) ?_
  obtain ⟨z4, h⟩ := qif_s h
  obtain ⟨B5, e6, h⟩ := qlet_s h
  refine r_iastB (j := ((((B2 1000 12) + (97:Int32)) + ((2:Int32) * (B2 1000 13))) + (1:Int32)).toNatClampNeg) E hw (qi_1003 hM) (qok_in z4) rfl dX2_emit_41 (fun H locs hw => ?_)
  rw [← e6] at hw
  refine lv_aload_n hx hb dX2_emit_42 rfl (lv_at hl 0 rfl) ?_
  refine lv_dup hx hb dX2_emit_43 rfl ?_
  refine r_getM (v := .int (B5 1000 13)) E hw hM 13 (by decide) q1366 rfl dX2_emit_44 ?_
  refine lv_iconst (v := (1:Int32)) hx hb dX2_emit_47 (by decide) ?_
  refine lv_iadd hx hb dX2_emit_48 ?_
  obtain ⟨B7, e8, h⟩ := qlet_s h
  refine r_putM E hw hM 13 (by decide) q1366 rfl rfl rfl (fun _ _ => rfl) dX2_emit_49 (fun H locs hw => ?_)
  rw [← e8] at hw
  have h := Option.some.inj h
  have h1 := h
  exact d_ret E hr hw (by rw [h1]) dX2_emit_52

theorem m_X2_emit (l : Launch) {K : QK} {G : State → Prop} (hG : QG G) (hM : QMl K) {A : QA} {rs : QX × QM} {L : QL} {x1 : Int32} {x2 : Int32} {B : QA} {Bo : QA} (h : f_X2_emit x1 x2 B = some Bo) : MC l K G yX2_emit (ws_ yX2_emit cX2_emit 3 none) 1 40 0 0 [.ref (K.2.1 1000), .int x1, .int x2] (A, B, L, rs) (QR none (A, Bo, L, rs)) := by
  refine MC.of (by decide) (Nat.le_of_ble_eq_true rfl) (lv := [(0, .ref (K.2.1 1000)), (1, .int x1), (2, .int x2)]) rfl (fun p e s m below meth c ls E hr hl hw => ?_)
  exact w_X2_emit_0 hG hM E hr _ _ _  h hw hl

def f_X2_settle_90 (k0 : (Int32 → QA → Option (QA))) (x1 : Int32) (B : QA) : Option (QA) :=
  qlet (qu B 1000 18 ((B 1000 18) - (1:Int32))) fun B8 =>
  k0 x1 B8
set_option maxHeartbeats 4000000 in
theorem w_X2_settle_90 {p : Program} {l : Launch} {e : Env} {s : State} {m : MethodId} {args : Array Value} {below : List Frame} {meth : Method} {c : Code} {K : QK} {G : State → Prop} {A : QA} {rs : QX × QM} {L : QL} {Bo : QA} (hG : QG G) (hM : QMl K) (E : EV K G p s m args meth c cX2_settle "VaneCourtModel" 2) (hr : meth.sig.returnType = none) {k0 : (Int32 → QA → Option (QA))} (hk0 : ∀ (x1 : Int32) (B : QA) {H : Heap} {locs : List Loc} {ls : Array Slot}, k0 x1 B = some Bo → WP K (A, B, L, rs) H locs → lv_has ls 2 [(0, .ref (K.2.1 1000)), (1, .int x1)] → W p l e (qrm 2 62 0 0) s m args below meth c H locs 0 0 (MQ below (QE K (QR none (A, Bo, L, rs))) args s 0 0 (qA K)) (F0 m 0 ls [])) : ∀ (x1 : Int32) (B : QA) {H : Heap} {locs : List Loc} {ls : Array Slot}, f_X2_settle_90 k0 x1 B = some Bo → WP K (A, B, L, rs) H locs → lv_has ls 2 [(0, .ref (K.2.1 1000)), (1, .int x1)] → W p l e (qrm 2 62 0 0) s m args below meth c H locs 0 0 (MQ below (QE K (QR none (A, Bo, L, rs))) args s 0 0 (qA K)) (F0 m 90 ls []) := by
  have hx := E.1
  have hb := E.2.1
  have hown := E.2.2.1
  have hts := E.2.2.2.2.1
  intro x1 B H locs ls  h hw hl
  rw [f_X2_settle_90] at h
  refine lv_aload_n hx hb dX2_settle_90 rfl (lv_at hl 0 rfl) ?_
  refine lv_dup hx hb dX2_settle_91 rfl ?_
  refine r_getM (v := .int (B 1000 18)) E hw hM 18 (by decide) q1371 rfl dX2_settle_92 ?_
  refine lv_iconst (v := (1:Int32)) hx hb dX2_settle_95 (by decide) ?_
  refine lv_isub hx hb dX2_settle_96 ?_
  obtain ⟨B8, e9, h⟩ := qlet_s h
  refine r_putM E hw hM 18 (by decide) q1371 rfl rfl rfl (fun _ _ => rfl) dX2_settle_97 (fun H locs hw => ?_)
  rw [← e9] at hw
  refine lv_goto (tgt := 0) hx hb dX2_settle_100 (by decide) ?_
  exact hk0 _ _  h hw (lv_sub hl [0, 1] rfl)

def f_X2_settle_63 (k0 : (Int32 → QA → Option (QA))) (x1 : Int32) (B : QA) : Option (QA) :=
  qif (qok (B 1000 17) 160) <|
  if (B 1005 (B 1000 17).toNatClampNeg) = (4:Int32) then (
  f_X2_settle_90 k0 x1 B) else (
  if (B 1005 (B 1000 17).toNatClampNeg) = (20:Int32) then (
  f_X2_settle_90 k0 x1 B) else (
  k0 x1 B))
set_option maxHeartbeats 4000000 in
theorem w_X2_settle_63 {p : Program} {l : Launch} {e : Env} {s : State} {m : MethodId} {args : Array Value} {below : List Frame} {meth : Method} {c : Code} {K : QK} {G : State → Prop} {A : QA} {rs : QX × QM} {L : QL} {Bo : QA} (hG : QG G) (hM : QMl K) (E : EV K G p s m args meth c cX2_settle "VaneCourtModel" 2) (hr : meth.sig.returnType = none) {k0 : (Int32 → QA → Option (QA))} (hk0 : ∀ (x1 : Int32) (B : QA) {H : Heap} {locs : List Loc} {ls : Array Slot}, k0 x1 B = some Bo → WP K (A, B, L, rs) H locs → lv_has ls 2 [(0, .ref (K.2.1 1000)), (1, .int x1)] → W p l e (qrm 2 62 0 0) s m args below meth c H locs 0 0 (MQ below (QE K (QR none (A, Bo, L, rs))) args s 0 0 (qA K)) (F0 m 0 ls [])) : ∀ (x1 : Int32) (B : QA) {H : Heap} {locs : List Loc} {ls : Array Slot}, f_X2_settle_63 k0 x1 B = some Bo → WP K (A, B, L, rs) H locs → lv_has ls 2 [(0, .ref (K.2.1 1000)), (1, .int x1)] → W p l e (qrm 2 62 0 0) s m args below meth c H locs 0 0 (MQ below (QE K (QR none (A, Bo, L, rs))) args s 0 0 (qA K)) (F0 m 63 ls []) := by
  have hx := E.1
  have hb := E.2.1
  have hown := E.2.2.1
  have hts := E.2.2.2.2.1
  intro x1 B H locs ls  h hw hl
  rw [f_X2_settle_63] at h
  refine lv_aload_n hx hb dX2_settle_63 rfl (lv_at hl 0 rfl) ?_
  refine r_getM (v := .ref (K.2.1 1005)) E hw hM 15 (by decide) q1368 rfl dX2_settle_64 ?_
  refine lv_aload_n hx hb dX2_settle_67 rfl (lv_at hl 0 rfl) ?_
  refine r_getM (v := .int (B 1000 17)) E hw hM 17 (by decide) q1370 rfl dX2_settle_68 ?_
  obtain ⟨z7, h⟩ := qif_s h
  refine r_iald (j := (B 1000 17).toNatClampNeg) E hw (qi_1005 hM).at (qok_in z7) rfl dX2_settle_71 ?_
  refine lv_iconst (v := (4:Int32)) hx hb dX2_settle_72 (by decide) ?_
  refine lv_icmp_eq (tgt := 90) hx hb dX2_settle_73 (by decide) (fun c => ?_) (fun c => ?_)
  · have h := qi_t c h
    exact w_X2_settle_90 hG hM E hr hk0 _ _   h hw (lv_sub hl [0, 1] rfl)
  · have h := qi_f c h
    refine lv_aload_n hx hb dX2_settle_76 rfl (lv_at hl 0 rfl) ?_
    refine r_getM (v := .ref (K.2.1 1005)) E hw hM 15 (by decide) q1368 rfl dX2_settle_77 ?_
    refine lv_aload_n hx hb dX2_settle_80 rfl (lv_at hl 0 rfl) ?_
    refine r_getM (v := .int (B 1000 17)) E hw hM 17 (by decide) q1370 rfl dX2_settle_81 ?_
    refine r_iald (j := (B 1000 17).toNatClampNeg) E hw (qi_1005 hM).at (qok_in z7) rfl dX2_settle_84 ?_
    refine lv_bipush (v := (20:Int32)) hx hb dX2_settle_85 (by decide) ?_
    refine lv_icmp_ne (tgt := 0) hx hb dX2_settle_87 (by decide) (fun c => ?_) (fun c => ?_)
    · have h := qi_f c h
      exact hk0 _ _  h hw (lv_sub hl [0, 1] rfl)
    · have h := qi_t c h
      exact w_X2_settle_90 hG hM E hr hk0 _ _   h hw (lv_sub hl [0, 1] rfl)

def f_X2_settle_0 : Nat → Int32 → QA → Option (QA)
  | 0, _, _ => none
  | n + 1, x1, B => if (B 1000 17) ≤ (0:Int32) then (
  some (B)) else (
  qif (qok ((B 1000 17) - (1:Int32)) 160) <|
  qb1 (f_X2_rank (B 1005 ((B 1000 17) - (1:Int32)).toNatClampNeg)) fun u2 =>
  if u2 < x1 then (
  some (B)) else (
  qlet (qu B 1000 17 ((B 1000 17) - (1:Int32))) fun B4 =>
  qif (qok (B4 1000 17) 160) <|
  if (B4 1005 (B4 1000 17).toNatClampNeg) = (16:Int32) then (
  f_X2_settle_63 (fun x1' B' => f_X2_settle_0 n x1' B') x1 B4) else (
  qb1 (f_X2_emit (B4 1005 (B4 1000 17).toNatClampNeg) (0:Int32) B4) fun B10 =>
  f_X2_settle_63 (fun x1' B' => f_X2_settle_0 n x1' B') x1 B10)))
set_option maxHeartbeats 4000000 in
theorem w_X2_settle_0 {p : Program} {l : Launch} {e : Env} {s : State} {m : MethodId} {args : Array Value} {below : List Frame} {meth : Method} {c : Code} {K : QK} {G : State → Prop} {A : QA} {rs : QX × QM} {L : QL} {Bo : QA} (hG : QG G) (hM : QMl K) (E : EV K G p s m args meth c cX2_settle "VaneCourtModel" 2) (hr : meth.sig.returnType = none) : ∀ (n : Nat) (x1 : Int32) (B : QA) {H : Heap} {locs : List Loc} {ls : Array Slot}, f_X2_settle_0 n x1 B = some Bo → WP K (A, B, L, rs) H locs → lv_has ls 2 [(0, .ref (K.2.1 1000)), (1, .int x1)] → W p l e (qrm 2 62 0 0) s m args below meth c H locs 0 0 (MQ below (QE K (QR none (A, Bo, L, rs))) args s 0 0 (qA K)) (F0 m 0 ls []) := by
  have hx := E.1
  have hb := E.2.1
  have hown := E.2.2.1
  have hts := E.2.2.2.2.1
  intro n
  induction n with
  | zero =>
    intro x1 B H locs ls  h hw hl
    cases h
  | succ n ih =>
    intro x1 B H locs ls  h hw hl
    rw [f_X2_settle_0] at h
    refine lv_aload_n hx hb dX2_settle_0 rfl (lv_at hl 0 rfl) ?_
    refine r_getM (v := .int (B 1000 17)) E hw hM 17 (by decide) q1370 rfl dX2_settle_1 ?_
    refine lv_if_le (tgt := 103) hx hb dX2_settle_4 (by decide) (fun c => ?_) (fun c => ?_)
    · have h := qi_t c h
      have h := Option.some.inj h
      have h1 := h
      exact d_ret E hr hw (by rw [h1]) dX2_settle_103
    · have h := qi_f c h
      refine lv_aload_n hx hb dX2_settle_7 rfl (lv_at hl 0 rfl) ?_
      refine r_getM (v := .ref (K.2.1 1005)) E hw hM 15 (by decide) q1368 rfl dX2_settle_8 ?_
      refine lv_aload_n hx hb dX2_settle_11 rfl (lv_at hl 0 rfl) ?_
      refine r_getM (v := .int (B 1000 17)) E hw hM 17 (by decide) q1370 rfl dX2_settle_12 ?_
      refine lv_iconst (v := (1:Int32)) hx hb dX2_settle_15 (by decide) ?_
      refine lv_isub hx hb dX2_settle_16 ?_
      obtain ⟨z1, h⟩ := qif_s h
      refine r_iald (j := ((B 1000 17) - (1:Int32)).toNatClampNeg) E hw (qi_1005 hM).at (qok_in z1) rfl dX2_settle_17 ?_
      obtain ⟨u2, g3, h⟩ := qb1_s h
      refine d_S (As := [.int (B 1005 ((B 1000 17) - (1:Int32)).toNatClampNeg)]) (v0 := some (.int u2)) (w0 := (A, B, L, rs)) hG E hw hl (m_X2_rank l hG hM  g3) (va_cwS 1 hts (lw_S q1608 q1609 q140 q1610) rfl rfl rfl kd_X2_rank ⟨Nat.le_of_ble_eq_true rfl, Nat.le_of_ble_eq_true rfl⟩) rfl (rest := []) (st1 := [.int u2]) rfl rfl rfl dX2_settle_18 ⟨Nat.le_of_ble_eq_true rfl, Nat.le_of_ble_eq_true rfl⟩ (fun H locs hw => ?_)
      refine lv_iload_n hx hb dX2_settle_21 rfl (lv_at hl 1 rfl) ?_
      refine lv_icmp_lt (tgt := 103) hx hb dX2_settle_22 (by decide) (fun c => ?_) (fun c => ?_)
      · have h := qi_t c h
        have h := Option.some.inj h
        have h1 := h
        exact d_ret E hr hw (by rw [h1]) dX2_settle_103
      · have h := qi_f c h
        refine lv_aload_n hx hb dX2_settle_25 rfl (lv_at hl 0 rfl) ?_
        refine lv_dup hx hb dX2_settle_26 rfl ?_
        refine r_getM (v := .int (B 1000 17)) E hw hM 17 (by decide) q1370 rfl dX2_settle_27 ?_
        refine lv_iconst (v := (1:Int32)) hx hb dX2_settle_30 (by decide) ?_
        refine lv_isub hx hb dX2_settle_31 ?_
        obtain ⟨B4, e5, h⟩ := qlet_s h
        refine r_putM E hw hM 17 (by decide) q1370 rfl rfl rfl (fun _ _ => rfl) dX2_settle_32 (fun H locs hw => ?_)
        rw [← e5] at hw
        refine lv_aload_n hx hb dX2_settle_35 rfl (lv_at hl 0 rfl) ?_
        refine r_getM (v := .ref (K.2.1 1005)) E hw hM 15 (by decide) q1368 rfl dX2_settle_36 ?_
        refine lv_aload_n hx hb dX2_settle_39 rfl (lv_at hl 0 rfl) ?_
        refine r_getM (v := .int (B4 1000 17)) E hw hM 17 (by decide) q1370 rfl dX2_settle_40 ?_
        obtain ⟨z6, h⟩ := qif_s h
        refine r_iald (j := (B4 1000 17).toNatClampNeg) E hw (qi_1005 hM).at (qok_in z6) rfl dX2_settle_43 ?_
        refine lv_bipush (v := (16:Int32)) hx hb dX2_settle_44 (by decide) ?_
        refine lv_icmp_eq (tgt := 63) hx hb dX2_settle_46 (by decide) (fun c => ?_) (fun c => ?_)
        · have h := qi_t c h
          exact w_X2_settle_63 hG hM E hr ih _ _   h hw (lv_sub hl [0, 1] rfl)
        · have h := qi_f c h
          refine lv_aload_n hx hb dX2_settle_49 rfl (lv_at hl 0 rfl) ?_
          refine lv_aload_n hx hb dX2_settle_50 rfl (lv_at hl 0 rfl) ?_
          refine r_getM (v := .ref (K.2.1 1005)) E hw hM 15 (by decide) q1368 rfl dX2_settle_51 ?_
          refine lv_aload_n hx hb dX2_settle_54 rfl (lv_at hl 0 rfl) ?_
          refine r_getM (v := .int (B4 1000 17)) E hw hM 17 (by decide) q1370 rfl dX2_settle_55 ?_
          refine r_iald (j := (B4 1000 17).toNatClampNeg) E hw (qi_1005 hM).at (qok_in z6) rfl dX2_settle_58 ?_
          refine lv_iconst (v := (0:Int32)) hx hb dX2_settle_59 (by decide) ?_
          obtain ⟨B10, g11, h⟩ := qb1_s h
          refine d_V (As := [.int (B4 1005 (B4 1000 17).toNatClampNeg), .int (0:Int32)]) (v0 := none) (w0 := (A, B10, L, rs)) hG E hw hl (m_X2_emit l hG hM  g11) (qM0 hM) rfl (cwV 2 hts (lw_V q1619 q1621 qs81 q140 q1622) rfl rfl rfl ⟨rfl, kd_X2_emit⟩ ⟨Nat.le_of_ble_eq_true rfl, Nat.le_of_ble_eq_true rfl⟩) rfl (rest := []) (st1 := []) rfl rfl rfl dX2_settle_60 ⟨Nat.le_of_ble_eq_true rfl, Nat.le_of_ble_eq_true rfl⟩ (fun H locs hw => ?_)
          exact w_X2_settle_63 hG hM E hr ih _ _   h hw (lv_sub hl [0, 1] rfl)

def f_X2_settle (x1 : Int32) (B : QA) : Option (QA) := f_X2_settle_0 FU x1 B

theorem m_X2_settle (l : Launch) {K : QK} {G : State → Prop} (hG : QG G) (hM : QMl K) {A : QA} {rs : QX × QM} {L : QL} {x1 : Int32} {B : QA} {Bo : QA} (h : f_X2_settle x1 B = some Bo) : MC l K G yX2_settle (ws_ yX2_settle cX2_settle 2 none) 2 62 0 0 [.ref (K.2.1 1000), .int x1] (A, B, L, rs) (QR none (A, Bo, L, rs)) := by
  refine MC.of (by decide) (Nat.le_of_ble_eq_true rfl) (lv := [(0, .ref (K.2.1 1000)), (1, .int x1)]) rfl (fun p e s m below meth c ls E hr hl hw => ?_)
  exact w_X2_settle_0 hG hM E hr FU _ _  h hw (lv_sub hl [0, 1] rfl)

def f_X2_nextOfMost (B : QA) (L : QL) : Option (Int32 × QA × QL) :=
  qif (qok ((B 1000 19) - (1:Int32)) 9) <|
  if (B 1006 ((B 1000 19) - (1:Int32)).toNatClampNeg) = (6:Int32) then (
  some ((7:Int32), B, L)) else (
  qb1 (f_X2_settle (1:Int32) B) fun B2 =>
  qif (qok ((B2 1000 19) - (1:Int32)) 9) <|
  qlet (qu B2 1006 ((B2 1000 19) - (1:Int32)).toNatClampNeg ((B2 1006 ((B2 1000 19) - (1:Int32)).toNatClampNeg) + (1:Int32))) fun B5 =>
  qlet (qu B5 1000 20 (0:Int32)) fun B7 =>
  qb2 (f_X2_nextToken B7 L) fun B9 L10 =>
  some ((0:Int32), B9, L10))
set_option maxHeartbeats 4000000 in
theorem w_X2_nextOfMost_0 {p : Program} {l : Launch} {e : Env} {s : State} {m : MethodId} {args : Array Value} {below : List Frame} {meth : Method} {c : Code} {K : QK} {G : State → Prop} {A : QA} {rs : QX × QM} {ro : Int32} {Bo : QA} {Lo : QL} (hG : QG G) (hM : QMl K) (E : EV K G p s m args meth c cX2_nextOfMost "VaneCourtModel" 1) (hr : meth.sig.returnType = (some .int)) : ∀ (B : QA) (L : QL) {H : Heap} {locs : List Loc} {ls : Array Slot}, f_X2_nextOfMost B L = some (ro, Bo, Lo) → WP K (A, B, L, rs) H locs → lv_has ls 1 [(0, .ref (K.2.1 1000))] → W p l e (qrm 3 83 0 0) s m args below meth c H locs 0 0 (MQ below (QE K (QR (some (.int ro)) (A, Bo, Lo, rs))) args s 0 0 (qA K)) (F0 m 0 ls []) := by
  have hx := E.1
  have hb := E.2.1
  have hown := E.2.2.1
  have hts := E.2.2.2.2.1
  intro B L H locs ls  h hw hl
  rw [f_X2_nextOfMost] at h
  refine lv_aload_n hx hb dX2_nextOfMost_0 rfl (lv_at hl 0 rfl) ?_
  refine r_getM (v := .ref (K.2.1 1006)) E hw hM 16 (by decide) q1369 rfl dX2_nextOfMost_1 ?_
  refine lv_aload_n hx hb dX2_nextOfMost_4 rfl (lv_at hl 0 rfl) ?_
  refine r_getM (v := .int (B 1000 19)) E hw hM 19 (by decide) q1372 rfl dX2_nextOfMost_5 ?_
  refine lv_iconst (v := (1:Int32)) hx hb dX2_nextOfMost_8 (by decide) ?_
  refine lv_isub hx hb dX2_nextOfMost_9 ?_
  obtain ⟨z1, h⟩ := qif_s h
  refine r_iald (j := ((B 1000 19) - (1:Int32)).toNatClampNeg) E hw (qi_1006 hM).at (qok_in z1) rfl dX2_nextOfMost_10 ?_
  refine lv_bipush (v := (6:Int32)) hx hb dX2_nextOfMost_11 (by decide) ?_
  refine lv_icmp_ne (tgt := 19) hx hb dX2_nextOfMost_13 (by decide) (fun c => ?_) (fun c => ?_)
  · have h := qi_f c h
    refine lv_aload_n hx hb dX2_nextOfMost_19 rfl (lv_at hl 0 rfl) ?_
    refine lv_iconst (v := (1:Int32)) hx hb dX2_nextOfMost_20 (by decide) ?_
    obtain ⟨B2, g3, h⟩ := qb1_s h
    refine d_V (As := [.int (1:Int32)]) (v0 := none) (w0 := (A, B2, L, rs)) hG E hw hl (m_X2_settle l hG hM  g3) (qM0 hM) rfl (cwV 1 hts (lw_V q1615 q1617 qs80 q140 q1618) rfl rfl rfl ⟨rfl, kd_X2_settle⟩ ⟨Nat.le_of_ble_eq_true rfl, Nat.le_of_ble_eq_true rfl⟩) rfl (rest := []) (st1 := []) rfl rfl rfl dX2_nextOfMost_21 ⟨Nat.le_of_ble_eq_true rfl, Nat.le_of_ble_eq_true rfl⟩ (fun H locs hw => ?_)
    refine lv_aload_n hx hb dX2_nextOfMost_24 rfl (lv_at hl 0 rfl) ?_
    refine r_getM (v := .ref (K.2.1 1006)) E hw hM 16 (by decide) q1369 rfl dX2_nextOfMost_25 ?_
    refine lv_aload_n hx hb dX2_nextOfMost_28 rfl (lv_at hl 0 rfl) ?_
    refine r_getM (v := .int (B2 1000 19)) E hw hM 19 (by decide) q1372 rfl dX2_nextOfMost_29 ?_
    refine lv_iconst (v := (1:Int32)) hx hb dX2_nextOfMost_32 (by decide) ?_
    refine lv_isub hx hb dX2_nextOfMost_33 ?_
    refine lv_dup2_11 hx hb dX2_nextOfMost_34 rfl rfl ?_
    obtain ⟨z4, h⟩ := qif_s h
    refine r_iald (j := ((B2 1000 19) - (1:Int32)).toNatClampNeg) E hw (qi_1006 hM).at (qok_in z4) rfl dX2_nextOfMost_35 ?_
    refine lv_iconst (v := (1:Int32)) hx hb dX2_nextOfMost_36 (by decide) ?_
    refine lv_iadd hx hb dX2_nextOfMost_37 ?_
    obtain ⟨B5, e6, h⟩ := qlet_s h
    refine r_iastB (j := ((B2 1000 19) - (1:Int32)).toNatClampNeg) E hw (qi_1006 hM) (qok_in z4) rfl dX2_nextOfMost_38 (fun H locs hw => ?_)
    rw [← e6] at hw
    refine lv_aload_n hx hb dX2_nextOfMost_39 rfl (lv_at hl 0 rfl) ?_
    refine lv_iconst (v := (0:Int32)) hx hb dX2_nextOfMost_40 (by decide) ?_
    obtain ⟨B7, e8, h⟩ := qlet_s h
    refine r_putM E hw hM 20 (by decide) q1373 rfl rfl rfl (fun _ _ => rfl) dX2_nextOfMost_41 (fun H locs hw => ?_)
    rw [← e8] at hw
    refine lv_aload_n hx hb dX2_nextOfMost_44 rfl (lv_at hl 0 rfl) ?_
    obtain ⟨B9, L10, g11, h⟩ := qb2_s h
    refine d_V (As := []) (v0 := none) (w0 := (A, B9, L10, rs)) hG E hw hl (m_X2_nextToken l hG hM  g11) (qM0 hM) rfl (cwV 0 hts (lw_V q1507 q1509 qs61 q140 q1510) rfl rfl rfl ⟨rfl, kd_X2_nextToken⟩ ⟨Nat.le_of_ble_eq_true rfl, Nat.le_of_ble_eq_true rfl⟩) rfl (rest := []) (st1 := []) rfl rfl rfl dX2_nextOfMost_45 ⟨Nat.le_of_ble_eq_true rfl, Nat.le_of_ble_eq_true rfl⟩ (fun H locs hw => ?_)
    refine lv_iconst (v := (0:Int32)) hx hb dX2_nextOfMost_48 (by decide) ?_
    have h := Option.some.inj h
    obtain ⟨h1, h2⟩ := Prod.mk.inj h
    obtain ⟨h2, h3⟩ := Prod.mk.inj h2
    exact d_iret E hr rfl hw h1 (by rw [h2, h3]) dX2_nextOfMost_49
  · have h := qi_t c h
    refine lv_bipush (v := (7:Int32)) hx hb dX2_nextOfMost_16 (by decide) ?_
    have h := Option.some.inj h
    obtain ⟨h1, h2⟩ := Prod.mk.inj h
    obtain ⟨h2, h3⟩ := Prod.mk.inj h2
    exact d_iret E hr rfl hw h1 (by rw [h2, h3]) dX2_nextOfMost_18

theorem m_X2_nextOfMost (l : Launch) {K : QK} {G : State → Prop} (hG : QG G) (hM : QMl K) {A : QA} {rs : QX × QM} {B : QA} {L : QL} {ro : Int32} {Bo : QA} {Lo : QL} (h : f_X2_nextOfMost B L = some (ro, Bo, Lo)) : MC l K G yX2_nextOfMost (ws_ yX2_nextOfMost cX2_nextOfMost 1 (some .int)) 3 83 0 0 [.ref (K.2.1 1000)] (A, B, L, rs) (QR (some (.int ro)) (A, Bo, Lo, rs)) := by
  refine MC.of (by decide) (Nat.le_of_ble_eq_true rfl) (lv := [(0, .ref (K.2.1 1000))]) rfl (fun p e s m below meth c ls E hr hl hw => ?_)
  exact w_X2_nextOfMost_0 hG hM E hr _ _  h hw hl

def f_X2_shut (x1 : Int32) (B : QA) (L : QL) : Option (QA × QL) :=
  qb1 (f_X2_settle (1:Int32) B) fun B1 =>
  qlet (qu B1 1000 18 ((B1 1000 18) - (1:Int32))) fun B3 =>
  if x1 = (41:Int32) then (
  qlet (qu B3 1000 19 ((B3 1000 19) - (1:Int32))) fun B12 =>
  qif (qok (B12 1000 19) 9) <|
  qb1 (f_X2_emit (3:Int32) (B12 1006 (B12 1000 19).toNatClampNeg) B12) fun B15 =>
  qif (qok ((B15 1000 17) - (1:Int32)) 160) <|
  qlet (qu B15 1005 ((B15 1000 17) - (1:Int32)).toNatClampNeg (16:Int32)) fun B18 =>
  qb2 (f_X2_nextToken B18 L) fun B20 L21 =>
  some (B20, L21)) else (
  qlet (qu B3 1000 17 ((B3 1000 17) - (1:Int32))) fun B5 =>
  qb2 (f_X2_nextToken B5 L) fun B7 L8 =>
  qb1 (f_X2_settle (8:Int32) B7) fun B10 =>
  some (B10, L8))
set_option maxHeartbeats 4000000 in
theorem w_X2_shut_0 {p : Program} {l : Launch} {e : Env} {s : State} {m : MethodId} {args : Array Value} {below : List Frame} {meth : Method} {c : Code} {K : QK} {G : State → Prop} {A : QA} {rs : QX × QM} {Bo : QA} {Lo : QL} (hG : QG G) (hM : QMl K) (E : EV K G p s m args meth c cX2_shut "VaneCourtModel" 2) (hr : meth.sig.returnType = none) : ∀ (x1 : Int32) (B : QA) (L : QL) {H : Heap} {locs : List Loc} {ls : Array Slot}, f_X2_shut x1 B L = some (Bo, Lo) → WP K (A, B, L, rs) H locs → lv_has ls 2 [(0, .ref (K.2.1 1000)), (1, .int x1)] → W p l e (qrm 3 83 0 0) s m args below meth c H locs 0 0 (MQ below (QE K (QR none (A, Bo, Lo, rs))) args s 0 0 (qA K)) (F0 m 0 ls []) := by
  have hx := E.1
  have hb := E.2.1
  have hown := E.2.2.1
  have hts := E.2.2.2.2.1
  intro x1 B L H locs ls  h hw hl
  rw [f_X2_shut] at h
  refine lv_aload_n hx hb dX2_shut_0 rfl (lv_at hl 0 rfl) ?_
  refine lv_iconst (v := (1:Int32)) hx hb dX2_shut_1 (by decide) ?_
  obtain ⟨B1, g2, h⟩ := qb1_s h
  refine d_V (As := [.int (1:Int32)]) (v0 := none) (w0 := (A, B1, L, rs)) hG E hw hl (m_X2_settle l hG hM  g2) (qM0 hM) rfl (cwV 1 hts (lw_V q1615 q1617 qs80 q140 q1618) rfl rfl rfl ⟨rfl, kd_X2_settle⟩ ⟨Nat.le_of_ble_eq_true rfl, Nat.le_of_ble_eq_true rfl⟩) rfl (rest := []) (st1 := []) rfl rfl rfl dX2_shut_2 ⟨Nat.le_of_ble_eq_true rfl, Nat.le_of_ble_eq_true rfl⟩ (fun H locs hw => ?_)
  refine lv_aload_n hx hb dX2_shut_5 rfl (lv_at hl 0 rfl) ?_
  refine lv_dup hx hb dX2_shut_6 rfl ?_
  refine r_getM (v := .int (B1 1000 18)) E hw hM 18 (by decide) q1371 rfl dX2_shut_7 ?_
  refine lv_iconst (v := (1:Int32)) hx hb dX2_shut_10 (by decide) ?_
  refine lv_isub hx hb dX2_shut_11 ?_
  obtain ⟨B3, e4, h⟩ := qlet_s h
  refine r_putM E hw hM 18 (by decide) q1371 rfl rfl rfl (fun _ _ => rfl) dX2_shut_12 (fun H locs hw => ?_)
  rw [← e4] at hw
  refine lv_iload_n hx hb dX2_shut_15 rfl (lv_at hl 1 rfl) ?_
  refine lv_bipush (v := (41:Int32)) hx hb dX2_shut_16 (by decide) ?_
  refine lv_icmp_ne (tgt := 63) hx hb dX2_shut_18 (by decide) (fun c => ?_) (fun c => ?_)
  · have h := qi_f c h
    refine lv_aload_n hx hb dX2_shut_63 rfl (lv_at hl 0 rfl) ?_
    refine lv_dup hx hb dX2_shut_64 rfl ?_
    refine r_getM (v := .int (B3 1000 17)) E hw hM 17 (by decide) q1370 rfl dX2_shut_65 ?_
    refine lv_iconst (v := (1:Int32)) hx hb dX2_shut_68 (by decide) ?_
    refine lv_isub hx hb dX2_shut_69 ?_
    obtain ⟨B5, e6, h⟩ := qlet_s h
    refine r_putM E hw hM 17 (by decide) q1370 rfl rfl rfl (fun _ _ => rfl) dX2_shut_70 (fun H locs hw => ?_)
    rw [← e6] at hw
    refine lv_aload_n hx hb dX2_shut_73 rfl (lv_at hl 0 rfl) ?_
    obtain ⟨B7, L8, g9, h⟩ := qb2_s h
    refine d_V (As := []) (v0 := none) (w0 := (A, B7, L8, rs)) hG E hw hl (m_X2_nextToken l hG hM  g9) (qM0 hM) rfl (cwV 0 hts (lw_V q1507 q1509 qs61 q140 q1510) rfl rfl rfl ⟨rfl, kd_X2_nextToken⟩ ⟨Nat.le_of_ble_eq_true rfl, Nat.le_of_ble_eq_true rfl⟩) rfl (rest := []) (st1 := []) rfl rfl rfl dX2_shut_74 ⟨Nat.le_of_ble_eq_true rfl, Nat.le_of_ble_eq_true rfl⟩ (fun H locs hw => ?_)
    refine lv_aload_n hx hb dX2_shut_77 rfl (lv_at hl 0 rfl) ?_
    refine lv_bipush (v := (8:Int32)) hx hb dX2_shut_78 (by decide) ?_
    obtain ⟨B10, g11, h⟩ := qb1_s h
    refine d_V (As := [.int (8:Int32)]) (v0 := none) (w0 := (A, B10, L8, rs)) hG E hw hl (m_X2_settle l hG hM  g11) (qM0 hM) rfl (cwV 1 hts (lw_V q1615 q1617 qs80 q140 q1618) rfl rfl rfl ⟨rfl, kd_X2_settle⟩ ⟨Nat.le_of_ble_eq_true rfl, Nat.le_of_ble_eq_true rfl⟩) rfl (rest := []) (st1 := []) rfl rfl rfl dX2_shut_80 ⟨Nat.le_of_ble_eq_true rfl, Nat.le_of_ble_eq_true rfl⟩ (fun H locs hw => ?_)
    have h := Option.some.inj h
    obtain ⟨h1, h2⟩ := Prod.mk.inj h
    exact d_ret E hr hw (by rw [h1, h2]) dX2_shut_83
  · have h := qi_t c h
    refine lv_aload_n hx hb dX2_shut_21 rfl (lv_at hl 0 rfl) ?_
    refine lv_dup hx hb dX2_shut_22 rfl ?_
    refine r_getM (v := .int (B3 1000 19)) E hw hM 19 (by decide) q1372 rfl dX2_shut_23 ?_
    refine lv_iconst (v := (1:Int32)) hx hb dX2_shut_26 (by decide) ?_
    refine lv_isub hx hb dX2_shut_27 ?_
    obtain ⟨B12, e13, h⟩ := qlet_s h
    refine r_putM E hw hM 19 (by decide) q1372 rfl rfl rfl (fun _ _ => rfl) dX2_shut_28 (fun H locs hw => ?_)
    rw [← e13] at hw
    refine lv_aload_n hx hb dX2_shut_31 rfl (lv_at hl 0 rfl) ?_
    refine lv_iconst (v := (3:Int32)) hx hb dX2_shut_32 (by decide) ?_
    refine lv_aload_n hx hb dX2_shut_33 rfl (lv_at hl 0 rfl) ?_
    refine r_getM (v := .ref (K.2.1 1006)) E hw hM 16 (by decide) q1369 rfl dX2_shut_34 ?_
    refine lv_aload_n hx hb dX2_shut_37 rfl (lv_at hl 0 rfl) ?_
    refine r_getM (v := .int (B12 1000 19)) E hw hM 19 (by decide) q1372 rfl dX2_shut_38 ?_
    obtain ⟨z14, h⟩ := qif_s h
    refine r_iald (j := (B12 1000 19).toNatClampNeg) E hw (qi_1006 hM).at (qok_in z14) rfl dX2_shut_41 ?_
    obtain ⟨B15, g16, h⟩ := qb1_s h
    refine d_V (As := [.int (3:Int32), .int (B12 1006 (B12 1000 19).toNatClampNeg)]) (v0 := none) (w0 := (A, B15, L, rs)) hG E hw hl (m_X2_emit l hG hM  g16) (qM0 hM) rfl (cwV 2 hts (lw_V q1619 q1621 qs81 q140 q1622) rfl rfl rfl ⟨rfl, kd_X2_emit⟩ ⟨Nat.le_of_ble_eq_true rfl, Nat.le_of_ble_eq_true rfl⟩) rfl (rest := []) (st1 := []) rfl rfl rfl dX2_shut_42 ⟨Nat.le_of_ble_eq_true rfl, Nat.le_of_ble_eq_true rfl⟩ (fun H locs hw => ?_)
    refine lv_aload_n hx hb dX2_shut_45 rfl (lv_at hl 0 rfl) ?_
    refine r_getM (v := .ref (K.2.1 1005)) E hw hM 15 (by decide) q1368 rfl dX2_shut_46 ?_
    refine lv_aload_n hx hb dX2_shut_49 rfl (lv_at hl 0 rfl) ?_
    refine r_getM (v := .int (B15 1000 17)) E hw hM 17 (by decide) q1370 rfl dX2_shut_50 ?_
    refine lv_iconst (v := (1:Int32)) hx hb dX2_shut_53 (by decide) ?_
    refine lv_isub hx hb dX2_shut_54 ?_
    refine lv_bipush (v := (16:Int32)) hx hb dX2_shut_55 (by decide) ?_
    obtain ⟨z17, h⟩ := qif_s h
    obtain ⟨B18, e19, h⟩ := qlet_s h
    refine r_iastB (j := ((B15 1000 17) - (1:Int32)).toNatClampNeg) E hw (qi_1005 hM) (qok_in z17) rfl dX2_shut_57 (fun H locs hw => ?_)
    rw [← e19] at hw
    refine lv_aload_n hx hb dX2_shut_58 rfl (lv_at hl 0 rfl) ?_
    obtain ⟨B20, L21, g22, h⟩ := qb2_s h
    refine d_V (As := []) (v0 := none) (w0 := (A, B20, L21, rs)) hG E hw hl (m_X2_nextToken l hG hM  g22) (qM0 hM) rfl (cwV 0 hts (lw_V q1507 q1509 qs61 q140 q1510) rfl rfl rfl ⟨rfl, kd_X2_nextToken⟩ ⟨Nat.le_of_ble_eq_true rfl, Nat.le_of_ble_eq_true rfl⟩) rfl (rest := []) (st1 := []) rfl rfl rfl dX2_shut_59 ⟨Nat.le_of_ble_eq_true rfl, Nat.le_of_ble_eq_true rfl⟩ (fun H locs hw => ?_)
    have h := Option.some.inj h
    obtain ⟨h1, h2⟩ := Prod.mk.inj h
    exact d_ret E hr hw (by rw [h1, h2]) dX2_shut_62

theorem m_X2_shut (l : Launch) {K : QK} {G : State → Prop} (hG : QG G) (hM : QMl K) {A : QA} {rs : QX × QM} {x1 : Int32} {B : QA} {L : QL} {Bo : QA} {Lo : QL} (h : f_X2_shut x1 B L = some (Bo, Lo)) : MC l K G yX2_shut (ws_ yX2_shut cX2_shut 2 none) 3 83 0 0 [.ref (K.2.1 1000), .int x1] (A, B, L, rs) (QR none (A, Bo, Lo, rs)) := by
  refine MC.of (by decide) (Nat.le_of_ble_eq_true rfl) (lv := [(0, .ref (K.2.1 1000)), (1, .int x1)]) rfl (fun p e s m below meth c ls E hr hl hw => ?_)
  exact w_X2_shut_0 hG hM E hr _ _ _  h hw hl

def f_X2_behindOne_108 (x2 : Int32) (B : QA) (L : QL) : Option (Int32 × QA × QL) :=
  if x2 = (-1:Int32) then (
  some ((-1:Int32), B, L)) else (
  if (B 1000 9) = (41:Int32) then (
  qb2 (f_X2_shut x2 B L) fun B5 L6 =>
  some ((0:Int32), B5, L6)) else (
  some ((-1:Int32), B, L)))
set_option maxHeartbeats 4000000 in
theorem w_X2_behindOne_108 {p : Program} {l : Launch} {e : Env} {s : State} {m : MethodId} {args : Array Value} {below : List Frame} {meth : Method} {c : Code} {K : QK} {G : State → Prop} {A : QA} {rs : QX × QM} {ro : Int32} {Bo : QA} {Lo : QL} (hG : QG G) (hM : QMl K) (E : EV K G p s m args meth c cX2_behindOne "VaneCourtModel" 3) (hr : meth.sig.returnType = (some .int)) : ∀ (x2 : Int32) (B : QA) (L : QL) {H : Heap} {locs : List Loc} {ls : Array Slot}, f_X2_behindOne_108 x2 B L = some (ro, Bo, Lo) → WP K (A, B, L, rs) H locs → lv_has ls 3 [(0, .ref (K.2.1 1000)), (2, .int x2)] → W p l e (qrm 7 176 0 0) s m args below meth c H locs 0 0 (MQ below (QE K (QR (some (.int ro)) (A, Bo, Lo, rs))) args s 0 0 (qA K)) (F0 m 108 ls []) := by
  have hx := E.1
  have hb := E.2.1
  have hown := E.2.2.1
  have hts := E.2.2.2.2.1
  intro x2 B L H locs ls  h hw hl
  rw [f_X2_behindOne_108] at h
  refine lv_iload_n hx hb dX2_behindOne_108 rfl (lv_at hl 1 rfl) ?_
  refine lv_iconst (v := (-1:Int32)) hx hb dX2_behindOne_109 (by decide) ?_
  refine lv_icmp_eq (tgt := 122) hx hb dX2_behindOne_110 (by decide) (fun c => ?_) (fun c => ?_)
  · have h := qi_t c h
    refine lv_iconst (v := (-1:Int32)) hx hb dX2_behindOne_122 (by decide) ?_
    have h := Option.some.inj h
    obtain ⟨h1, h2⟩ := Prod.mk.inj h
    obtain ⟨h2, h3⟩ := Prod.mk.inj h2
    exact d_iret E hr rfl hw h1 (by rw [h2, h3]) dX2_behindOne_123
  · have h := qi_f c h
    refine lv_aload_n hx hb dX2_behindOne_113 rfl (lv_at hl 0 rfl) ?_
    refine r_getM (v := .int (B 1000 9)) E hw hM 9 (by decide) q1362 rfl dX2_behindOne_114 ?_
    refine lv_bipush (v := (41:Int32)) hx hb dX2_behindOne_117 (by decide) ?_
    refine lv_icmp_eq (tgt := 124) hx hb dX2_behindOne_119 (by decide) (fun c => ?_) (fun c => ?_)
    · have h := qi_t c h
      refine lv_aload_n hx hb dX2_behindOne_124 rfl (lv_at hl 0 rfl) ?_
      refine lv_iload_n hx hb dX2_behindOne_125 rfl (lv_at hl 1 rfl) ?_
      obtain ⟨B5, L6, g7, h⟩ := qb2_s h
      refine d_V (As := [.int x2]) (v0 := none) (w0 := (A, B5, L6, rs)) hG E hw hl (m_X2_shut l hG hM  g7) (qM0 hM) rfl (cwV 1 hts (lw_V q1627 q1629 qs83 q140 q1630) rfl rfl rfl ⟨rfl, kd_X2_shut⟩ ⟨Nat.le_of_ble_eq_true rfl, Nat.le_of_ble_eq_true rfl⟩) rfl (rest := []) (st1 := []) rfl rfl rfl dX2_behindOne_126 ⟨Nat.le_of_ble_eq_true rfl, Nat.le_of_ble_eq_true rfl⟩ (fun H locs hw => ?_)
      refine lv_iconst (v := (0:Int32)) hx hb dX2_behindOne_129 (by decide) ?_
      have h := Option.some.inj h
      obtain ⟨h1, h2⟩ := Prod.mk.inj h
      obtain ⟨h2, h3⟩ := Prod.mk.inj h2
      exact d_iret E hr rfl hw h1 (by rw [h2, h3]) dX2_behindOne_130
    · have h := qi_f c h
      refine lv_iconst (v := (-1:Int32)) hx hb dX2_behindOne_122 (by decide) ?_
      have h := Option.some.inj h
      obtain ⟨h1, h2⟩ := Prod.mk.inj h
      obtain ⟨h2, h3⟩ := Prod.mk.inj h2
      exact d_iret E hr rfl hw h1 (by rw [h2, h3]) dX2_behindOne_123

def f_X2_behindOne_88 (x2 : Int32) (B : QA) (L : QL) : Option (Int32 × QA × QL) :=
  if x2 = (41:Int32) then (
  if (B 1000 9) = (44:Int32) then (
  qb3 (f_X2_nextOfMost B L) fun u8 B9 L10 =>
  some (u8, B9, L10)) else (
  f_X2_behindOne_108 x2 B L)) else (
  f_X2_behindOne_108 x2 B L)
set_option maxHeartbeats 4000000 in
theorem w_X2_behindOne_88 {p : Program} {l : Launch} {e : Env} {s : State} {m : MethodId} {args : Array Value} {below : List Frame} {meth : Method} {c : Code} {K : QK} {G : State → Prop} {A : QA} {rs : QX × QM} {ro : Int32} {Bo : QA} {Lo : QL} (hG : QG G) (hM : QMl K) (E : EV K G p s m args meth c cX2_behindOne "VaneCourtModel" 3) (hr : meth.sig.returnType = (some .int)) : ∀ (x2 : Int32) (B : QA) (L : QL) {H : Heap} {locs : List Loc} {ls : Array Slot}, f_X2_behindOne_88 x2 B L = some (ro, Bo, Lo) → WP K (A, B, L, rs) H locs → lv_has ls 3 [(0, .ref (K.2.1 1000)), (2, .int x2)] → W p l e (qrm 7 176 0 0) s m args below meth c H locs 0 0 (MQ below (QE K (QR (some (.int ro)) (A, Bo, Lo, rs))) args s 0 0 (qA K)) (F0 m 88 ls []) := by
  have hx := E.1
  have hb := E.2.1
  have hown := E.2.2.1
  have hts := E.2.2.2.2.1
  intro x2 B L H locs ls  h hw hl
  rw [f_X2_behindOne_88] at h
  refine lv_iload_n hx hb dX2_behindOne_88 rfl (lv_at hl 1 rfl) ?_
  refine lv_bipush (v := (41:Int32)) hx hb dX2_behindOne_89 (by decide) ?_
  refine lv_icmp_ne (tgt := 108) hx hb dX2_behindOne_91 (by decide) (fun c => ?_) (fun c => ?_)
  · have h := qi_f c h
    exact w_X2_behindOne_108 hG hM E hr  _ _ _   h hw (lv_sub hl [0, 1] rfl)
  · have h := qi_t c h
    refine lv_aload_n hx hb dX2_behindOne_94 rfl (lv_at hl 0 rfl) ?_
    refine r_getM (v := .int (B 1000 9)) E hw hM 9 (by decide) q1362 rfl dX2_behindOne_95 ?_
    refine lv_bipush (v := (44:Int32)) hx hb dX2_behindOne_98 (by decide) ?_
    refine lv_icmp_ne (tgt := 108) hx hb dX2_behindOne_100 (by decide) (fun c => ?_) (fun c => ?_)
    · have h := qi_f c h
      exact w_X2_behindOne_108 hG hM E hr  _ _ _   h hw (lv_sub hl [0, 1] rfl)
    · have h := qi_t c h
      refine lv_aload_n hx hb dX2_behindOne_103 rfl (lv_at hl 0 rfl) ?_
      obtain ⟨u8, B9, L10, g11, h⟩ := qb3_s h
      refine d_V (As := []) (v0 := some (.int u8)) (w0 := (A, B9, L10, rs)) hG E hw hl (m_X2_nextOfMost l hG hM  g11) (qM0 hM) rfl (cwV 0 hts (lw_V q1623 q1625 qs82 q140 q1626) rfl rfl rfl ⟨rfl, kd_X2_nextOfMost⟩ ⟨Nat.le_of_ble_eq_true rfl, Nat.le_of_ble_eq_true rfl⟩) rfl (rest := []) (st1 := [.int u8]) rfl rfl rfl dX2_behindOne_104 ⟨Nat.le_of_ble_eq_true rfl, Nat.le_of_ble_eq_true rfl⟩ (fun H locs hw => ?_)
      have h := Option.some.inj h
      obtain ⟨h1, h2⟩ := Prod.mk.inj h
      obtain ⟨h2, h3⟩ := Prod.mk.inj h2
      exact d_iret E hr rfl hw h1 (by rw [h2, h3]) dX2_behindOne_107

def f_X2_behindOne_53 (s1 : Int32) (s2 : Int32) (B : QA) (L : QL) : Option (Int32 × QA × QL) :=
  qif (qbo (s1 ||| s2)) <|
  qlet (qu B 1000 22 (s1 ||| s2)) fun B24 =>
  qlet (qu B24 1000 20 (0:Int32)) fun B26 =>
  qb2 (f_X2_nextToken B26 L) fun B28 L29 =>
  some ((0:Int32), B28, L29)
set_option maxHeartbeats 4000000 in
theorem w_X2_behindOne_53 {p : Program} {l : Launch} {e : Env} {s : State} {m : MethodId} {args : Array Value} {below : List Frame} {meth : Method} {c : Code} {K : QK} {G : State → Prop} {A : QA} {rs : QX × QM} {ro : Int32} {Bo : QA} {Lo : QL} (hG : QG G) (hM : QMl K) (E : EV K G p s m args meth c cX2_behindOne "VaneCourtModel" 3) (hr : meth.sig.returnType = (some .int)) : ∀ (s1 : Int32) (s2 : Int32) (B : QA) (L : QL) {H : Heap} {locs : List Loc} {ls : Array Slot}, f_X2_behindOne_53 s1 s2 B L = some (ro, Bo, Lo) → WP K (A, B, L, rs) H locs → lv_has ls 3 [(0, .ref (K.2.1 1000))] → W p l e (qrm 7 176 0 0) s m args below meth c H locs 0 0 (MQ below (QE K (QR (some (.int ro)) (A, Bo, Lo, rs))) args s 0 0 (qA K)) (F0 m 53 ls [.int s2, .int s1, .ref (K.2.1 1000)]) := by
  have hx := E.1
  have hb := E.2.1
  have hown := E.2.2.1
  have hts := E.2.2.2.2.1
  intro s1 s2 B L H locs ls  h hw hl
  rw [f_X2_behindOne_53] at h
  refine lv_ior hx hb dX2_behindOne_53 ?_
  obtain ⟨z23, h⟩ := qif_s h
  obtain ⟨B24, e25, h⟩ := qlet_s h
  refine r_putM E hw hM 22 (by decide) q1375 rfl (qbo_n z23) (qbo_f z23) (fun _ _ => rfl) dX2_behindOne_54 (fun H locs hw => ?_)
  rw [← e25] at hw
  refine lv_aload_n hx hb dX2_behindOne_57 rfl (lv_at hl 0 rfl) ?_
  refine lv_iconst (v := (0:Int32)) hx hb dX2_behindOne_58 (by decide) ?_
  obtain ⟨B26, e27, h⟩ := qlet_s h
  refine r_putM E hw hM 20 (by decide) q1373 rfl rfl rfl (fun _ _ => rfl) dX2_behindOne_59 (fun H locs hw => ?_)
  rw [← e27] at hw
  refine lv_aload_n hx hb dX2_behindOne_62 rfl (lv_at hl 0 rfl) ?_
  obtain ⟨B28, L29, g30, h⟩ := qb2_s h
  refine d_V (As := []) (v0 := none) (w0 := (A, B28, L29, rs)) hG E hw hl (m_X2_nextToken l hG hM  g30) (qM0 hM) rfl (cwV 0 hts (lw_V q1507 q1509 qs61 q140 q1510) rfl rfl rfl ⟨rfl, kd_X2_nextToken⟩ ⟨Nat.le_of_ble_eq_true rfl, Nat.le_of_ble_eq_true rfl⟩) rfl (rest := []) (st1 := []) rfl rfl rfl dX2_behindOne_63 ⟨Nat.le_of_ble_eq_true rfl, Nat.le_of_ble_eq_true rfl⟩ (fun H locs hw => ?_)
  refine lv_iconst (v := (0:Int32)) hx hb dX2_behindOne_66 (by decide) ?_
  have h := Option.some.inj h
  obtain ⟨h1, h2⟩ := Prod.mk.inj h
  obtain ⟨h2, h3⟩ := Prod.mk.inj h2
  exact d_iret E hr rfl hw h1 (by rw [h2, h3]) dX2_behindOne_67

def f_X2_behindOne (B : QA) (L : QL) : Option (Int32 × QA × QL) :=
  qb1 (f_X2_betweenOf B L) fun u1 =>
  if u1 < (0:Int32) then (
  qb1 (f_X2_openNow B) fun u3 =>
  if u3 = (41:Int32) then (
  qb1 (f_X2_isCompared B) fun u12 =>
  if u12 = (0:Int32) then (
  some ((-1:Int32), B, L)) else (
  f_X2_behindOne_88 u3 B L)) else (
  f_X2_behindOne_88 u3 B L)) else (
  qb1 (f_X2_rank u1) fun u14 =>
  qb1 (f_X2_settle u14 B) fun B16 =>
  qif (qok (B16 1000 17) 160) <|
  qlet (qu B16 1005 (B16 1000 17).toNatClampNeg u1) fun B19 =>
  qlet (qu B19 1000 17 ((B19 1000 17) + (1:Int32))) fun B21 =>
  if u1 = (23:Int32) then (
  f_X2_behindOne_53 (B21 1000 22) (1:Int32) B21 L) else (
  f_X2_behindOne_53 (B21 1000 22) (0:Int32) B21 L))
set_option maxHeartbeats 4000000 in
theorem w_X2_behindOne_0 {p : Program} {l : Launch} {e : Env} {s : State} {m : MethodId} {args : Array Value} {below : List Frame} {meth : Method} {c : Code} {K : QK} {G : State → Prop} {A : QA} {rs : QX × QM} {ro : Int32} {Bo : QA} {Lo : QL} (hG : QG G) (hM : QMl K) (E : EV K G p s m args meth c cX2_behindOne "VaneCourtModel" 3) (hr : meth.sig.returnType = (some .int)) : ∀ (B : QA) (L : QL) {H : Heap} {locs : List Loc} {ls : Array Slot}, f_X2_behindOne B L = some (ro, Bo, Lo) → WP K (A, B, L, rs) H locs → lv_has ls 3 [(0, .ref (K.2.1 1000))] → W p l e (qrm 7 176 0 0) s m args below meth c H locs 0 0 (MQ below (QE K (QR (some (.int ro)) (A, Bo, Lo, rs))) args s 0 0 (qA K)) (F0 m 0 ls []) := by
  have hx := E.1
  have hb := E.2.1
  have hown := E.2.2.1
  have hts := E.2.2.2.2.1
  intro B L H locs ls  h hw hl
  rw [f_X2_behindOne] at h
  refine lv_aload_n hx hb dX2_behindOne_0 rfl (lv_at hl 0 rfl) ?_
  obtain ⟨u1, g2, h⟩ := qb1_s h
  refine d_V (As := []) (v0 := some (.int u1)) (w0 := (A, B, L, rs)) hG E hw hl (m_X2_betweenOf l hG hM  g2) (qM0 hM) rfl (cwV 0 hts (lw_V q1592 q1594 qs75 q140 q1595) rfl rfl rfl ⟨rfl, kd_X2_betweenOf⟩ ⟨Nat.le_of_ble_eq_true rfl, Nat.le_of_ble_eq_true rfl⟩) rfl (rest := []) (st1 := [.int u1]) rfl rfl rfl dX2_behindOne_1 ⟨Nat.le_of_ble_eq_true rfl, Nat.le_of_ble_eq_true rfl⟩ (fun H locs hw => ?_)
  refine lv_istore_n (lv' := [(1, .int u1), (0, .ref (K.2.1 1000))]) hx hb dX2_behindOne_4 rfl hl (by decide) rfl (fun ls hl => ?_)
  refine lv_iload_n hx hb dX2_behindOne_5 rfl (lv_at hl 0 rfl) ?_
  refine lv_if_lt (tgt := 68) hx hb dX2_behindOne_6 (by decide) (fun c => ?_) (fun c => ?_)
  · have h := qi_t c h
    refine lv_aload_n hx hb dX2_behindOne_68 rfl (lv_at hl 1 rfl) ?_
    obtain ⟨u3, g4, h⟩ := qb1_s h
    refine d_V (As := []) (v0 := some (.int u3)) (w0 := (A, B, L, rs)) hG E hw hl (m_X2_openNow l hG hM  g4) (qM0 hM) rfl (cwV 0 hts (lw_V q1600 q1602 qs77 q140 q1603) rfl rfl rfl ⟨rfl, kd_X2_openNow⟩ ⟨Nat.le_of_ble_eq_true rfl, Nat.le_of_ble_eq_true rfl⟩) rfl (rest := []) (st1 := [.int u3]) rfl rfl rfl dX2_behindOne_69 ⟨Nat.le_of_ble_eq_true rfl, Nat.le_of_ble_eq_true rfl⟩ (fun H locs hw => ?_)
    refine lv_istore_n (lv' := [(2, .int u3), (1, .int u1), (0, .ref (K.2.1 1000))]) hx hb dX2_behindOne_72 rfl hl (by decide) rfl (fun ls hl => ?_)
    refine lv_iload_n hx hb dX2_behindOne_73 rfl (lv_at hl 0 rfl) ?_
    refine lv_bipush (v := (41:Int32)) hx hb dX2_behindOne_74 (by decide) ?_
    refine lv_icmp_ne (tgt := 88) hx hb dX2_behindOne_76 (by decide) (fun c => ?_) (fun c => ?_)
    · have h := qi_f c h
      exact w_X2_behindOne_88 hG hM E hr  _ _ _   h hw (lv_sub hl [2, 0] rfl)
    · have h := qi_t c h
      refine lv_aload_n hx hb dX2_behindOne_79 rfl (lv_at hl 2 rfl) ?_
      obtain ⟨u12, g13, h⟩ := qb1_s h
      refine d_V (As := []) (v0 := some (.int u12)) (w0 := (A, B, L, rs)) hG E hw hl (m_X2_isCompared l hG hM  g13) (qM0 hM) rfl (cwV 0 hts (lw_V q1604 q1606 qs78 q140 q1607) rfl rfl rfl ⟨rfl, kd_X2_isCompared⟩ ⟨Nat.le_of_ble_eq_true rfl, Nat.le_of_ble_eq_true rfl⟩) rfl (rest := []) (st1 := [.int u12]) rfl rfl rfl dX2_behindOne_80 ⟨Nat.le_of_ble_eq_true rfl, Nat.le_of_ble_eq_true rfl⟩ (fun H locs hw => ?_)
      refine lv_if_ne (tgt := 88) hx hb dX2_behindOne_83 (by decide) (fun c => ?_) (fun c => ?_)
      · have h := qi_f c h
        exact w_X2_behindOne_88 hG hM E hr  _ _ _   h hw (lv_sub hl [2, 0] rfl)
      · have h := qi_t c h
        refine lv_iconst (v := (-1:Int32)) hx hb dX2_behindOne_86 (by decide) ?_
        have h := Option.some.inj h
        obtain ⟨h1, h2⟩ := Prod.mk.inj h
        obtain ⟨h2, h3⟩ := Prod.mk.inj h2
        exact d_iret E hr rfl hw h1 (by rw [h2, h3]) dX2_behindOne_87
  · have h := qi_f c h
    refine lv_aload_n hx hb dX2_behindOne_9 rfl (lv_at hl 1 rfl) ?_
    refine lv_iload_n hx hb dX2_behindOne_10 rfl (lv_at hl 0 rfl) ?_
    obtain ⟨u14, g15, h⟩ := qb1_s h
    refine d_S (As := [.int u1]) (v0 := some (.int u14)) (w0 := (A, B, L, rs)) hG E hw hl (m_X2_rank l hG hM  g15) (va_cwS 1 hts (lw_S q1608 q1609 q140 q1610) rfl rfl rfl kd_X2_rank ⟨Nat.le_of_ble_eq_true rfl, Nat.le_of_ble_eq_true rfl⟩) rfl (rest := [.ref (K.2.1 1000)]) (st1 := [.int u14, .ref (K.2.1 1000)]) rfl rfl rfl dX2_behindOne_11 ⟨Nat.le_of_ble_eq_true rfl, Nat.le_of_ble_eq_true rfl⟩ (fun H locs hw => ?_)
    obtain ⟨B16, g17, h⟩ := qb1_s h
    refine d_V (As := [.int u14]) (v0 := none) (w0 := (A, B16, L, rs)) hG E hw hl (m_X2_settle l hG hM  g17) (qM0 hM) rfl (cwV 1 hts (lw_V q1615 q1617 qs80 q140 q1618) rfl rfl rfl ⟨rfl, kd_X2_settle⟩ ⟨Nat.le_of_ble_eq_true rfl, Nat.le_of_ble_eq_true rfl⟩) rfl (rest := []) (st1 := []) rfl rfl rfl dX2_behindOne_14 ⟨Nat.le_of_ble_eq_true rfl, Nat.le_of_ble_eq_true rfl⟩ (fun H locs hw => ?_)
    refine lv_aload_n hx hb dX2_behindOne_17 rfl (lv_at hl 1 rfl) ?_
    refine r_getM (v := .ref (K.2.1 1005)) E hw hM 15 (by decide) q1368 rfl dX2_behindOne_18 ?_
    refine lv_aload_n hx hb dX2_behindOne_21 rfl (lv_at hl 1 rfl) ?_
    refine r_getM (v := .int (B16 1000 17)) E hw hM 17 (by decide) q1370 rfl dX2_behindOne_22 ?_
    refine lv_iload_n hx hb dX2_behindOne_25 rfl (lv_at hl 0 rfl) ?_
    obtain ⟨z18, h⟩ := qif_s h
    obtain ⟨B19, e20, h⟩ := qlet_s h
    refine r_iastB (j := (B16 1000 17).toNatClampNeg) E hw (qi_1005 hM) (qok_in z18) rfl dX2_behindOne_26 (fun H locs hw => ?_)
    rw [← e20] at hw
    refine lv_aload_n hx hb dX2_behindOne_27 rfl (lv_at hl 1 rfl) ?_
    refine lv_dup hx hb dX2_behindOne_28 rfl ?_
    refine r_getM (v := .int (B19 1000 17)) E hw hM 17 (by decide) q1370 rfl dX2_behindOne_29 ?_
    refine lv_iconst (v := (1:Int32)) hx hb dX2_behindOne_32 (by decide) ?_
    refine lv_iadd hx hb dX2_behindOne_33 ?_
    obtain ⟨B21, e22, h⟩ := qlet_s h
    refine r_putM E hw hM 17 (by decide) q1370 rfl rfl rfl (fun _ _ => rfl) dX2_behindOne_34 (fun H locs hw => ?_)
    rw [← e22] at hw
    refine lv_aload_n hx hb dX2_behindOne_37 rfl (lv_at hl 1 rfl) ?_
    refine lv_dup hx hb dX2_behindOne_38 rfl ?_
    refine r_getM (v := .int (B21 1000 22)) E hw hM 22 (by decide) q1375 rfl dX2_behindOne_39 ?_
    refine lv_iload_n hx hb dX2_behindOne_42 rfl (lv_at hl 0 rfl) ?_
    refine lv_bipush (v := (23:Int32)) hx hb dX2_behindOne_43 (by decide) ?_
    refine lv_icmp_ne (tgt := 52) hx hb dX2_behindOne_45 (by decide) (fun c => ?_) (fun c => ?_)
    · have h := qi_f c h
      refine lv_iconst (v := (0:Int32)) hx hb dX2_behindOne_52 (by decide) ?_
      exact w_X2_behindOne_53 hG hM E hr  _ _ _ _   h hw (lv_sub hl [1] rfl)
    · have h := qi_t c h
      refine lv_iconst (v := (1:Int32)) hx hb dX2_behindOne_48 (by decide) ?_
      refine lv_goto (tgt := 53) hx hb dX2_behindOne_49 (by decide) ?_
      exact w_X2_behindOne_53 hG hM E hr  _ _ _ _   h hw (lv_sub hl [1] rfl)

theorem m_X2_behindOne (l : Launch) {K : QK} {G : State → Prop} (hG : QG G) (hM : QMl K) {A : QA} {rs : QX × QM} {B : QA} {L : QL} {ro : Int32} {Bo : QA} {Lo : QL} (h : f_X2_behindOne B L = some (ro, Bo, Lo)) : MC l K G yX2_behindOne (ws_ yX2_behindOne cX2_behindOne 3 (some .int)) 7 176 0 0 [.ref (K.2.1 1000)] (A, B, L, rs) (QR (some (.int ro)) (A, Bo, Lo, rs)) := by
  refine MC.of (by decide) (Nat.le_of_ble_eq_true rfl) (lv := [(0, .ref (K.2.1 1000))]) rfl (fun p e s m below meth c ls E hr hl hw => ?_)
  exact w_X2_behindOne_0 hG hM E hr _ _  h hw hl
