/-! written by dc.py: X0_in X0_put X0_feed X0_end X0_fault X0_isText X0_by X1_keeps X0_has X0_names_2 X0_names J14_bitCount X0_held X0_writes X0_leaves X0_draws X0_draw X0_isCase X0_waits X0_canCall X0_calls X0_call X0_canDelay X0_delay X0_canAppeal X0_appeals X0_appeal X0_gust X0_withdraws X0_withdraw X0_undo X0_ofCase X0_is X0_book X0_tens X0_common X0_plays X0_finds X0_isCode X0_codes X0_findBy X0_sure X0_toBring X0_sumOf X0_hired X0_about -/
set_option maxRecDepth 100000
theorem kd_X0_appeals : yX0_appeals.cls ≠ "java/lang/invoke/MethodHandle" ∧ yX0_appeals.cls ≠ "java/lang/invoke/VarHandle" ∧ (parseMethodDescriptor yX0_appeals.desc).map (fun d => d.parameters.length) = some 1 := by decide +kernel
theorem kd_X0_calls : yX0_calls.cls ≠ "java/lang/invoke/MethodHandle" ∧ yX0_calls.cls ≠ "java/lang/invoke/VarHandle" ∧ (parseMethodDescriptor yX0_calls.desc).map (fun d => d.parameters.length) = some 2 := by decide +kernel
theorem kd_X0_canAppeal : yX0_canAppeal.cls ≠ "java/lang/invoke/MethodHandle" ∧ yX0_canAppeal.cls ≠ "java/lang/invoke/VarHandle" ∧ (parseMethodDescriptor yX0_canAppeal.desc).map (fun d => d.parameters.length) = some 1 := by decide +kernel
theorem kd_X0_canCall : yX0_canCall.cls ≠ "java/lang/invoke/MethodHandle" ∧ yX0_canCall.cls ≠ "java/lang/invoke/VarHandle" ∧ (parseMethodDescriptor yX0_canCall.desc).map (fun d => d.parameters.length) = some 1 := by decide +kernel
theorem kd_X0_canDelay : yX0_canDelay.cls ≠ "java/lang/invoke/MethodHandle" ∧ yX0_canDelay.cls ≠ "java/lang/invoke/VarHandle" ∧ (parseMethodDescriptor yX0_canDelay.desc).map (fun d => d.parameters.length) = some 0 := by decide +kernel
theorem kd_X0_codes : yX0_codes.cls ≠ "java/lang/invoke/MethodHandle" ∧ yX0_codes.cls ≠ "java/lang/invoke/VarHandle" ∧ (parseMethodDescriptor yX0_codes.desc).map (fun d => d.parameters.length) = some 1 := by decide +kernel
theorem kd_X0_common : yX0_common.cls ≠ "java/lang/invoke/MethodHandle" ∧ yX0_common.cls ≠ "java/lang/invoke/VarHandle" ∧ (parseMethodDescriptor yX0_common.desc).map (fun d => d.parameters.length) = some 2 := by decide +kernel
theorem kd_X0_draws : yX0_draws.cls ≠ "java/lang/invoke/MethodHandle" ∧ yX0_draws.cls ≠ "java/lang/invoke/VarHandle" ∧ (parseMethodDescriptor yX0_draws.desc).map (fun d => d.parameters.length) = some 1 := by decide +kernel
theorem kd_X0_findBy : yX0_findBy.cls ≠ "java/lang/invoke/MethodHandle" ∧ yX0_findBy.cls ≠ "java/lang/invoke/VarHandle" ∧ (parseMethodDescriptor yX0_findBy.desc).map (fun d => d.parameters.length) = some 1 := by decide +kernel
theorem kd_X0_finds : yX0_finds.cls ≠ "java/lang/invoke/MethodHandle" ∧ yX0_finds.cls ≠ "java/lang/invoke/VarHandle" ∧ (parseMethodDescriptor yX0_finds.desc).map (fun d => d.parameters.length) = some 2 := by decide +kernel
theorem kd_X0_has : yX0_has.cls ≠ "java/lang/invoke/MethodHandle" ∧ yX0_has.cls ≠ "java/lang/invoke/VarHandle" ∧ (parseMethodDescriptor yX0_has.desc).map (fun d => d.parameters.length) = some 2 := by decide +kernel
theorem kd_X0_in : yX0_in.cls ≠ "java/lang/invoke/MethodHandle" ∧ yX0_in.cls ≠ "java/lang/invoke/VarHandle" ∧ (parseMethodDescriptor yX0_in.desc).map (fun d => d.parameters.length) = some 3 := by decide +kernel
theorem kd_X0_isCase : yX0_isCase.cls ≠ "java/lang/invoke/MethodHandle" ∧ yX0_isCase.cls ≠ "java/lang/invoke/VarHandle" ∧ (parseMethodDescriptor yX0_isCase.desc).map (fun d => d.parameters.length) = some 1 := by decide +kernel
theorem kd_X0_isCode : yX0_isCode.cls ≠ "java/lang/invoke/MethodHandle" ∧ yX0_isCode.cls ≠ "java/lang/invoke/VarHandle" ∧ (parseMethodDescriptor yX0_isCode.desc).map (fun d => d.parameters.length) = some 1 := by decide +kernel
theorem kd_X0_isText : yX0_isText.cls ≠ "java/lang/invoke/MethodHandle" ∧ yX0_isText.cls ≠ "java/lang/invoke/VarHandle" ∧ (parseMethodDescriptor yX0_isText.desc).map (fun d => d.parameters.length) = some 1 := by decide +kernel
theorem kd_X0_leaves : yX0_leaves.cls ≠ "java/lang/invoke/MethodHandle" ∧ yX0_leaves.cls ≠ "java/lang/invoke/VarHandle" ∧ (parseMethodDescriptor yX0_leaves.desc).map (fun d => d.parameters.length) = some 1 := by decide +kernel
theorem kd_X0_names_2 : yX0_names_2.cls ≠ "java/lang/invoke/MethodHandle" ∧ yX0_names_2.cls ≠ "java/lang/invoke/VarHandle" ∧ (parseMethodDescriptor yX0_names_2.desc).map (fun d => d.parameters.length) = some 2 := by decide +kernel
theorem kd_X0_plays : yX0_plays.cls ≠ "java/lang/invoke/MethodHandle" ∧ yX0_plays.cls ≠ "java/lang/invoke/VarHandle" ∧ (parseMethodDescriptor yX0_plays.desc).map (fun d => d.parameters.length) = some 3 := by decide +kernel
theorem kd_X0_put : yX0_put.cls ≠ "java/lang/invoke/MethodHandle" ∧ yX0_put.cls ≠ "java/lang/invoke/VarHandle" ∧ (parseMethodDescriptor yX0_put.desc).map (fun d => d.parameters.length) = some 1 := by decide +kernel
theorem kd_X0_sumOf : yX0_sumOf.cls ≠ "java/lang/invoke/MethodHandle" ∧ yX0_sumOf.cls ≠ "java/lang/invoke/VarHandle" ∧ (parseMethodDescriptor yX0_sumOf.desc).map (fun d => d.parameters.length) = some 2 := by decide +kernel
theorem kd_X0_tens : yX0_tens.cls ≠ "java/lang/invoke/MethodHandle" ∧ yX0_tens.cls ≠ "java/lang/invoke/VarHandle" ∧ (parseMethodDescriptor yX0_tens.desc).map (fun d => d.parameters.length) = some 1 := by decide +kernel
theorem kd_X0_waits : yX0_waits.cls ≠ "java/lang/invoke/MethodHandle" ∧ yX0_waits.cls ≠ "java/lang/invoke/VarHandle" ∧ (parseMethodDescriptor yX0_waits.desc).map (fun d => d.parameters.length) = some 1 := by decide +kernel
theorem kd_X0_withdraws : yX0_withdraws.cls ≠ "java/lang/invoke/MethodHandle" ∧ yX0_withdraws.cls ≠ "java/lang/invoke/VarHandle" ∧ (parseMethodDescriptor yX0_withdraws.desc).map (fun d => d.parameters.length) = some 1 := by decide +kernel
theorem kd_X1_keeps : yX1_keeps.cls ≠ "java/lang/invoke/MethodHandle" ∧ yX1_keeps.cls ≠ "java/lang/invoke/VarHandle" ∧ (parseMethodDescriptor yX1_keeps.desc).map (fun d => d.parameters.length) = some 0 := by decide +kernel
def f_X0_in (x0 : Int32) (x1 : Int32) (x2 : Int32) : Option (Int32) :=
  if x0 < x1 then (
  some ((0:Int32))) else (
  if x2 < x0 then (
  some ((0:Int32))) else (
  some ((1:Int32))))
set_option maxHeartbeats 4000000 in
theorem w_X0_in_0 {p : Program} {l : Launch} {e : Env} {s : State} {m : MethodId} {args : Array Value} {below : List Frame} {meth : Method} {c : Code} {K : QK} {G : State → Prop} {rs : QA × QL × QX × QM} {A : QA} {ro : Int32} (hG : QG G) (hC : QCl K) (E : EV K G p s m args meth c cX0_in "VaneCourt" 3) (hr : meth.sig.returnType = (some .boolean)) : ∀ (x0 : Int32) (x1 : Int32) (x2 : Int32) {H : Heap} {locs : List Loc} {ls : Array Slot}, f_X0_in x0 x1 x2 = some ro → WP K (A, rs) H locs → lv_has ls 3 [(0, .int x0), (1, .int x1), (2, .int x2)] → W p l e (qrm 1 40 0 0) s m args below meth c H locs 0 0 (MQ below (QE K (QR (some (.int ro)) (A, rs))) args s 0 0 (qA K)) (F0 m 0 ls []) := by
  have hx := E.1
  have hb := E.2.1
  have hown := E.2.2.1
  have hts := E.2.2.2.2.1
  intro x0 x1 x2 H locs ls  h hw hl
  rw [f_X0_in] at h
  refine lv_iload_n hx hb dX0_in_0 rfl (lv_at hl 0 rfl) ?_
  refine lv_iload_n hx hb dX0_in_1 rfl (lv_at hl 1 rfl) ?_
  refine lv_icmp_lt (tgt := 14) hx hb dX0_in_2 (by decide) (fun c => ?_) (fun c => ?_)
  · have h := qi_t c h
    refine lv_iconst (v := (0:Int32)) hx hb dX0_in_14 (by decide) ?_
    have h := Option.some.inj h
    have h1 := h
    exact d_iret E hr rfl hw h1 rfl dX0_in_15
  · have h := qi_f c h
    refine lv_iload_n hx hb dX0_in_5 rfl (lv_at hl 0 rfl) ?_
    refine lv_iload_n hx hb dX0_in_6 rfl (lv_at hl 2 rfl) ?_
    refine lv_icmp_gt (tgt := 14) hx hb dX0_in_7 (by decide) (fun c => ?_) (fun c => ?_)
    · have h := qi_t c h
      refine lv_iconst (v := (0:Int32)) hx hb dX0_in_14 (by decide) ?_
      have h := Option.some.inj h
      have h1 := h
      exact d_iret E hr rfl hw h1 rfl dX0_in_15
    · have h := qi_f c h
      refine lv_iconst (v := (1:Int32)) hx hb dX0_in_10 (by decide) ?_
      refine lv_goto (tgt := 15) hx hb dX0_in_11 (by decide) ?_
      have h := Option.some.inj h
      have h1 := h
      exact d_iret E hr rfl hw h1 rfl dX0_in_15

theorem m_X0_in (l : Launch) {K : QK} {G : State → Prop} (hG : QG G) (hC : QCl K) {rs : QA × QL × QX × QM} {A : QA} {x0 : Int32} {x1 : Int32} {x2 : Int32} {ro : Int32} (h : f_X0_in x0 x1 x2 = some ro) : MC l K G yX0_in (ws_ yX0_in cX0_in 3 (some .boolean)) 1 40 0 0 [.int x0, .int x1, .int x2] (A, rs) (QR (some (.int ro)) (A, rs)) := by
  refine MC.of (by decide) (Nat.le_of_ble_eq_true rfl) (lv := [(0, .int x0), (1, .int x1), (2, .int x2)]) rfl (fun p e s m below meth c ls E hr hl hw => ?_)
  exact w_X0_in_0 hG hC E hr _ _ _  h hw hl

def f_X0_put_3 : Nat → Int32 → Int32 → QA → Option (QA)
  | 0, _, _, _ => none
  | n + 1, x1, x2, A => if x2 < (0:Int32) then (
  some (A)) else (
  qif (qok (A 0 3) 300) <|
  qlet (qu A 3 (A 0 3).toNatClampNeg (((x1 >>> (x2 &&& 31))).toInt8.toInt32).toInt8.toInt32) fun A2 =>
  qlet (qu A2 0 3 ((A2 0 3) + (1:Int32))) fun A4 =>
  qlet (x2 + (-8:Int32)) fun x2_6 =>
  f_X0_put_3 n x1 x2_6 A4)
set_option maxHeartbeats 4000000 in
theorem w_X0_put_3 {p : Program} {l : Launch} {e : Env} {s : State} {m : MethodId} {args : Array Value} {below : List Frame} {meth : Method} {c : Code} {K : QK} {G : State → Prop} {rs : QA × QL × QX × QM} {Ao : QA} (hG : QG G) (hC : QCl K) (E : EV K G p s m args meth c cX0_put "VaneCourt" 3) (hr : meth.sig.returnType = none) : ∀ (n : Nat) (x1 : Int32) (x2 : Int32) (A : QA) {H : Heap} {locs : List Loc} {ls : Array Slot}, f_X0_put_3 n x1 x2 A = some Ao → WP K (A, rs) H locs → lv_has ls 3 [(0, .ref (K.2.1 0)), (1, .int x1), (2, .int x2)] → W p l e (qrm 1 40 0 0) s m args below meth c H locs 0 0 (MQ below (QE K (QR none (Ao, rs))) args s 0 0 (qA K)) (F0 m 3 ls []) := by
  have hx := E.1
  have hb := E.2.1
  have hown := E.2.2.1
  have hts := E.2.2.2.2.1
  intro n
  induction n with
  | zero =>
    intro x1 x2 A H locs ls  h hw hl
    cases h
  | succ n ih =>
    intro x1 x2 A H locs ls  h hw hl
    rw [f_X0_put_3] at h
    refine lv_iload_n hx hb dX0_put_3 rfl (lv_at hl 2 rfl) ?_
    refine lv_if_lt (tgt := 36) hx hb dX0_put_4 (by decide) (fun c => ?_) (fun c => ?_)
    · have h := qi_t c h
      have h := Option.some.inj h
      have h1 := h
      exact d_ret E hr hw (by rw [h1]) dX0_put_36
    · have h := qi_f c h
      refine lv_aload_n hx hb dX0_put_7 rfl (lv_at hl 0 rfl) ?_
      refine r_getX (v := .ref (K.2.1 3)) E hw hC 2 (by decide) q240 rfl dX0_put_8 ?_
      refine lv_aload_n hx hb dX0_put_11 rfl (lv_at hl 0 rfl) ?_
      refine r_getX (v := .int (A 0 3)) E hw hC 3 (by decide) q241 rfl dX0_put_12 ?_
      refine lv_iload_n hx hb dX0_put_15 rfl (lv_at hl 1 rfl) ?_
      refine lv_iload_n hx hb dX0_put_16 rfl (lv_at hl 2 rfl) ?_
      refine lv_ishr hx hb dX0_put_17 ?_
      refine lv_i2b hx hb dX0_put_18 rfl ?_
      obtain ⟨z1, h⟩ := qif_s h
      obtain ⟨A2, e3, h⟩ := qlet_s h
      refine r_bastA (j := (A 0 3).toNatClampNeg) E hw (qi_tape hC) (qok_in z1) rfl dX0_put_19 (fun H locs hw => ?_)
      rw [← e3] at hw
      refine lv_aload_n hx hb dX0_put_20 rfl (lv_at hl 0 rfl) ?_
      refine lv_dup hx hb dX0_put_21 rfl ?_
      refine r_getX (v := .int (A2 0 3)) E hw hC 3 (by decide) q241 rfl dX0_put_22 ?_
      refine lv_iconst (v := (1:Int32)) hx hb dX0_put_25 (by decide) ?_
      refine lv_iadd hx hb dX0_put_26 ?_
      obtain ⟨A4, e5, h⟩ := qlet_s h
      refine r_putX E hw hC 3 (by decide) q241 rfl rfl (fun _ => rfl) dX0_put_27 (fun H locs hw => ?_)
      rw [← e5] at hw
      obtain ⟨x2_6, e7, h⟩ := qlet_s h
      refine lv_iinc (v := x2_6) (lv' := [(2, .int x2_6), (0, .ref (K.2.1 0)), (1, .int x1)]) (k := 2) hx hb dX0_put_30 hl rfl (by rw [e7]; rfl) (by decide) rfl (fun ls hl => ?_)
      refine lv_goto (tgt := 3) hx hb dX0_put_33 (by decide) ?_
      exact ih _ _ _  h hw (lv_sub hl [1, 2, 0] rfl)

def f_X0_put (x1 : Int32) (A : QA) : Option (QA) :=
  f_X0_put_3 FU x1 (24:Int32) A
set_option maxHeartbeats 4000000 in
theorem w_X0_put_0 {p : Program} {l : Launch} {e : Env} {s : State} {m : MethodId} {args : Array Value} {below : List Frame} {meth : Method} {c : Code} {K : QK} {G : State → Prop} {rs : QA × QL × QX × QM} {Ao : QA} (hG : QG G) (hC : QCl K) (E : EV K G p s m args meth c cX0_put "VaneCourt" 3) (hr : meth.sig.returnType = none) : ∀ (x1 : Int32) (A : QA) {H : Heap} {locs : List Loc} {ls : Array Slot}, f_X0_put x1 A = some Ao → WP K (A, rs) H locs → lv_has ls 3 [(0, .ref (K.2.1 0)), (1, .int x1)] → W p l e (qrm 1 40 0 0) s m args below meth c H locs 0 0 (MQ below (QE K (QR none (Ao, rs))) args s 0 0 (qA K)) (F0 m 0 ls []) := by
  have hx := E.1
  have hb := E.2.1
  have hown := E.2.2.1
  have hts := E.2.2.2.2.1
  intro x1 A H locs ls  h hw hl
  rw [f_X0_put] at h
  refine lv_bipush (v := (24:Int32)) hx hb dX0_put_0 (by decide) ?_
  refine lv_istore_n (lv' := [(2, .int (24:Int32)), (0, .ref (K.2.1 0)), (1, .int x1)]) hx hb dX0_put_2 rfl hl (by decide) rfl (fun ls hl => ?_)
  exact w_X0_put_3 hG hC E hr  _ _ _ _   h hw (lv_sub hl [1, 2, 0] rfl)

theorem m_X0_put (l : Launch) {K : QK} {G : State → Prop} (hG : QG G) (hC : QCl K) {rs : QA × QL × QX × QM} {x1 : Int32} {A : QA} {Ao : QA} (h : f_X0_put x1 A = some Ao) : MC l K G yX0_put (ws_ yX0_put cX0_put 3 none) 1 40 0 0 [.ref (K.2.1 0), .int x1] (A, rs) (QR none (Ao, rs)) := by
  refine MC.of (by decide) (Nat.le_of_ble_eq_true rfl) (lv := [(0, .ref (K.2.1 0)), (1, .int x1)]) rfl (fun p e s m below meth c ls E hr hl hw => ?_)
  exact w_X0_put_0 hG hC E hr _ _  h hw hl

def f_X0_feed (x1 : Int32) (x2 : Int32) (x3 : Int32) (x4 : Int32) (x5 : Int32) (A : QA) : Option (Int32 × QA) :=
  if ((A 0 3) + (20:Int32)) ≤ (300:Int32) then (
  qb1 (f_X0_put x1 A) fun A1 =>
  qb1 (f_X0_put x2 A1) fun A3 =>
  qb1 (f_X0_put x3 A3) fun A5 =>
  qb1 (f_X0_put x4 A5) fun A7 =>
  qb1 (f_X0_put x5 A7) fun A9 =>
  some ((A9 0 3), A9)) else (
  some ((-1:Int32), A))
set_option maxHeartbeats 4000000 in
theorem w_X0_feed_0 {p : Program} {l : Launch} {e : Env} {s : State} {m : MethodId} {args : Array Value} {below : List Frame} {meth : Method} {c : Code} {K : QK} {G : State → Prop} {rs : QA × QL × QX × QM} {ro : Int32} {Ao : QA} (hG : QG G) (hC : QCl K) (E : EV K G p s m args meth c cX0_feed "VaneCourt" 6) (hr : meth.sig.returnType = (some .int)) : ∀ (x1 : Int32) (x2 : Int32) (x3 : Int32) (x4 : Int32) (x5 : Int32) (A : QA) {H : Heap} {locs : List Loc} {ls : Array Slot}, f_X0_feed x1 x2 x3 x4 x5 A = some (ro, Ao) → WP K (A, rs) H locs → lv_has ls 6 [(0, .ref (K.2.1 0)), (1, .int x1), (2, .int x2), (3, .int x3), (4, .int x4), (5, .int x5)] → W p l e (qrm 2 62 0 0) s m args below meth c H locs 0 0 (MQ below (QE K (QR (some (.int ro)) (Ao, rs))) args s 0 0 (qA K)) (F0 m 0 ls []) := by
  have hx := E.1
  have hb := E.2.1
  have hown := E.2.2.1
  have hts := E.2.2.2.2.1
  intro x1 x2 x3 x4 x5 A H locs ls  h hw hl
  rw [f_X0_feed] at h
  refine lv_aload_n hx hb dX0_feed_0 rfl (lv_at hl 0 rfl) ?_
  refine r_getX (v := .int (A 0 3)) E hw hC 3 (by decide) q241 rfl dX0_feed_1 ?_
  refine lv_bipush (v := (20:Int32)) hx hb dX0_feed_4 (by decide) ?_
  refine lv_iadd hx hb dX0_feed_6 ?_
  refine lv_sipush (v := (300:Int32)) hx hb dX0_feed_7 (by decide) ?_
  refine lv_icmp_le (tgt := 15) hx hb dX0_feed_10 (by decide) (fun c => ?_) (fun c => ?_)
  · have h := qi_t c h
    refine lv_aload_n hx hb dX0_feed_15 rfl (lv_at hl 0 rfl) ?_
    refine lv_iload_n hx hb dX0_feed_16 rfl (lv_at hl 1 rfl) ?_
    obtain ⟨A1, g2, h⟩ := qb1_s h
    refine d_V (As := [.int x1]) (v0 := none) (w0 := (A1, rs)) hG E hw hl (m_X0_put l hG hC  g2) (qX0 hC) rfl (cwV 1 hts (lw_V q294 q296 qs0 q137 q297) rfl rfl rfl ⟨rfl, kd_X0_put⟩ ⟨Nat.le_of_ble_eq_true rfl, Nat.le_of_ble_eq_true rfl⟩) rfl (rest := []) (st1 := []) rfl rfl rfl dX0_feed_17 ⟨Nat.le_of_ble_eq_true rfl, Nat.le_of_ble_eq_true rfl⟩ (fun H locs hw => ?_)
    refine lv_aload_n hx hb dX0_feed_20 rfl (lv_at hl 0 rfl) ?_
    refine lv_iload_n hx hb dX0_feed_21 rfl (lv_at hl 2 rfl) ?_
    obtain ⟨A3, g4, h⟩ := qb1_s h
    refine d_V (As := [.int x2]) (v0 := none) (w0 := (A3, rs)) hG E hw hl (m_X0_put l hG hC  g4) (qX0 hC) rfl (cwV 1 hts (lw_V q294 q296 qs0 q137 q297) rfl rfl rfl ⟨rfl, kd_X0_put⟩ ⟨Nat.le_of_ble_eq_true rfl, Nat.le_of_ble_eq_true rfl⟩) rfl (rest := []) (st1 := []) rfl rfl rfl dX0_feed_22 ⟨Nat.le_of_ble_eq_true rfl, Nat.le_of_ble_eq_true rfl⟩ (fun H locs hw => ?_)
    refine lv_aload_n hx hb dX0_feed_25 rfl (lv_at hl 0 rfl) ?_
    refine lv_iload_n hx hb dX0_feed_26 rfl (lv_at hl 3 rfl) ?_
    obtain ⟨A5, g6, h⟩ := qb1_s h
    refine d_V (As := [.int x3]) (v0 := none) (w0 := (A5, rs)) hG E hw hl (m_X0_put l hG hC  g6) (qX0 hC) rfl (cwV 1 hts (lw_V q294 q296 qs0 q137 q297) rfl rfl rfl ⟨rfl, kd_X0_put⟩ ⟨Nat.le_of_ble_eq_true rfl, Nat.le_of_ble_eq_true rfl⟩) rfl (rest := []) (st1 := []) rfl rfl rfl dX0_feed_27 ⟨Nat.le_of_ble_eq_true rfl, Nat.le_of_ble_eq_true rfl⟩ (fun H locs hw => ?_)
    refine lv_aload_n hx hb dX0_feed_30 rfl (lv_at hl 0 rfl) ?_
    refine lv_iload hx hb dX0_feed_31 (lv_at hl 4 rfl) ?_
    obtain ⟨A7, g8, h⟩ := qb1_s h
    refine d_V (As := [.int x4]) (v0 := none) (w0 := (A7, rs)) hG E hw hl (m_X0_put l hG hC  g8) (qX0 hC) rfl (cwV 1 hts (lw_V q294 q296 qs0 q137 q297) rfl rfl rfl ⟨rfl, kd_X0_put⟩ ⟨Nat.le_of_ble_eq_true rfl, Nat.le_of_ble_eq_true rfl⟩) rfl (rest := []) (st1 := []) rfl rfl rfl dX0_feed_33 ⟨Nat.le_of_ble_eq_true rfl, Nat.le_of_ble_eq_true rfl⟩ (fun H locs hw => ?_)
    refine lv_aload_n hx hb dX0_feed_36 rfl (lv_at hl 0 rfl) ?_
    refine lv_iload hx hb dX0_feed_37 (lv_at hl 5 rfl) ?_
    obtain ⟨A9, g10, h⟩ := qb1_s h
    refine d_V (As := [.int x5]) (v0 := none) (w0 := (A9, rs)) hG E hw hl (m_X0_put l hG hC  g10) (qX0 hC) rfl (cwV 1 hts (lw_V q294 q296 qs0 q137 q297) rfl rfl rfl ⟨rfl, kd_X0_put⟩ ⟨Nat.le_of_ble_eq_true rfl, Nat.le_of_ble_eq_true rfl⟩) rfl (rest := []) (st1 := []) rfl rfl rfl dX0_feed_39 ⟨Nat.le_of_ble_eq_true rfl, Nat.le_of_ble_eq_true rfl⟩ (fun H locs hw => ?_)
    refine lv_aload_n hx hb dX0_feed_42 rfl (lv_at hl 0 rfl) ?_
    refine r_getX (v := .int (A9 0 3)) E hw hC 3 (by decide) q241 rfl dX0_feed_43 ?_
    have h := Option.some.inj h
    obtain ⟨h1, h2⟩ := Prod.mk.inj h
    exact d_iret E hr rfl hw h1 (by rw [h2]) dX0_feed_46
  · have h := qi_f c h
    refine lv_iconst (v := (-1:Int32)) hx hb dX0_feed_13 (by decide) ?_
    have h := Option.some.inj h
    obtain ⟨h1, h2⟩ := Prod.mk.inj h
    exact d_iret E hr rfl hw h1 (by rw [h2]) dX0_feed_14

theorem m_X0_feed (l : Launch) {K : QK} {G : State → Prop} (hG : QG G) (hC : QCl K) {rs : QA × QL × QX × QM} {x1 : Int32} {x2 : Int32} {x3 : Int32} {x4 : Int32} {x5 : Int32} {A : QA} {ro : Int32} {Ao : QA} (h : f_X0_feed x1 x2 x3 x4 x5 A = some (ro, Ao)) : MC l K G yX0_feed (ws_ yX0_feed cX0_feed 6 (some .int)) 2 62 0 0 [.ref (K.2.1 0), .int x1, .int x2, .int x3, .int x4, .int x5] (A, rs) (QR (some (.int ro)) (Ao, rs)) := by
  refine MC.of (by decide) (Nat.le_of_ble_eq_true rfl) (lv := [(0, .ref (K.2.1 0)), (1, .int x1), (2, .int x2), (3, .int x3), (4, .int x4), (5, .int x5)]) rfl (fun p e s m below meth c ls E hr hl hw => ?_)
  exact w_X0_feed_0 hG hC E hr _ _ _ _ _ _  h hw hl

def f_X0_end (x1 : Int32) (A : QA) : Option (Int32 × QA) :=
  qb1 (f_X0_in x1 (0:Int32) (A 0 3)) fun u1 =>
  if u1 = (0:Int32) then (
  some ((-1:Int32), A)) else (
  qlet (qu A 0 3 x1) fun A3 =>
  some (x1, A3))
set_option maxHeartbeats 4000000 in
theorem w_X0_end_0 {p : Program} {l : Launch} {e : Env} {s : State} {m : MethodId} {args : Array Value} {below : List Frame} {meth : Method} {c : Code} {K : QK} {G : State → Prop} {rs : QA × QL × QX × QM} {ro : Int32} {Ao : QA} (hG : QG G) (hC : QCl K) (E : EV K G p s m args meth c cX0_end "VaneCourt" 2) (hr : meth.sig.returnType = (some .int)) : ∀ (x1 : Int32) (A : QA) {H : Heap} {locs : List Loc} {ls : Array Slot}, f_X0_end x1 A = some (ro, Ao) → WP K (A, rs) H locs → lv_has ls 2 [(0, .ref (K.2.1 0)), (1, .int x1)] → W p l e (qrm 2 62 0 0) s m args below meth c H locs 0 0 (MQ below (QE K (QR (some (.int ro)) (Ao, rs))) args s 0 0 (qA K)) (F0 m 0 ls []) := by
  have hx := E.1
  have hb := E.2.1
  have hown := E.2.2.1
  have hts := E.2.2.2.2.1
  intro x1 A H locs ls  h hw hl
  rw [f_X0_end] at h
  refine lv_iload_n hx hb dX0_end_0 rfl (lv_at hl 1 rfl) ?_
  refine lv_iconst (v := (0:Int32)) hx hb dX0_end_1 (by decide) ?_
  refine lv_aload_n hx hb dX0_end_2 rfl (lv_at hl 0 rfl) ?_
  refine r_getX (v := .int (A 0 3)) E hw hC 3 (by decide) q241 rfl dX0_end_3 ?_
  obtain ⟨u1, g2, h⟩ := qb1_s h
  refine d_S (As := [.int x1, .int (0:Int32), .int (A 0 3)]) (v0 := some (.int u1)) (w0 := (A, rs)) hG E hw hl (m_X0_in l hG hC  g2) (va_cwS 3 hts (lw_S q283 q284 q137 q285) rfl rfl rfl kd_X0_in ⟨Nat.le_of_ble_eq_true rfl, Nat.le_of_ble_eq_true rfl⟩) rfl (rest := []) (st1 := [.int u1]) rfl rfl rfl dX0_end_6 ⟨Nat.le_of_ble_eq_true rfl, Nat.le_of_ble_eq_true rfl⟩ (fun H locs hw => ?_)
  refine lv_if_ne (tgt := 14) hx hb dX0_end_9 (by decide) (fun c => ?_) (fun c => ?_)
  · have h := qi_f c h
    refine lv_aload_n hx hb dX0_end_14 rfl (lv_at hl 0 rfl) ?_
    refine lv_iload_n hx hb dX0_end_15 rfl (lv_at hl 1 rfl) ?_
    obtain ⟨A3, e4, h⟩ := qlet_s h
    refine r_putX E hw hC 3 (by decide) q241 rfl rfl (fun _ => rfl) dX0_end_16 (fun H locs hw => ?_)
    rw [← e4] at hw
    refine lv_iload_n hx hb dX0_end_19 rfl (lv_at hl 1 rfl) ?_
    have h := Option.some.inj h
    obtain ⟨h1, h2⟩ := Prod.mk.inj h
    exact d_iret E hr rfl hw h1 (by rw [h2]) dX0_end_20
  · have h := qi_t c h
    refine lv_iconst (v := (-1:Int32)) hx hb dX0_end_12 (by decide) ?_
    have h := Option.some.inj h
    obtain ⟨h1, h2⟩ := Prod.mk.inj h
    exact d_iret E hr rfl hw h1 (by rw [h2]) dX0_end_13

theorem m_X0_end (l : Launch) {K : QK} {G : State → Prop} (hG : QG G) (hC : QCl K) {rs : QA × QL × QX × QM} {x1 : Int32} {A : QA} {ro : Int32} {Ao : QA} (h : f_X0_end x1 A = some (ro, Ao)) : MC l K G yX0_end (ws_ yX0_end cX0_end 2 (some .int)) 2 62 0 0 [.ref (K.2.1 0), .int x1] (A, rs) (QR (some (.int ro)) (Ao, rs)) := by
  refine MC.of (by decide) (Nat.le_of_ble_eq_true rfl) (lv := [(0, .ref (K.2.1 0)), (1, .int x1)]) rfl (fun p e s m below meth c ls E hr hl hw => ?_)
  exact w_X0_end_0 hG hC E hr _ _  h hw hl

def f_X0_fault (x1 : Int32) (A : QA) : Option (Int32) :=
  if x1 = (0:Int32) then (
  some ((A 0 4))) else (
  if x1 = (1:Int32) then (
  some ((A 0 5))) else (
  some ((-1:Int32))))
set_option maxHeartbeats 4000000 in
theorem w_X0_fault_0 {p : Program} {l : Launch} {e : Env} {s : State} {m : MethodId} {args : Array Value} {below : List Frame} {meth : Method} {c : Code} {K : QK} {G : State → Prop} {rs : QA × QL × QX × QM} {ro : Int32} (hG : QG G) (hC : QCl K) (E : EV K G p s m args meth c cX0_fault "VaneCourt" 2) (hr : meth.sig.returnType = (some .int)) : ∀ (x1 : Int32) (A : QA) {H : Heap} {locs : List Loc} {ls : Array Slot}, f_X0_fault x1 A = some ro → WP K (A, rs) H locs → lv_has ls 2 [(0, .ref (K.2.1 0)), (1, .int x1)] → W p l e (qrm 1 40 0 0) s m args below meth c H locs 0 0 (MQ below (QE K (QR (some (.int ro)) (A, rs))) args s 0 0 (qA K)) (F0 m 0 ls []) := by
  have hx := E.1
  have hb := E.2.1
  have hown := E.2.2.1
  have hts := E.2.2.2.2.1
  intro x1 A H locs ls  h hw hl
  rw [f_X0_fault] at h
  refine lv_iload_n hx hb dX0_fault_0 rfl (lv_at hl 1 rfl) ?_
  refine lv_if_ne (tgt := 11) hx hb dX0_fault_1 (by decide) (fun c => ?_) (fun c => ?_)
  · have h := qi_f c h
    refine lv_iload_n hx hb dX0_fault_11 rfl (lv_at hl 1 rfl) ?_
    refine lv_iconst (v := (1:Int32)) hx hb dX0_fault_12 (by decide) ?_
    refine lv_icmp_ne (tgt := 23) hx hb dX0_fault_13 (by decide) (fun c => ?_) (fun c => ?_)
    · have h := qi_f c h
      refine lv_iconst (v := (-1:Int32)) hx hb dX0_fault_23 (by decide) ?_
      have h := Option.some.inj h
      have h1 := h
      exact d_iret E hr rfl hw h1 rfl dX0_fault_24
    · have h := qi_t c h
      refine lv_aload_n hx hb dX0_fault_16 rfl (lv_at hl 0 rfl) ?_
      refine r_getX (v := .int (A 0 5)) E hw hC 5 (by decide) q243 rfl dX0_fault_17 ?_
      refine lv_goto (tgt := 24) hx hb dX0_fault_20 (by decide) ?_
      have h := Option.some.inj h
      have h1 := h
      exact d_iret E hr rfl hw h1 rfl dX0_fault_24
  · have h := qi_t c h
    refine lv_aload_n hx hb dX0_fault_4 rfl (lv_at hl 0 rfl) ?_
    refine r_getX (v := .int (A 0 4)) E hw hC 4 (by decide) q242 rfl dX0_fault_5 ?_
    refine lv_goto (tgt := 24) hx hb dX0_fault_8 (by decide) ?_
    have h := Option.some.inj h
    have h1 := h
    exact d_iret E hr rfl hw h1 rfl dX0_fault_24

theorem m_X0_fault (l : Launch) {K : QK} {G : State → Prop} (hG : QG G) (hC : QCl K) {rs : QA × QL × QX × QM} {x1 : Int32} {A : QA} {ro : Int32} (h : f_X0_fault x1 A = some ro) : MC l K G yX0_fault (ws_ yX0_fault cX0_fault 2 (some .int)) 1 40 0 0 [.ref (K.2.1 0), .int x1] (A, rs) (QR (some (.int ro)) (A, rs)) := by
  refine MC.of (by decide) (Nat.le_of_ble_eq_true rfl) (lv := [(0, .ref (K.2.1 0)), (1, .int x1)]) rfl (fun p e s m below meth c ls E hr hl hw => ?_)
  exact w_X0_fault_0 hG hC E hr _ _  h hw hl

def f_X0_isText (x1 : Int32) (A : QA) : Option (Int32) :=
  qb1 (f_X0_in x1 (0:Int32) ((A 100 1) - (1:Int32))) fun u1 =>
  qif (qbo u1) <|
  some (u1)
set_option maxHeartbeats 4000000 in
theorem w_X0_isText_0 {p : Program} {l : Launch} {e : Env} {s : State} {m : MethodId} {args : Array Value} {below : List Frame} {meth : Method} {c : Code} {K : QK} {G : State → Prop} {rs : QA × QL × QX × QM} {ro : Int32} (hG : QG G) (hC : QCl K) (E : EV K G p s m args meth c cX0_isText "VaneCourt" 2) (hr : meth.sig.returnType = (some .boolean)) : ∀ (x1 : Int32) (A : QA) {H : Heap} {locs : List Loc} {ls : Array Slot}, f_X0_isText x1 A = some ro → WP K (A, rs) H locs → lv_has ls 2 [(0, .ref (K.2.1 0)), (1, .int x1)] → W p l e (qrm 2 62 0 0) s m args below meth c H locs 0 0 (MQ below (QE K (QR (some (.int ro)) (A, rs))) args s 0 0 (qA K)) (F0 m 0 ls []) := by
  have hx := E.1
  have hb := E.2.1
  have hown := E.2.2.1
  have hts := E.2.2.2.2.1
  intro x1 A H locs ls  h hw hl
  rw [f_X0_isText] at h
  refine lv_iload_n hx hb dX0_isText_0 rfl (lv_at hl 1 rfl) ?_
  refine lv_iconst (v := (0:Int32)) hx hb dX0_isText_1 (by decide) ?_
  refine lv_aload_n hx hb dX0_isText_2 rfl (lv_at hl 0 rfl) ?_
  refine r_getX (v := .ref (K.2.1 1)) E hw hC 0 (by decide) q238 rfl dX0_isText_3 ?_
  refine r_getS1 (v := .ref (K.2.1 100)) hG E hw hC 0 (by decide) q191 rfl dX0_isText_6 ?_
  refine lv_iconst (v := (1:Int32)) hx hb dX0_isText_9 (by decide) ?_
  refine r_iald (j := 1) E hw (qi_100 hC).at (q_lit (k := 1) (n := 7) rfl rfl) (q_clamp (k := 1) rfl) dX0_isText_10 ?_
  refine lv_iconst (v := (1:Int32)) hx hb dX0_isText_11 (by decide) ?_
  refine lv_isub hx hb dX0_isText_12 ?_
  obtain ⟨u1, g2, h⟩ := qb1_s h
  refine d_S (As := [.int x1, .int (0:Int32), .int ((A 100 1) - (1:Int32))]) (v0 := some (.int u1)) (w0 := (A, rs)) hG E hw hl (m_X0_in l hG hC  g2) (va_cwS 3 hts (lw_S q283 q284 q137 q285) rfl rfl rfl kd_X0_in ⟨Nat.le_of_ble_eq_true rfl, Nat.le_of_ble_eq_true rfl⟩) rfl (rest := []) (st1 := [.int u1]) rfl rfl rfl dX0_isText_13 ⟨Nat.le_of_ble_eq_true rfl, Nat.le_of_ble_eq_true rfl⟩ (fun H locs hw => ?_)
  obtain ⟨z3, h⟩ := qif_s h
  have h := Option.some.inj h
  have h1 := h
  exact d_iret E hr (qbo_n z3) hw h1 rfl dX0_isText_16

theorem m_X0_isText (l : Launch) {K : QK} {G : State → Prop} (hG : QG G) (hC : QCl K) {rs : QA × QL × QX × QM} {x1 : Int32} {A : QA} {ro : Int32} (h : f_X0_isText x1 A = some ro) : MC l K G yX0_isText (ws_ yX0_isText cX0_isText 2 (some .boolean)) 2 62 0 0 [.ref (K.2.1 0), .int x1] (A, rs) (QR (some (.int ro)) (A, rs)) := by
  refine MC.of (by decide) (Nat.le_of_ble_eq_true rfl) (lv := [(0, .ref (K.2.1 0)), (1, .int x1)]) rfl (fun p e s m below meth c ls E hr hl hw => ?_)
  exact w_X0_isText_0 hG hC E hr _ _  h hw hl

def f_X0_by_15 (x1 : Int32) (A : QA) : Option (Int32 × QA) :=
  qlet (qu A 100 2 x1) fun A1 =>
  some ((1:Int32), A1)
set_option maxHeartbeats 4000000 in
theorem w_X0_by_15 {p : Program} {l : Launch} {e : Env} {s : State} {m : MethodId} {args : Array Value} {below : List Frame} {meth : Method} {c : Code} {K : QK} {G : State → Prop} {rs : QA × QL × QX × QM} {ro : Int32} {Ao : QA} (hG : QG G) (hC : QCl K) (E : EV K G p s m args meth c cX0_by "VaneCourt" 2) (hr : meth.sig.returnType = (some .boolean)) : ∀ (x1 : Int32) (A : QA) {H : Heap} {locs : List Loc} {ls : Array Slot}, f_X0_by_15 x1 A = some (ro, Ao) → WP K (A, rs) H locs → lv_has ls 2 [(0, .ref (K.2.1 0)), (1, .int x1)] → W p l e (qrm 3 83 0 0) s m args below meth c H locs 0 0 (MQ below (QE K (QR (some (.int ro)) (Ao, rs))) args s 0 0 (qA K)) (F0 m 15 ls []) := by
  have hx := E.1
  have hb := E.2.1
  have hown := E.2.2.1
  have hts := E.2.2.2.2.1
  intro x1 A H locs ls  h hw hl
  rw [f_X0_by_15] at h
  refine lv_aload_n hx hb dX0_by_15 rfl (lv_at hl 0 rfl) ?_
  refine r_getX (v := .ref (K.2.1 1)) E hw hC 0 (by decide) q238 rfl dX0_by_16 ?_
  refine r_getS1 (v := .ref (K.2.1 100)) hG E hw hC 0 (by decide) q191 rfl dX0_by_19 ?_
  refine lv_iconst (v := (2:Int32)) hx hb dX0_by_22 (by decide) ?_
  refine lv_iload_n hx hb dX0_by_23 rfl (lv_at hl 1 rfl) ?_
  obtain ⟨A1, e2, h⟩ := qlet_s h
  refine r_iastA (j := 2) E hw (qi_100 hC) (q_lit (k := 2) (n := 7) rfl rfl) (q_clamp (k := 2) rfl) dX0_by_24 (fun H locs hw => ?_)
  rw [← e2] at hw
  refine lv_iconst (v := (1:Int32)) hx hb dX0_by_25 (by decide) ?_
  have h := Option.some.inj h
  obtain ⟨h1, h2⟩ := Prod.mk.inj h
  exact d_iret E hr rfl hw h1 (by rw [h2]) dX0_by_26

def f_X0_by (x1 : Int32) (A : QA) : Option (Int32 × QA) :=
  if x1 = (-1:Int32) then (
  f_X0_by_15 x1 A) else (
  qb1 (f_X0_isText x1 A) fun u3 =>
  if u3 = (0:Int32) then (
  some ((0:Int32), A)) else (
  f_X0_by_15 x1 A))
set_option maxHeartbeats 4000000 in
theorem w_X0_by_0 {p : Program} {l : Launch} {e : Env} {s : State} {m : MethodId} {args : Array Value} {below : List Frame} {meth : Method} {c : Code} {K : QK} {G : State → Prop} {rs : QA × QL × QX × QM} {ro : Int32} {Ao : QA} (hG : QG G) (hC : QCl K) (E : EV K G p s m args meth c cX0_by "VaneCourt" 2) (hr : meth.sig.returnType = (some .boolean)) : ∀ (x1 : Int32) (A : QA) {H : Heap} {locs : List Loc} {ls : Array Slot}, f_X0_by x1 A = some (ro, Ao) → WP K (A, rs) H locs → lv_has ls 2 [(0, .ref (K.2.1 0)), (1, .int x1)] → W p l e (qrm 3 83 0 0) s m args below meth c H locs 0 0 (MQ below (QE K (QR (some (.int ro)) (Ao, rs))) args s 0 0 (qA K)) (F0 m 0 ls []) := by
  have hx := E.1
  have hb := E.2.1
  have hown := E.2.2.1
  have hts := E.2.2.2.2.1
  intro x1 A H locs ls  h hw hl
  rw [f_X0_by] at h
  refine lv_iload_n hx hb dX0_by_0 rfl (lv_at hl 1 rfl) ?_
  refine lv_iconst (v := (-1:Int32)) hx hb dX0_by_1 (by decide) ?_
  refine lv_icmp_eq (tgt := 15) hx hb dX0_by_2 (by decide) (fun c => ?_) (fun c => ?_)
  · have h := qi_t c h
    exact w_X0_by_15 hG hC E hr  _ _   h hw (lv_sub hl [0, 1] rfl)
  · have h := qi_f c h
    refine lv_aload_n hx hb dX0_by_5 rfl (lv_at hl 0 rfl) ?_
    refine lv_iload_n hx hb dX0_by_6 rfl (lv_at hl 1 rfl) ?_
    obtain ⟨u3, g4, h⟩ := qb1_s h
    refine d_V (As := [.int x1]) (v0 := some (.int u3)) (w0 := (A, rs)) hG E hw hl (m_X0_isText l hG hC  g4) (qX0 hC) rfl (cwV 1 hts (lw_V q883 q885 qs26 q137 q886) rfl rfl rfl ⟨rfl, kd_X0_isText⟩ ⟨Nat.le_of_ble_eq_true rfl, Nat.le_of_ble_eq_true rfl⟩) rfl (rest := []) (st1 := [.int u3]) rfl rfl rfl dX0_by_7 ⟨Nat.le_of_ble_eq_true rfl, Nat.le_of_ble_eq_true rfl⟩ (fun H locs hw => ?_)
    refine lv_if_ne (tgt := 15) hx hb dX0_by_10 (by decide) (fun c => ?_) (fun c => ?_)
    · have h := qi_f c h
      exact w_X0_by_15 hG hC E hr  _ _   h hw (lv_sub hl [0, 1] rfl)
    · have h := qi_t c h
      refine lv_iconst (v := (0:Int32)) hx hb dX0_by_13 (by decide) ?_
      have h := Option.some.inj h
      obtain ⟨h1, h2⟩ := Prod.mk.inj h
      exact d_iret E hr rfl hw h1 (by rw [h2]) dX0_by_14

theorem m_X0_by (l : Launch) {K : QK} {G : State → Prop} (hG : QG G) (hC : QCl K) {rs : QA × QL × QX × QM} {x1 : Int32} {A : QA} {ro : Int32} {Ao : QA} (h : f_X0_by x1 A = some (ro, Ao)) : MC l K G yX0_by (ws_ yX0_by cX0_by 2 (some .boolean)) 3 83 0 0 [.ref (K.2.1 0), .int x1] (A, rs) (QR (some (.int ro)) (Ao, rs)) := by
  refine MC.of (by decide) (Nat.le_of_ble_eq_true rfl) (lv := [(0, .ref (K.2.1 0)), (1, .int x1)]) rfl (fun p e s m below meth c ls E hr hl hw => ?_)
  exact w_X0_by_0 hG hC E hr _ _  h hw hl

def f_X1_keeps_52 (A : QA) : Option (QA) :=
  qif (qok (A 100 3) 30) <|
  qlet (qset A (150 + (A 100 3).toNatClampNeg) (va_cpy (A 101) (A (150 + (A 100 3).toNatClampNeg)) 0 0 154)) fun A2 =>
  qlet (qu A2 100 3 ((A2 100 3) + (1:Int32))) fun A4 =>
  some (A4)
set_option maxHeartbeats 4000000 in
theorem w_X1_keeps_52 {p : Program} {l : Launch} {e : Env} {s : State} {m : MethodId} {args : Array Value} {below : List Frame} {meth : Method} {c : Code} {K : QK} {G : State → Prop} {rs : QA × QL × QX × QM} {Ao : QA} (hG : QG G) (hC : QCl K) (E : EV K G p s m args meth c cX1_keeps "VaneCourt$State" 2) (hr : meth.sig.returnType = none) : ∀ (A : QA) {H : Heap} {locs : List Loc} {ls : Array Slot}, f_X1_keeps_52 A = some Ao → WP K (A, rs) H locs → lv_has ls 2 [(0, .ref (K.2.1 1))] → W p l e (qrm 3 61 0 0) s m args below meth c H locs 0 0 (MQ below (QE K (QR none (Ao, rs))) args s 0 0 (qA K)) (F0 m 52 ls []) := by
  have hx := E.1
  have hb := E.2.1
  have hown := E.2.2.1
  have hts := E.2.2.2.2.1
  intro A H locs ls  h hw hl
  rw [f_X1_keeps_52] at h
  refine lv_aload_n hx hb dX1_keeps_52 rfl (lv_at hl 0 rfl) ?_
  refine r_getT1 (v := .ref (K.2.1 101)) E hw hC 1 (by decide) q192 rfl dX1_keeps_53 ?_
  refine lv_aload_n hx hb dX1_keeps_56 rfl (lv_at hl 0 rfl) ?_
  refine r_getT1 (v := .ref (K.2.1 106)) E hw hC 6 (by decide) q202 rfl dX1_keeps_57 ?_
  refine lv_aload_n hx hb dX1_keeps_60 rfl (lv_at hl 0 rfl) ?_
  refine r_getT1 (v := .ref (K.2.1 100)) E hw hC 0 (by decide) q190 rfl dX1_keeps_61 ?_
  refine lv_iconst (v := (3:Int32)) hx hb dX1_keeps_64 (by decide) ?_
  refine r_iald (j := 3) E hw (qi_100 hC).at (q_lit (k := 3) (n := 7) rfl rfl) (q_clamp (k := 3) rfl) dX1_keeps_65 ?_
  obtain ⟨z1, h⟩ := qif_s h
  refine r_gald (j := (A 100 3).toNatClampNeg) E hw (qg_106 hC).at (qok_in z1) rfl dX1_keeps_66 ?_
  obtain ⟨A2, e3, h⟩ := qlet_s h
  refine d_S (As := [.ref (K.2.1 101), .ref (K.2.1 (150 + (A 100 3).toNatClampNeg))]) (v0 := none) hG E hw hl (m_X1_copy l hG hC (qi_101 hC) (qi_f150 hC (k := (A 100 3).toNatClampNeg) (qok_lt z1)) (Nat.le_of_ble_eq_true rfl)) (va_cwS 2 hts (lw_S q229 q230 q138 q231) rfl rfl rfl kd_X1_copy ⟨Nat.le_of_ble_eq_true rfl, Nat.le_of_ble_eq_true rfl⟩) rfl (rest := []) (st1 := []) rfl rfl rfl dX1_keeps_67 ⟨Nat.le_of_ble_eq_true rfl, Nat.le_of_ble_eq_true rfl⟩ (fun H locs hw => ?_)
  rw [← e3] at hw
  refine lv_aload_n hx hb dX1_keeps_70 rfl (lv_at hl 0 rfl) ?_
  refine r_getT1 (v := .ref (K.2.1 100)) E hw hC 0 (by decide) q190 rfl dX1_keeps_71 ?_
  refine lv_iconst (v := (3:Int32)) hx hb dX1_keeps_74 (by decide) ?_
  refine lv_dup2_11 hx hb dX1_keeps_75 rfl rfl ?_
  refine r_iald (j := 3) E hw (qi_100 hC).at (q_lit (k := 3) (n := 7) rfl rfl) (q_clamp (k := 3) rfl) dX1_keeps_76 ?_
  refine lv_iconst (v := (1:Int32)) hx hb dX1_keeps_77 (by decide) ?_
  refine lv_iadd hx hb dX1_keeps_78 ?_
  obtain ⟨A4, e5, h⟩ := qlet_s h
  refine r_iastA (j := 3) E hw (qi_100 hC) (q_lit (k := 3) (n := 7) rfl rfl) (q_clamp (k := 3) rfl) dX1_keeps_79 (fun H locs hw => ?_)
  rw [← e5] at hw
  have h := Option.some.inj h
  have h1 := h
  exact d_ret E hr hw (by rw [h1]) dX1_keeps_80

def f_X1_keeps_13 : Nat → Int32 → QA → Option (QA)
  | 0, _, _ => none
  | n + 1, x1, A => if (30:Int32) ≤ x1 then (
  qlet (qu A 100 3 ((A 100 3) - (1:Int32))) fun A6 =>
  f_X1_keeps_52 A6) else (
  qif (qok x1 30) <|
  qif (qok (x1 - (1:Int32)) 30) <|
  qlet (qset A (150 + (x1 - (1:Int32)).toNatClampNeg) (va_cpy (A (150 + x1.toNatClampNeg)) (A (150 + (x1 - (1:Int32)).toNatClampNeg)) 0 0 154)) fun A10 =>
  qlet (x1 + (1:Int32)) fun x1_12 =>
  f_X1_keeps_13 n x1_12 A10)
set_option maxHeartbeats 4000000 in
theorem w_X1_keeps_13 {p : Program} {l : Launch} {e : Env} {s : State} {m : MethodId} {args : Array Value} {below : List Frame} {meth : Method} {c : Code} {K : QK} {G : State → Prop} {rs : QA × QL × QX × QM} {Ao : QA} (hG : QG G) (hC : QCl K) (E : EV K G p s m args meth c cX1_keeps "VaneCourt$State" 2) (hr : meth.sig.returnType = none) : ∀ (n : Nat) (x1 : Int32) (A : QA) {H : Heap} {locs : List Loc} {ls : Array Slot}, f_X1_keeps_13 n x1 A = some Ao → WP K (A, rs) H locs → lv_has ls 2 [(0, .ref (K.2.1 1)), (1, .int x1)] → W p l e (qrm 3 61 0 0) s m args below meth c H locs 0 0 (MQ below (QE K (QR none (Ao, rs))) args s 0 0 (qA K)) (F0 m 13 ls []) := by
  have hx := E.1
  have hb := E.2.1
  have hown := E.2.2.1
  have hts := E.2.2.2.2.1
  intro n
  induction n with
  | zero =>
    intro x1 A H locs ls  h hw hl
    cases h
  | succ n ih =>
    intro x1 A H locs ls  h hw hl
    rw [f_X1_keeps_13] at h
    refine lv_iload_n hx hb dX1_keeps_13 rfl (lv_at hl 1 rfl) ?_
    refine lv_bipush (v := (30:Int32)) hx hb dX1_keeps_14 (by decide) ?_
    refine lv_icmp_ge (tgt := 42) hx hb dX1_keeps_16 (by decide) (fun c => ?_) (fun c => ?_)
    · have h := qi_t c h
      refine lv_aload_n hx hb dX1_keeps_42 rfl (lv_at hl 0 rfl) ?_
      refine r_getT1 (v := .ref (K.2.1 100)) E hw hC 0 (by decide) q190 rfl dX1_keeps_43 ?_
      refine lv_iconst (v := (3:Int32)) hx hb dX1_keeps_46 (by decide) ?_
      refine lv_dup2_11 hx hb dX1_keeps_47 rfl rfl ?_
      refine r_iald (j := 3) E hw (qi_100 hC).at (q_lit (k := 3) (n := 7) rfl rfl) (q_clamp (k := 3) rfl) dX1_keeps_48 ?_
      refine lv_iconst (v := (1:Int32)) hx hb dX1_keeps_49 (by decide) ?_
      refine lv_isub hx hb dX1_keeps_50 ?_
      obtain ⟨A6, e7, h⟩ := qlet_s h
      refine r_iastA (j := 3) E hw (qi_100 hC) (q_lit (k := 3) (n := 7) rfl rfl) (q_clamp (k := 3) rfl) dX1_keeps_51 (fun H locs hw => ?_)
      rw [← e7] at hw
      exact w_X1_keeps_52 hG hC E hr  _   h hw (lv_sub hl [0] rfl)
    · have h := qi_f c h
      refine lv_aload_n hx hb dX1_keeps_19 rfl (lv_at hl 0 rfl) ?_
      refine r_getT1 (v := .ref (K.2.1 106)) E hw hC 6 (by decide) q202 rfl dX1_keeps_20 ?_
      refine lv_iload_n hx hb dX1_keeps_23 rfl (lv_at hl 1 rfl) ?_
      obtain ⟨z8, h⟩ := qif_s h
      refine r_gald (j := x1.toNatClampNeg) E hw (qg_106 hC).at (qok_in z8) rfl dX1_keeps_24 ?_
      refine lv_aload_n hx hb dX1_keeps_25 rfl (lv_at hl 0 rfl) ?_
      refine r_getT1 (v := .ref (K.2.1 106)) E hw hC 6 (by decide) q202 rfl dX1_keeps_26 ?_
      refine lv_iload_n hx hb dX1_keeps_29 rfl (lv_at hl 1 rfl) ?_
      refine lv_iconst (v := (1:Int32)) hx hb dX1_keeps_30 (by decide) ?_
      refine lv_isub hx hb dX1_keeps_31 ?_
      obtain ⟨z9, h⟩ := qif_s h
      refine r_gald (j := (x1 - (1:Int32)).toNatClampNeg) E hw (qg_106 hC).at (qok_in z9) rfl dX1_keeps_32 ?_
      obtain ⟨A10, e11, h⟩ := qlet_s h
      refine d_S (As := [.ref (K.2.1 (150 + x1.toNatClampNeg)), .ref (K.2.1 (150 + (x1 - (1:Int32)).toNatClampNeg))]) (v0 := none) hG E hw hl (m_X1_copy l hG hC (qi_f150 hC (k := x1.toNatClampNeg) (qok_lt z8)) (qi_f150 hC (k := (x1 - (1:Int32)).toNatClampNeg) (qok_lt z9)) (Nat.le_of_ble_eq_true rfl)) (va_cwS 2 hts (lw_S q229 q230 q138 q231) rfl rfl rfl kd_X1_copy ⟨Nat.le_of_ble_eq_true rfl, Nat.le_of_ble_eq_true rfl⟩) rfl (rest := []) (st1 := []) rfl rfl rfl dX1_keeps_33 ⟨Nat.le_of_ble_eq_true rfl, Nat.le_of_ble_eq_true rfl⟩ (fun H locs hw => ?_)
      rw [← e11] at hw
      obtain ⟨x1_12, e13, h⟩ := qlet_s h
      refine lv_iinc (v := x1_12) (lv' := [(1, .int x1_12), (0, .ref (K.2.1 1))]) (k := 1) hx hb dX1_keeps_36 hl rfl (by rw [e13]; rfl) (by decide) rfl (fun ls hl => ?_)
      refine lv_goto (tgt := 13) hx hb dX1_keeps_39 (by decide) ?_
      exact ih _ _  h hw (lv_sub hl [1, 0] rfl)

def f_X1_keeps (A : QA) : Option (QA) :=
  if (A 100 3) = (30:Int32) then (
  f_X1_keeps_13 FU (1:Int32) A) else (
  f_X1_keeps_52 A)
set_option maxHeartbeats 4000000 in
theorem w_X1_keeps_0 {p : Program} {l : Launch} {e : Env} {s : State} {m : MethodId} {args : Array Value} {below : List Frame} {meth : Method} {c : Code} {K : QK} {G : State → Prop} {rs : QA × QL × QX × QM} {Ao : QA} (hG : QG G) (hC : QCl K) (E : EV K G p s m args meth c cX1_keeps "VaneCourt$State" 2) (hr : meth.sig.returnType = none) : ∀ (A : QA) {H : Heap} {locs : List Loc} {ls : Array Slot}, f_X1_keeps A = some Ao → WP K (A, rs) H locs → lv_has ls 2 [(0, .ref (K.2.1 1))] → W p l e (qrm 3 61 0 0) s m args below meth c H locs 0 0 (MQ below (QE K (QR none (Ao, rs))) args s 0 0 (qA K)) (F0 m 0 ls []) := by
  have hx := E.1
  have hb := E.2.1
  have hown := E.2.2.1
  have hts := E.2.2.2.2.1
  intro A H locs ls  h hw hl
  rw [f_X1_keeps] at h
  refine lv_aload_n hx hb dX1_keeps_0 rfl (lv_at hl 0 rfl) ?_
  refine r_getT1 (v := .ref (K.2.1 100)) E hw hC 0 (by decide) q190 rfl dX1_keeps_1 ?_
  refine lv_iconst (v := (3:Int32)) hx hb dX1_keeps_4 (by decide) ?_
  refine r_iald (j := 3) E hw (qi_100 hC).at (q_lit (k := 3) (n := 7) rfl rfl) (q_clamp (k := 3) rfl) dX1_keeps_5 ?_
  refine lv_bipush (v := (30:Int32)) hx hb dX1_keeps_6 (by decide) ?_
  refine lv_icmp_ne (tgt := 52) hx hb dX1_keeps_8 (by decide) (fun c => ?_) (fun c => ?_)
  · have h := qi_f c h
    exact w_X1_keeps_52 hG hC E hr  _   h hw (lv_sub hl [0] rfl)
  · have h := qi_t c h
    refine lv_iconst (v := (1:Int32)) hx hb dX1_keeps_11 (by decide) ?_
    refine lv_istore_n (lv' := [(1, .int (1:Int32)), (0, .ref (K.2.1 1))]) hx hb dX1_keeps_12 rfl hl (by decide) rfl (fun ls hl => ?_)
    exact w_X1_keeps_13 hG hC E hr  _ _ _   h hw (lv_sub hl [1, 0] rfl)

theorem m_X1_keeps (l : Launch) {K : QK} {G : State → Prop} (hG : QG G) (hC : QCl K) {rs : QA × QL × QX × QM} {A : QA} {Ao : QA} (h : f_X1_keeps A = some Ao) : MC l K G yX1_keeps (ws_ yX1_keeps cX1_keeps 2 none) 3 61 0 0 [.ref (K.2.1 1)] (A, rs) (QR none (Ao, rs)) := by
  refine MC.of (by decide) (Nat.le_of_ble_eq_true rfl) (lv := [(0, .ref (K.2.1 1))]) rfl (fun p e s m below meth c ls E hr hl hw => ?_)
  exact w_X1_keeps_0 hG hC E hr _  h hw hl

def f_X0_has (x0 : Int32) (x1 : Int32) : Option (Int32) :=
  if ((x0 >>> (x1 &&& 31)) &&& (1:Int32)) = (1:Int32) then (
  some ((1:Int32))) else (
  some ((0:Int32)))
set_option maxHeartbeats 4000000 in
theorem w_X0_has_0 {p : Program} {l : Launch} {e : Env} {s : State} {m : MethodId} {args : Array Value} {below : List Frame} {meth : Method} {c : Code} {K : QK} {G : State → Prop} {rs : QA × QL × QX × QM} {A : QA} {ro : Int32} (hG : QG G) (hC : QCl K) (E : EV K G p s m args meth c cX0_has "VaneCourt" 2) (hr : meth.sig.returnType = (some .boolean)) : ∀ (x0 : Int32) (x1 : Int32) {H : Heap} {locs : List Loc} {ls : Array Slot}, f_X0_has x0 x1 = some ro → WP K (A, rs) H locs → lv_has ls 2 [(0, .int x0), (1, .int x1)] → W p l e (qrm 1 40 0 0) s m args below meth c H locs 0 0 (MQ below (QE K (QR (some (.int ro)) (A, rs))) args s 0 0 (qA K)) (F0 m 0 ls []) := by
  have hx := E.1
  have hb := E.2.1
  have hown := E.2.2.1
  have hts := E.2.2.2.2.1
  intro x0 x1 H locs ls  h hw hl
  rw [f_X0_has] at h
  refine lv_iload_n hx hb dX0_has_0 rfl (lv_at hl 0 rfl) ?_
  refine lv_iload_n hx hb dX0_has_1 rfl (lv_at hl 1 rfl) ?_
  refine lv_ishr hx hb dX0_has_2 ?_
  refine lv_iconst (v := (1:Int32)) hx hb dX0_has_3 (by decide) ?_
  refine lv_iand hx hb dX0_has_4 ?_
  refine lv_iconst (v := (1:Int32)) hx hb dX0_has_5 (by decide) ?_
  refine lv_icmp_ne (tgt := 13) hx hb dX0_has_6 (by decide) (fun c => ?_) (fun c => ?_)
  · have h := qi_f c h
    refine lv_iconst (v := (0:Int32)) hx hb dX0_has_13 (by decide) ?_
    have h := Option.some.inj h
    have h1 := h
    exact d_iret E hr rfl hw h1 rfl dX0_has_14
  · have h := qi_t c h
    refine lv_iconst (v := (1:Int32)) hx hb dX0_has_9 (by decide) ?_
    refine lv_goto (tgt := 14) hx hb dX0_has_10 (by decide) ?_
    have h := Option.some.inj h
    have h1 := h
    exact d_iret E hr rfl hw h1 rfl dX0_has_14

theorem m_X0_has (l : Launch) {K : QK} {G : State → Prop} (hG : QG G) (hC : QCl K) {rs : QA × QL × QX × QM} {A : QA} {x0 : Int32} {x1 : Int32} {ro : Int32} (h : f_X0_has x0 x1 = some ro) : MC l K G yX0_has (ws_ yX0_has cX0_has 2 (some .boolean)) 1 40 0 0 [.int x0, .int x1] (A, rs) (QR (some (.int ro)) (A, rs)) := by
  refine MC.of (by decide) (Nat.le_of_ble_eq_true rfl) (lv := [(0, .int x0), (1, .int x1)]) rfl (fun p e s m below meth c ls E hr hl hw => ?_)
  exact w_X0_has_0 hG hC E hr _ _  h hw hl

def f_X0_names_2 (r1 : Nat) (x2 : Int32) (A : QA) : Option (QA) :=
  qlet (qu A 4 0 (A r1 3)) fun A1 =>
  qlet (qu A1 4 1 x2) fun A3 =>
  qlet (qu A3 4 2 (A3 r1 1)) fun A5 =>
  some (A5)
set_option maxHeartbeats 4000000 in
theorem w_X0_names_2_0 {p : Program} {l : Launch} {e : Env} {s : State} {m : MethodId} {args : Array Value} {below : List Frame} {meth : Method} {c : Code} {K : QK} {G : State → Prop} {rs : QA × QL × QX × QM} {Ao : QA} (hG : QG G) (hC : QCl K) (E : EV K G p s m args meth c cX0_names_2 "VaneCourt" 3) (hr : meth.sig.returnType = none) : ∀ (r1 : Nat) (x2 : Int32) (A : QA) {H : Heap} {locs : List Loc} {ls : Array Slot}, qia K r1 154 → f_X0_names_2 r1 x2 A = some Ao → WP K (A, rs) H locs → lv_has ls 3 [(0, .ref (K.2.1 0)), (1, .ref (K.2.1 r1)), (2, .int x2)] → W p l e (qrm 1 40 0 0) s m args below meth c H locs 0 0 (MQ below (QE K (QR none (Ao, rs))) args s 0 0 (qA K)) (F0 m 0 ls []) := by
  have hx := E.1
  have hb := E.2.1
  have hown := E.2.2.1
  have hts := E.2.2.2.2.1
  intro r1 x2 A H locs ls hr1 h hw hl
  rw [f_X0_names_2] at h
  refine lv_aload_n hx hb dX0_names_2_0 rfl (lv_at hl 0 rfl) ?_
  refine r_getX (v := .ref (K.2.1 4)) E hw hC 6 (by decide) q244 rfl dX0_names_2_1 ?_
  refine lv_iconst (v := (0:Int32)) hx hb dX0_names_2_4 (by decide) ?_
  refine lv_aload_n hx hb dX0_names_2_5 rfl (lv_at hl 1 rfl) ?_
  refine lv_iconst (v := (3:Int32)) hx hb dX0_names_2_6 (by decide) ?_
  refine r_iald (j := 3) E hw (hr1).at (q_lit (k := 3) (n := 154) rfl rfl) (q_clamp (k := 3) rfl) dX0_names_2_7 ?_
  obtain ⟨A1, e2, h⟩ := qlet_s h
  refine r_iastA (j := 0) E hw (qi_4 hC) (q_lit (k := 0) (n := 9) rfl rfl) (q_clamp (k := 0) rfl) dX0_names_2_8 (fun H locs hw => ?_)
  rw [← e2] at hw
  refine lv_aload_n hx hb dX0_names_2_9 rfl (lv_at hl 0 rfl) ?_
  refine r_getX (v := .ref (K.2.1 4)) E hw hC 6 (by decide) q244 rfl dX0_names_2_10 ?_
  refine lv_iconst (v := (1:Int32)) hx hb dX0_names_2_13 (by decide) ?_
  refine lv_iload_n hx hb dX0_names_2_14 rfl (lv_at hl 2 rfl) ?_
  obtain ⟨A3, e4, h⟩ := qlet_s h
  refine r_iastA (j := 1) E hw (qi_4 hC) (q_lit (k := 1) (n := 9) rfl rfl) (q_clamp (k := 1) rfl) dX0_names_2_15 (fun H locs hw => ?_)
  rw [← e4] at hw
  refine lv_aload_n hx hb dX0_names_2_16 rfl (lv_at hl 0 rfl) ?_
  refine r_getX (v := .ref (K.2.1 4)) E hw hC 6 (by decide) q244 rfl dX0_names_2_17 ?_
  refine lv_iconst (v := (2:Int32)) hx hb dX0_names_2_20 (by decide) ?_
  refine lv_aload_n hx hb dX0_names_2_21 rfl (lv_at hl 1 rfl) ?_
  refine lv_iconst (v := (1:Int32)) hx hb dX0_names_2_22 (by decide) ?_
  refine r_iald (j := 1) E hw (hr1).at (q_lit (k := 1) (n := 154) rfl rfl) (q_clamp (k := 1) rfl) dX0_names_2_23 ?_
  obtain ⟨A5, e6, h⟩ := qlet_s h
  refine r_iastA (j := 2) E hw (qi_4 hC) (q_lit (k := 2) (n := 9) rfl rfl) (q_clamp (k := 2) rfl) dX0_names_2_24 (fun H locs hw => ?_)
  rw [← e6] at hw
  have h := Option.some.inj h
  have h1 := h
  exact d_ret E hr hw (by rw [h1]) dX0_names_2_25

theorem m_X0_names_2 (l : Launch) {K : QK} {G : State → Prop} (hG : QG G) (hC : QCl K) {rs : QA × QL × QX × QM} {r1 : Nat} {x2 : Int32} {A : QA} {Ao : QA} (hr1 : qia K r1 154) (h : f_X0_names_2 r1 x2 A = some Ao) : MC l K G yX0_names_2 (ws_ yX0_names_2 cX0_names_2 3 none) 1 40 0 0 [.ref (K.2.1 0), .ref (K.2.1 r1), .int x2] (A, rs) (QR none (Ao, rs)) := by
  refine MC.of (by decide) (Nat.le_of_ble_eq_true rfl) (lv := [(0, .ref (K.2.1 0)), (1, .ref (K.2.1 r1)), (2, .int x2)]) rfl (fun p e s m below meth c ls E hr hl hw => ?_)
  exact w_X0_names_2_0 hG hC E hr _ _ _ hr1 h hw hl

def f_X0_names (r1 : Nat) (x2 : Int32) (x3 : Int32) (x4 : Int32) (A : QA) : Option (QA) :=
  qb1 (f_X0_names_2 r1 x2 A) fun A1 =>
  qif (qok x3 8) <|
  qlet (qu A1 4 4 (A1 (110 + x3.toNatClampNeg) 0)) fun A4 =>
  qlet (qu A4 4 5 (A4 (110 + x3.toNatClampNeg) 1)) fun A6 =>
  qlet (qu A6 4 6 x4) fun A8 =>
  some (A8)
set_option maxHeartbeats 4000000 in
theorem w_X0_names_0 {p : Program} {l : Launch} {e : Env} {s : State} {m : MethodId} {args : Array Value} {below : List Frame} {meth : Method} {c : Code} {K : QK} {G : State → Prop} {rs : QA × QL × QX × QM} {Ao : QA} (hG : QG G) (hC : QCl K) (E : EV K G p s m args meth c cX0_names "VaneCourt" 5) (hr : meth.sig.returnType = none) : ∀ (r1 : Nat) (x2 : Int32) (x3 : Int32) (x4 : Int32) (A : QA) {H : Heap} {locs : List Loc} {ls : Array Slot}, qia K r1 154 → f_X0_names r1 x2 x3 x4 A = some Ao → WP K (A, rs) H locs → lv_has ls 5 [(0, .ref (K.2.1 0)), (1, .ref (K.2.1 r1)), (2, .int x2), (3, .int x3), (4, .int x4)] → W p l e (qrm 2 62 0 0) s m args below meth c H locs 0 0 (MQ below (QE K (QR none (Ao, rs))) args s 0 0 (qA K)) (F0 m 0 ls []) := by
  have hx := E.1
  have hb := E.2.1
  have hown := E.2.2.1
  have hts := E.2.2.2.2.1
  intro r1 x2 x3 x4 A H locs ls hr1 h hw hl
  rw [f_X0_names] at h
  refine lv_aload_n hx hb dX0_names_0 rfl (lv_at hl 0 rfl) ?_
  refine lv_aload_n hx hb dX0_names_1 rfl (lv_at hl 1 rfl) ?_
  refine lv_iload_n hx hb dX0_names_2 rfl (lv_at hl 2 rfl) ?_
  obtain ⟨A1, g2, h⟩ := qb1_s h
  refine d_V (As := [.ref (K.2.1 r1), .int x2]) (v0 := none) (w0 := (A1, rs)) hG E hw hl (m_X0_names_2 l hG hC (hr1) g2) (qX0 hC) rfl (cwV 2 hts (lw_V q924 q926 qs33 q137 q927) rfl rfl rfl ⟨rfl, kd_X0_names_2⟩ ⟨Nat.le_of_ble_eq_true rfl, Nat.le_of_ble_eq_true rfl⟩) rfl (rest := []) (st1 := []) rfl rfl rfl dX0_names_3 ⟨Nat.le_of_ble_eq_true rfl, Nat.le_of_ble_eq_true rfl⟩ (fun H locs hw => ?_)
  refine lv_aload_n hx hb dX0_names_6 rfl (lv_at hl 0 rfl) ?_
  refine r_getX (v := .ref (K.2.1 4)) E hw hC 6 (by decide) q244 rfl dX0_names_7 ?_
  refine lv_iconst (v := (4:Int32)) hx hb dX0_names_10 (by decide) ?_
  refine lv_aload_n hx hb dX0_names_11 rfl (lv_at hl 0 rfl) ?_
  refine r_getX (v := .ref (K.2.1 1)) E hw hC 0 (by decide) q238 rfl dX0_names_12 ?_
  refine r_getS1 (v := .ref (K.2.1 102)) hG E hw hC 2 (by decide) q195 rfl dX0_names_15 ?_
  refine lv_iload_n hx hb dX0_names_18 rfl (lv_at hl 3 rfl) ?_
  obtain ⟨z3, h⟩ := qif_s h
  refine r_gald (j := x3.toNatClampNeg) E hw (qg_102 hC).at (qok_in z3) rfl dX0_names_19 ?_
  refine lv_iconst (v := (0:Int32)) hx hb dX0_names_20 (by decide) ?_
  refine r_iald (j := 0) E hw (qi_f110 hC (k := x3.toNatClampNeg) (qok_lt z3)).at (q_lit (k := 0) (n := 4) rfl rfl) (q_clamp (k := 0) rfl) dX0_names_21 ?_
  obtain ⟨A4, e5, h⟩ := qlet_s h
  refine r_iastA (j := 4) E hw (qi_4 hC) (q_lit (k := 4) (n := 9) rfl rfl) (q_clamp (k := 4) rfl) dX0_names_22 (fun H locs hw => ?_)
  rw [← e5] at hw
  refine lv_aload_n hx hb dX0_names_23 rfl (lv_at hl 0 rfl) ?_
  refine r_getX (v := .ref (K.2.1 4)) E hw hC 6 (by decide) q244 rfl dX0_names_24 ?_
  refine lv_iconst (v := (5:Int32)) hx hb dX0_names_27 (by decide) ?_
  refine lv_aload_n hx hb dX0_names_28 rfl (lv_at hl 0 rfl) ?_
  refine r_getX (v := .ref (K.2.1 1)) E hw hC 0 (by decide) q238 rfl dX0_names_29 ?_
  refine r_getS1 (v := .ref (K.2.1 102)) hG E hw hC 2 (by decide) q195 rfl dX0_names_32 ?_
  refine lv_iload_n hx hb dX0_names_35 rfl (lv_at hl 3 rfl) ?_
  refine r_gald (j := x3.toNatClampNeg) E hw (qg_102 hC).at (qok_in z3) rfl dX0_names_36 ?_
  refine lv_iconst (v := (1:Int32)) hx hb dX0_names_37 (by decide) ?_
  refine r_iald (j := 1) E hw (qi_f110 hC (k := x3.toNatClampNeg) (qok_lt z3)).at (q_lit (k := 1) (n := 4) rfl rfl) (q_clamp (k := 1) rfl) dX0_names_38 ?_
  obtain ⟨A6, e7, h⟩ := qlet_s h
  refine r_iastA (j := 5) E hw (qi_4 hC) (q_lit (k := 5) (n := 9) rfl rfl) (q_clamp (k := 5) rfl) dX0_names_39 (fun H locs hw => ?_)
  rw [← e7] at hw
  refine lv_aload_n hx hb dX0_names_40 rfl (lv_at hl 0 rfl) ?_
  refine r_getX (v := .ref (K.2.1 4)) E hw hC 6 (by decide) q244 rfl dX0_names_41 ?_
  refine lv_bipush (v := (6:Int32)) hx hb dX0_names_44 (by decide) ?_
  refine lv_iload hx hb dX0_names_46 (lv_at hl 4 rfl) ?_
  obtain ⟨A8, e9, h⟩ := qlet_s h
  refine r_iastA (j := 6) E hw (qi_4 hC) (q_lit (k := 6) (n := 9) rfl rfl) (q_clamp (k := 6) rfl) dX0_names_48 (fun H locs hw => ?_)
  rw [← e9] at hw
  have h := Option.some.inj h
  have h1 := h
  exact d_ret E hr hw (by rw [h1]) dX0_names_49

theorem m_X0_names (l : Launch) {K : QK} {G : State → Prop} (hG : QG G) (hC : QCl K) {rs : QA × QL × QX × QM} {r1 : Nat} {x2 : Int32} {x3 : Int32} {x4 : Int32} {A : QA} {Ao : QA} (hr1 : qia K r1 154) (h : f_X0_names r1 x2 x3 x4 A = some Ao) : MC l K G yX0_names (ws_ yX0_names cX0_names 5 none) 2 62 0 0 [.ref (K.2.1 0), .ref (K.2.1 r1), .int x2, .int x3, .int x4] (A, rs) (QR none (Ao, rs)) := by
  refine MC.of (by decide) (Nat.le_of_ble_eq_true rfl) (lv := [(0, .ref (K.2.1 0)), (1, .ref (K.2.1 r1)), (2, .int x2), (3, .int x3), (4, .int x4)]) rfl (fun p e s m below meth c ls E hr hl hw => ?_)
  exact w_X0_names_0 hG hC E hr _ _ _ _ _ hr1 h hw hl

def f_J14_bitCount (x0 : Int32) : Option (Int32) :=
  qlet (x0 - ((x0.toUInt32 >>> ((1:Int32).toUInt32 &&& Int32.toUInt32 31)).toInt32 &&& (1431655765:Int32))) fun x0_1 =>
  qlet ((x0_1 &&& (858993459:Int32)) + ((x0_1.toUInt32 >>> ((2:Int32).toUInt32 &&& Int32.toUInt32 31)).toInt32 &&& (858993459:Int32))) fun x0_3 =>
  qlet ((x0_3 + (x0_3.toUInt32 >>> ((4:Int32).toUInt32 &&& Int32.toUInt32 31)).toInt32) &&& (252645135:Int32)) fun x0_5 =>
  qlet (x0_5 + (x0_5.toUInt32 >>> ((8:Int32).toUInt32 &&& Int32.toUInt32 31)).toInt32) fun x0_7 =>
  qlet (x0_7 + (x0_7.toUInt32 >>> ((16:Int32).toUInt32 &&& Int32.toUInt32 31)).toInt32) fun x0_9 =>
  some ((x0_9 &&& (63:Int32)))
set_option maxHeartbeats 4000000 in
theorem w_J14_bitCount_0 {p : Program} {l : Launch} {e : Env} {s : State} {m : MethodId} {args : Array Value} {below : List Frame} {meth : Method} {c : Code} {K : QK} {G : State → Prop} {w : QW} {ro : Int32} (hG : QG G) (E : EV K G p s m args meth c cJ14_bitCount "java/lang/Integer" 1) (hr : meth.sig.returnType = (some .int)) : ∀ (x0 : Int32) {H : Heap} {locs : List Loc} {ls : Array Slot}, f_J14_bitCount x0 = some ro → WP K w H locs → lv_has ls 1 [(0, .int x0)] → W p l e (qrm 1 40 0 0) s m args below meth c H locs 0 0 (MQ below (QE K (QR (some (.int ro)) w)) args s 0 0 (qA K)) (F0 m 0 ls []) := by
  have hx := E.1
  have hb := E.2.1
  have hown := E.2.2.1
  have hts := E.2.2.2.2.1
  intro x0 H locs ls  h hw hl
  rw [f_J14_bitCount] at h
  refine lv_iload_n hx hb dJ14_bitCount_0 rfl (lv_at hl 0 rfl) ?_
  refine lv_iload_n hx hb dJ14_bitCount_1 rfl (lv_at hl 0 rfl) ?_
  refine lv_iconst (v := (1:Int32)) hx hb dJ14_bitCount_2 (by decide) ?_
  refine lv_iushr hx hb dJ14_bitCount_3 rfl ?_
  refine lv_ldcw (v := (1431655765:Int32)) hx hb hown (hts _ q1038) dJ14_bitCount_4 ?_
  refine lv_iand hx hb dJ14_bitCount_7 ?_
  refine lv_isub hx hb dJ14_bitCount_8 ?_
  obtain ⟨x0_1, e2, h⟩ := qlet_s h
  refine r_nm e2 ?_
  refine lv_istore_n (lv' := [(0, .int x0_1)]) hx hb dJ14_bitCount_9 rfl hl (by decide) rfl (fun ls hl => ?_)
  refine lv_iload_n hx hb dJ14_bitCount_10 rfl (lv_at hl 0 rfl) ?_
  refine lv_ldcw (v := (858993459:Int32)) hx hb hown (hts _ q1039) dJ14_bitCount_11 ?_
  refine lv_iand hx hb dJ14_bitCount_14 ?_
  refine lv_iload_n hx hb dJ14_bitCount_15 rfl (lv_at hl 0 rfl) ?_
  refine lv_iconst (v := (2:Int32)) hx hb dJ14_bitCount_16 (by decide) ?_
  refine lv_iushr hx hb dJ14_bitCount_17 rfl ?_
  refine lv_ldcw (v := (858993459:Int32)) hx hb hown (hts _ q1039) dJ14_bitCount_18 ?_
  refine lv_iand hx hb dJ14_bitCount_21 ?_
  refine lv_iadd hx hb dJ14_bitCount_22 ?_
  obtain ⟨x0_3, e4, h⟩ := qlet_s h
  refine r_nm e4 ?_
  refine lv_istore_n (lv' := [(0, .int x0_3)]) hx hb dJ14_bitCount_23 rfl hl (by decide) rfl (fun ls hl => ?_)
  refine lv_iload_n hx hb dJ14_bitCount_24 rfl (lv_at hl 0 rfl) ?_
  refine lv_iload_n hx hb dJ14_bitCount_25 rfl (lv_at hl 0 rfl) ?_
  refine lv_iconst (v := (4:Int32)) hx hb dJ14_bitCount_26 (by decide) ?_
  refine lv_iushr hx hb dJ14_bitCount_27 rfl ?_
  refine lv_iadd hx hb dJ14_bitCount_28 ?_
  refine lv_ldcw (v := (252645135:Int32)) hx hb hown (hts _ q1040) dJ14_bitCount_29 ?_
  refine lv_iand hx hb dJ14_bitCount_32 ?_
  obtain ⟨x0_5, e6, h⟩ := qlet_s h
  refine r_nm e6 ?_
  refine lv_istore_n (lv' := [(0, .int x0_5)]) hx hb dJ14_bitCount_33 rfl hl (by decide) rfl (fun ls hl => ?_)
  refine lv_iload_n hx hb dJ14_bitCount_34 rfl (lv_at hl 0 rfl) ?_
  refine lv_iload_n hx hb dJ14_bitCount_35 rfl (lv_at hl 0 rfl) ?_
  refine lv_bipush (v := (8:Int32)) hx hb dJ14_bitCount_36 (by decide) ?_
  refine lv_iushr hx hb dJ14_bitCount_38 rfl ?_
  refine lv_iadd hx hb dJ14_bitCount_39 ?_
  obtain ⟨x0_7, e8, h⟩ := qlet_s h
  refine r_nm e8 ?_
  refine lv_istore_n (lv' := [(0, .int x0_7)]) hx hb dJ14_bitCount_40 rfl hl (by decide) rfl (fun ls hl => ?_)
  refine lv_iload_n hx hb dJ14_bitCount_41 rfl (lv_at hl 0 rfl) ?_
  refine lv_iload_n hx hb dJ14_bitCount_42 rfl (lv_at hl 0 rfl) ?_
  refine lv_bipush (v := (16:Int32)) hx hb dJ14_bitCount_43 (by decide) ?_
  refine lv_iushr hx hb dJ14_bitCount_45 rfl ?_
  refine lv_iadd hx hb dJ14_bitCount_46 ?_
  obtain ⟨x0_9, e10, h⟩ := qlet_s h
  refine r_nm e10 ?_
  refine lv_istore_n (lv' := [(0, .int x0_9)]) hx hb dJ14_bitCount_47 rfl hl (by decide) rfl (fun ls hl => ?_)
  refine lv_iload_n hx hb dJ14_bitCount_48 rfl (lv_at hl 0 rfl) ?_
  refine lv_bipush (v := (63:Int32)) hx hb dJ14_bitCount_49 (by decide) ?_
  refine lv_iand hx hb dJ14_bitCount_51 ?_
  have h := Option.some.inj h
  have h1 := h
  exact d_iret E hr rfl hw h1 rfl dJ14_bitCount_52

theorem m_J14_bitCount (l : Launch) {K : QK} {G : State → Prop} (hG : QG G) {w : QW} {x0 : Int32} {ro : Int32} (h : f_J14_bitCount x0 = some ro) : MC l K G yJ14_bitCount (ws_ yJ14_bitCount cJ14_bitCount 1 (some .int)) 1 40 0 0 [.int x0] w (QR (some (.int ro)) w) := by
  refine MC.of (by decide) (Nat.le_of_ble_eq_true rfl) (lv := [(0, .int x0)]) rfl (fun p e s m below meth c ls E hr hl hw => ?_)
  exact w_J14_bitCount_0 hG E hr _  h hw hl

def f_X0_held (x0 : Int64) (x2 : Int32) (x3 : Int32) : Option (Int32) :=
  some (((if (if x0 < (x3).toInt64 then x0 else (x3).toInt64) < (x2).toInt64 then (x2).toInt64 else (if x0 < (x3).toInt64 then x0 else (x3).toInt64))).toInt32)
set_option maxHeartbeats 4000000 in
theorem w_X0_held_0 {p : Program} {l : Launch} {e : Env} {s : State} {m : MethodId} {args : Array Value} {below : List Frame} {meth : Method} {c : Code} {K : QK} {G : State → Prop} {rs : QA × QL × QX × QM} {A : QA} {ro : Int32} (hG : QG G) (hC : QCl K) (E : EV K G p s m args meth c cX0_held "VaneCourt" 4) (hr : meth.sig.returnType = (some .int)) : ∀ (x0 : Int64) (x2 : Int32) (x3 : Int32) {H : Heap} {locs : List Loc} {ls : Array Slot}, f_X0_held x0 x2 x3 = some ro → WP K (A, rs) H locs → lv_has ls 4 [(0, .long x0), (2, .int x2), (3, .int x3)] → W p l e (qrm 2 63 0 0) s m args below meth c H locs 0 0 (MQ below (QE K (QR (some (.int ro)) (A, rs))) args s 0 0 (qA K)) (F0 m 0 ls []) := by
  have hx := E.1
  have hb := E.2.1
  have hown := E.2.2.1
  have hts := E.2.2.2.2.1
  intro x0 x2 x3 H locs ls  h hw hl
  rw [f_X0_held] at h
  refine lv_iload_n hx hb dX0_held_0 rfl (lv_at hl 1 rfl) ?_
  refine lv_i2l hx hb dX0_held_1 rfl ?_
  refine lv_iload_n hx hb dX0_held_2 rfl (lv_at hl 2 rfl) ?_
  refine lv_i2l hx hb dX0_held_3 rfl ?_
  refine lv_lload_n hx hb dX0_held_4 rfl (lv_at hl 0 rfl) ?_
  refine va_mmin_long hx hb (E.2.2.2.2.2.2.2.trans hl.1.symm) hown (hts _ q1046) (hts _ q992) (hts _ q150) (hts _ q993) (Nat.le_of_ble_eq_true rfl) (Nat.le_of_ble_eq_true rfl) (Nat.le_refl _) (Nat.le_refl _) dX0_held_5 ?_
  refine va_mmax_long hx hb (E.2.2.2.2.2.2.2.trans hl.1.symm) hown (hts _ q1047) (hts _ q995) (hts _ q150) (hts _ q996) (Nat.le_of_ble_eq_true rfl) (Nat.le_of_ble_eq_true rfl) (Nat.le_refl _) (Nat.le_refl _) dX0_held_8 ?_
  refine lv_l2i hx hb dX0_held_11 rfl ?_
  have h := Option.some.inj h
  have h1 := h
  exact d_iret E hr rfl hw h1 rfl dX0_held_12

theorem m_X0_held (l : Launch) {K : QK} {G : State → Prop} (hG : QG G) (hC : QCl K) {rs : QA × QL × QX × QM} {A : QA} {x0 : Int64} {x2 : Int32} {x3 : Int32} {ro : Int32} (h : f_X0_held x0 x2 x3 = some ro) : MC l K G yX0_held (ws_ yX0_held cX0_held 4 (some .int)) 2 63 0 0 [.long x0, .int x2, .int x3] (A, rs) (QR (some (.int ro)) (A, rs)) := by
  refine MC.of (by decide) (Nat.le_of_ble_eq_true rfl) (lv := [(0, .long x0), (2, .int x2), (3, .int x3)]) rfl (fun p e s m below meth c ls E hr hl hw => ?_)
  exact w_X0_held_0 hG hC E hr _ _ _  h hw hl

def f_X0_writes_28 (r0 : Nat) (x1 : Int32) (x2 : Int32) (A : QA) : Option (QA) :=
  qlet ((34:Int32) + ((4:Int32) * (A r0 33))) fun x3_1 =>
  qif (qok x3_1 154) <|
  qlet (qu A r0 x3_1.toNatClampNeg (A r0 3)) fun A4 =>
  qif (qok (x3_1 + (1:Int32)) 154) <|
  qlet (qu A4 r0 (x3_1 + (1:Int32)).toNatClampNeg x1) fun A7 =>
  qif (qok (x3_1 + (2:Int32)) 154) <|
  qlet (qu A7 r0 (x3_1 + (2:Int32)).toNatClampNeg x2) fun A10 =>
  qif (qok ((17:Int32) + x1) 154) <|
  qif (qok (x3_1 + (3:Int32)) 154) <|
  qlet (qu A10 r0 (x3_1 + (3:Int32)).toNatClampNeg (A10 r0 ((17:Int32) + x1).toNatClampNeg)) fun A14 =>
  qlet (qu A14 r0 33 ((A14 r0 33) + (1:Int32))) fun A16 =>
  some (A16)
set_option maxHeartbeats 4000000 in
theorem w_X0_writes_28 {p : Program} {l : Launch} {e : Env} {s : State} {m : MethodId} {args : Array Value} {below : List Frame} {meth : Method} {c : Code} {K : QK} {G : State → Prop} {rs : QA × QL × QX × QM} {Ao : QA} (hG : QG G) (hC : QCl K) (E : EV K G p s m args meth c cX0_writes "VaneCourt" 4) (hr : meth.sig.returnType = none) : ∀ (r0 : Nat) (x1 : Int32) (x2 : Int32) (A : QA) {H : Heap} {locs : List Loc} {ls : Array Slot}, qia K r0 154 → f_X0_writes_28 r0 x1 x2 A = some Ao → WP K (A, rs) H locs → lv_has ls 4 [(0, .ref (K.2.1 r0)), (1, .int x1), (2, .int x2)] → W p l e (qrm 2 40 0 0) s m args below meth c H locs 0 0 (MQ below (QE K (QR none (Ao, rs))) args s 0 0 (qA K)) (F0 m 28 ls []) := by
  have hx := E.1
  have hb := E.2.1
  have hown := E.2.2.1
  have hts := E.2.2.2.2.1
  intro r0 x1 x2 A H locs ls hr0 h hw hl
  rw [f_X0_writes_28] at h
  refine lv_bipush (v := (34:Int32)) hx hb dX0_writes_28 (by decide) ?_
  refine lv_iconst (v := (4:Int32)) hx hb dX0_writes_30 (by decide) ?_
  refine lv_aload_n hx hb dX0_writes_31 rfl (lv_at hl 0 rfl) ?_
  refine lv_bipush (v := (33:Int32)) hx hb dX0_writes_32 (by decide) ?_
  refine r_iald (j := 33) E hw (hr0).at (q_lit (k := 33) (n := 154) rfl rfl) (q_clamp (k := 33) rfl) dX0_writes_34 ?_
  refine lv_imul hx hb dX0_writes_35 ?_
  refine lv_iadd hx hb dX0_writes_36 ?_
  obtain ⟨x3_1, e2, h⟩ := qlet_s h
  refine r_nm e2 ?_
  refine lv_istore_n (lv' := [(3, .int x3_1), (0, .ref (K.2.1 r0)), (1, .int x1), (2, .int x2)]) hx hb dX0_writes_37 rfl hl (by decide) rfl (fun ls hl => ?_)
  refine lv_aload_n hx hb dX0_writes_38 rfl (lv_at hl 1 rfl) ?_
  refine lv_iload_n hx hb dX0_writes_39 rfl (lv_at hl 0 rfl) ?_
  refine lv_aload_n hx hb dX0_writes_40 rfl (lv_at hl 1 rfl) ?_
  refine lv_iconst (v := (3:Int32)) hx hb dX0_writes_41 (by decide) ?_
  refine r_iald (j := 3) E hw (hr0).at (q_lit (k := 3) (n := 154) rfl rfl) (q_clamp (k := 3) rfl) dX0_writes_42 ?_
  obtain ⟨z3, h⟩ := qif_s h
  obtain ⟨A4, e5, h⟩ := qlet_s h
  refine r_iastA (j := x3_1.toNatClampNeg) E hw (hr0) (qok_in z3) rfl dX0_writes_43 (fun H locs hw => ?_)
  rw [← e5] at hw
  refine lv_aload_n hx hb dX0_writes_44 rfl (lv_at hl 1 rfl) ?_
  refine lv_iload_n hx hb dX0_writes_45 rfl (lv_at hl 0 rfl) ?_
  refine lv_iconst (v := (1:Int32)) hx hb dX0_writes_46 (by decide) ?_
  refine lv_iadd hx hb dX0_writes_47 ?_
  refine lv_iload_n hx hb dX0_writes_48 rfl (lv_at hl 2 rfl) ?_
  obtain ⟨z6, h⟩ := qif_s h
  obtain ⟨A7, e8, h⟩ := qlet_s h
  refine r_iastA (j := (x3_1 + (1:Int32)).toNatClampNeg) E hw (hr0) (qok_in z6) rfl dX0_writes_49 (fun H locs hw => ?_)
  rw [← e8] at hw
  refine lv_aload_n hx hb dX0_writes_50 rfl (lv_at hl 1 rfl) ?_
  refine lv_iload_n hx hb dX0_writes_51 rfl (lv_at hl 0 rfl) ?_
  refine lv_iconst (v := (2:Int32)) hx hb dX0_writes_52 (by decide) ?_
  refine lv_iadd hx hb dX0_writes_53 ?_
  refine lv_iload_n hx hb dX0_writes_54 rfl (lv_at hl 3 rfl) ?_
  obtain ⟨z9, h⟩ := qif_s h
  obtain ⟨A10, e11, h⟩ := qlet_s h
  refine r_iastA (j := (x3_1 + (2:Int32)).toNatClampNeg) E hw (hr0) (qok_in z9) rfl dX0_writes_55 (fun H locs hw => ?_)
  rw [← e11] at hw
  refine lv_aload_n hx hb dX0_writes_56 rfl (lv_at hl 1 rfl) ?_
  refine lv_iload_n hx hb dX0_writes_57 rfl (lv_at hl 0 rfl) ?_
  refine lv_iconst (v := (3:Int32)) hx hb dX0_writes_58 (by decide) ?_
  refine lv_iadd hx hb dX0_writes_59 ?_
  refine lv_aload_n hx hb dX0_writes_60 rfl (lv_at hl 1 rfl) ?_
  refine lv_bipush (v := (17:Int32)) hx hb dX0_writes_61 (by decide) ?_
  refine lv_iload_n hx hb dX0_writes_63 rfl (lv_at hl 2 rfl) ?_
  refine lv_iadd hx hb dX0_writes_64 ?_
  obtain ⟨z12, h⟩ := qif_s h
  refine r_iald (j := ((17:Int32) + x1).toNatClampNeg) E hw (hr0).at (qok_in z12) rfl dX0_writes_65 ?_
  obtain ⟨z13, h⟩ := qif_s h
  obtain ⟨A14, e15, h⟩ := qlet_s h
  refine r_iastA (j := (x3_1 + (3:Int32)).toNatClampNeg) E hw (hr0) (qok_in z13) rfl dX0_writes_66 (fun H locs hw => ?_)
  rw [← e15] at hw
  refine lv_aload_n hx hb dX0_writes_67 rfl (lv_at hl 1 rfl) ?_
  refine lv_bipush (v := (33:Int32)) hx hb dX0_writes_68 (by decide) ?_
  refine lv_dup2_11 hx hb dX0_writes_70 rfl rfl ?_
  refine r_iald (j := 33) E hw (hr0).at (q_lit (k := 33) (n := 154) rfl rfl) (q_clamp (k := 33) rfl) dX0_writes_71 ?_
  refine lv_iconst (v := (1:Int32)) hx hb dX0_writes_72 (by decide) ?_
  refine lv_iadd hx hb dX0_writes_73 ?_
  obtain ⟨A16, e17, h⟩ := qlet_s h
  refine r_iastA (j := 33) E hw (hr0) (q_lit (k := 33) (n := 154) rfl rfl) (q_clamp (k := 33) rfl) dX0_writes_74 (fun H locs hw => ?_)
  rw [← e17] at hw
  have h := Option.some.inj h
  have h1 := h
  exact d_ret E hr hw (by rw [h1]) dX0_writes_75

def f_X0_writes (r0 : Nat) (x1 : Int32) (x2 : Int32) (A : QA) : Option (QA) :=
  if (A r0 33) = (30:Int32) then (
  qlet (qset A r0 (va_cpy (A r0) (A r0) 38 34 116)) fun A18 =>
  qlet (qu A18 r0 33 ((A18 r0 33) - (1:Int32))) fun A20 =>
  f_X0_writes_28 r0 x1 x2 A20) else (
  f_X0_writes_28 r0 x1 x2 A)
set_option maxHeartbeats 4000000 in
theorem w_X0_writes_0 {p : Program} {l : Launch} {e : Env} {s : State} {m : MethodId} {args : Array Value} {below : List Frame} {meth : Method} {c : Code} {K : QK} {G : State → Prop} {rs : QA × QL × QX × QM} {Ao : QA} (hG : QG G) (hC : QCl K) (E : EV K G p s m args meth c cX0_writes "VaneCourt" 4) (hr : meth.sig.returnType = none) : ∀ (r0 : Nat) (x1 : Int32) (x2 : Int32) (A : QA) {H : Heap} {locs : List Loc} {ls : Array Slot}, qia K r0 154 → f_X0_writes r0 x1 x2 A = some Ao → WP K (A, rs) H locs → lv_has ls 4 [(0, .ref (K.2.1 r0)), (1, .int x1), (2, .int x2)] → W p l e (qrm 2 40 0 0) s m args below meth c H locs 0 0 (MQ below (QE K (QR none (Ao, rs))) args s 0 0 (qA K)) (F0 m 0 ls []) := by
  have hx := E.1
  have hb := E.2.1
  have hown := E.2.2.1
  have hts := E.2.2.2.2.1
  intro r0 x1 x2 A H locs ls hr0 h hw hl
  rw [f_X0_writes] at h
  refine lv_aload_n hx hb dX0_writes_0 rfl (lv_at hl 0 rfl) ?_
  refine lv_bipush (v := (33:Int32)) hx hb dX0_writes_1 (by decide) ?_
  refine r_iald (j := 33) E hw (hr0).at (q_lit (k := 33) (n := 154) rfl rfl) (q_clamp (k := 33) rfl) dX0_writes_3 ?_
  refine lv_bipush (v := (30:Int32)) hx hb dX0_writes_4 (by decide) ?_
  refine lv_icmp_ne (tgt := 28) hx hb dX0_writes_6 (by decide) (fun c => ?_) (fun c => ?_)
  · have h := qi_f c h
    exact w_X0_writes_28 hG hC E hr  _ _ _ _  (hr0) h hw (lv_sub hl [0, 1, 2] rfl)
  · have h := qi_t c h
    refine lv_aload_n hx hb dX0_writes_9 rfl (lv_at hl 0 rfl) ?_
    refine lv_bipush (v := (38:Int32)) hx hb dX0_writes_10 (by decide) ?_
    refine lv_aload_n hx hb dX0_writes_12 rfl (lv_at hl 0 rfl) ?_
    refine lv_bipush (v := (34:Int32)) hx hb dX0_writes_13 (by decide) ?_
    refine lv_bipush (v := (116:Int32)) hx hb dX0_writes_15 (by decide) ?_
    obtain ⟨A18, e19, h⟩ := qlet_s h
    refine r_copyA (j0 := 38) (j1 := 34) (j2 := 116) E hl hw (hr0) (hr0) q1051 q234 q233 q139 (by decide) (by decide) (by decide) (q_clamp (k := 38) rfl) (q_clamp (k := 34) rfl) (q_clamp (k := 116) rfl) (Nat.le_of_ble_eq_true rfl) (Nat.le_of_ble_eq_true rfl) (Nat.le_of_ble_eq_true rfl) (Nat.le_of_ble_eq_true rfl) dX0_writes_17 (fun H locs hw => ?_)
    rw [← e19] at hw
    refine lv_aload_n hx hb dX0_writes_20 rfl (lv_at hl 0 rfl) ?_
    refine lv_bipush (v := (33:Int32)) hx hb dX0_writes_21 (by decide) ?_
    refine lv_dup2_11 hx hb dX0_writes_23 rfl rfl ?_
    refine r_iald (j := 33) E hw (hr0).at (q_lit (k := 33) (n := 154) rfl rfl) (q_clamp (k := 33) rfl) dX0_writes_24 ?_
    refine lv_iconst (v := (1:Int32)) hx hb dX0_writes_25 (by decide) ?_
    refine lv_isub hx hb dX0_writes_26 ?_
    obtain ⟨A20, e21, h⟩ := qlet_s h
    refine r_iastA (j := 33) E hw (hr0) (q_lit (k := 33) (n := 154) rfl rfl) (q_clamp (k := 33) rfl) dX0_writes_27 (fun H locs hw => ?_)
    rw [← e21] at hw
    exact w_X0_writes_28 hG hC E hr  _ _ _ _  (hr0) h hw (lv_sub hl [0, 1, 2] rfl)

theorem m_X0_writes (l : Launch) {K : QK} {G : State → Prop} (hG : QG G) (hC : QCl K) {rs : QA × QL × QX × QM} {r0 : Nat} {x1 : Int32} {x2 : Int32} {A : QA} {Ao : QA} (hr0 : qia K r0 154) (h : f_X0_writes r0 x1 x2 A = some Ao) : MC l K G yX0_writes (ws_ yX0_writes cX0_writes 4 none) 2 40 0 0 [.ref (K.2.1 r0), .int x1, .int x2] (A, rs) (QR none (Ao, rs)) := by
  refine MC.of (by decide) (Nat.le_of_ble_eq_true rfl) (lv := [(0, .ref (K.2.1 r0)), (1, .int x1), (2, .int x2)]) rfl (fun p e s m below meth c ls E hr hl hw => ?_)
  exact w_X0_writes_0 hG hC E hr _ _ _ _ hr0 h hw hl

def f_X0_leaves (r0 : Nat) (A : QA) : Option (QA) :=
  qlet (qu A r0 5 (-1:Int32)) fun A1 =>
  qlet (qu A1 r0 6 (0:Int32)) fun A3 =>
  qlet (qu A3 r0 7 (0:Int32)) fun A5 =>
  qlet (qu A5 r0 8 (0:Int32)) fun A7 =>
  some (A7)
set_option maxHeartbeats 4000000 in
theorem w_X0_leaves_0 {p : Program} {l : Launch} {e : Env} {s : State} {m : MethodId} {args : Array Value} {below : List Frame} {meth : Method} {c : Code} {K : QK} {G : State → Prop} {rs : QA × QL × QX × QM} {Ao : QA} (hG : QG G) (hC : QCl K) (E : EV K G p s m args meth c cX0_leaves "VaneCourt" 1) (hr : meth.sig.returnType = none) : ∀ (r0 : Nat) (A : QA) {H : Heap} {locs : List Loc} {ls : Array Slot}, qia K r0 154 → f_X0_leaves r0 A = some Ao → WP K (A, rs) H locs → lv_has ls 1 [(0, .ref (K.2.1 r0))] → W p l e (qrm 1 40 0 0) s m args below meth c H locs 0 0 (MQ below (QE K (QR none (Ao, rs))) args s 0 0 (qA K)) (F0 m 0 ls []) := by
  have hx := E.1
  have hb := E.2.1
  have hown := E.2.2.1
  have hts := E.2.2.2.2.1
  intro r0 A H locs ls hr0 h hw hl
  rw [f_X0_leaves] at h
  refine lv_aload_n hx hb dX0_leaves_0 rfl (lv_at hl 0 rfl) ?_
  refine lv_iconst (v := (5:Int32)) hx hb dX0_leaves_1 (by decide) ?_
  refine lv_iconst (v := (-1:Int32)) hx hb dX0_leaves_2 (by decide) ?_
  obtain ⟨A1, e2, h⟩ := qlet_s h
  refine r_iastA (j := 5) E hw (hr0) (q_lit (k := 5) (n := 154) rfl rfl) (q_clamp (k := 5) rfl) dX0_leaves_3 (fun H locs hw => ?_)
  rw [← e2] at hw
  refine lv_aload_n hx hb dX0_leaves_4 rfl (lv_at hl 0 rfl) ?_
  refine lv_bipush (v := (6:Int32)) hx hb dX0_leaves_5 (by decide) ?_
  refine lv_iconst (v := (0:Int32)) hx hb dX0_leaves_7 (by decide) ?_
  obtain ⟨A3, e4, h⟩ := qlet_s h
  refine r_iastA (j := 6) E hw (hr0) (q_lit (k := 6) (n := 154) rfl rfl) (q_clamp (k := 6) rfl) dX0_leaves_8 (fun H locs hw => ?_)
  rw [← e4] at hw
  refine lv_aload_n hx hb dX0_leaves_9 rfl (lv_at hl 0 rfl) ?_
  refine lv_bipush (v := (7:Int32)) hx hb dX0_leaves_10 (by decide) ?_
  refine lv_iconst (v := (0:Int32)) hx hb dX0_leaves_12 (by decide) ?_
  obtain ⟨A5, e6, h⟩ := qlet_s h
  refine r_iastA (j := 7) E hw (hr0) (q_lit (k := 7) (n := 154) rfl rfl) (q_clamp (k := 7) rfl) dX0_leaves_13 (fun H locs hw => ?_)
  rw [← e6] at hw
  refine lv_aload_n hx hb dX0_leaves_14 rfl (lv_at hl 0 rfl) ?_
  refine lv_bipush (v := (8:Int32)) hx hb dX0_leaves_15 (by decide) ?_
  refine lv_iconst (v := (0:Int32)) hx hb dX0_leaves_17 (by decide) ?_
  obtain ⟨A7, e8, h⟩ := qlet_s h
  refine r_iastA (j := 8) E hw (hr0) (q_lit (k := 8) (n := 154) rfl rfl) (q_clamp (k := 8) rfl) dX0_leaves_18 (fun H locs hw => ?_)
  rw [← e8] at hw
  have h := Option.some.inj h
  have h1 := h
  exact d_ret E hr hw (by rw [h1]) dX0_leaves_19

theorem m_X0_leaves (l : Launch) {K : QK} {G : State → Prop} (hG : QG G) (hC : QCl K) {rs : QA × QL × QX × QM} {r0 : Nat} {A : QA} {Ao : QA} (hr0 : qia K r0 154) (h : f_X0_leaves r0 A = some Ao) : MC l K G yX0_leaves (ws_ yX0_leaves cX0_leaves 1 none) 1 40 0 0 [.ref (K.2.1 r0)] (A, rs) (QR none (Ao, rs)) := by
  refine MC.of (by decide) (Nat.le_of_ble_eq_true rfl) (lv := [(0, .ref (K.2.1 r0))]) rfl (fun p e s m below meth c ls E hr hl hw => ?_)
  exact w_X0_leaves_0 hG hC E hr _ _ hr0 h hw hl

def f_X0_draws (r0 : Nat) (A : QA) : Option (QA) :=
  qlet (qu A r0 4 ((((A r0 4) * (331:Int32)) + (223:Int32)) - (((A r0 4) * (331:Int32)) + (223:Int32)) / (30389:Int32) * (30389:Int32))) fun A1 =>
  some (A1)
set_option maxHeartbeats 4000000 in
theorem w_X0_draws_0 {p : Program} {l : Launch} {e : Env} {s : State} {m : MethodId} {args : Array Value} {below : List Frame} {meth : Method} {c : Code} {K : QK} {G : State → Prop} {rs : QA × QL × QX × QM} {Ao : QA} (hG : QG G) (hC : QCl K) (E : EV K G p s m args meth c cX0_draws "VaneCourt" 1) (hr : meth.sig.returnType = none) : ∀ (r0 : Nat) (A : QA) {H : Heap} {locs : List Loc} {ls : Array Slot}, qia K r0 154 → f_X0_draws r0 A = some Ao → WP K (A, rs) H locs → lv_has ls 1 [(0, .ref (K.2.1 r0))] → W p l e (qrm 1 40 0 0) s m args below meth c H locs 0 0 (MQ below (QE K (QR none (Ao, rs))) args s 0 0 (qA K)) (F0 m 0 ls []) := by
  have hx := E.1
  have hb := E.2.1
  have hown := E.2.2.1
  have hts := E.2.2.2.2.1
  intro r0 A H locs ls hr0 h hw hl
  rw [f_X0_draws] at h
  refine lv_aload_n hx hb dX0_draws_0 rfl (lv_at hl 0 rfl) ?_
  refine lv_iconst (v := (4:Int32)) hx hb dX0_draws_1 (by decide) ?_
  refine lv_aload_n hx hb dX0_draws_2 rfl (lv_at hl 0 rfl) ?_
  refine lv_iconst (v := (4:Int32)) hx hb dX0_draws_3 (by decide) ?_
  refine r_iald (j := 4) E hw (hr0).at (q_lit (k := 4) (n := 154) rfl rfl) (q_clamp (k := 4) rfl) dX0_draws_4 ?_
  refine lv_sipush (v := (331:Int32)) hx hb dX0_draws_5 (by decide) ?_
  refine lv_imul hx hb dX0_draws_8 ?_
  refine lv_sipush (v := (223:Int32)) hx hb dX0_draws_9 (by decide) ?_
  refine lv_iadd hx hb dX0_draws_12 ?_
  refine lv_sipush (v := (30389:Int32)) hx hb dX0_draws_13 (by decide) ?_
  refine lv_irem hx hb dX0_draws_16 (by decide) ?_
  obtain ⟨A1, e2, h⟩ := qlet_s h
  refine r_iastA (j := 4) E hw (hr0) (q_lit (k := 4) (n := 154) rfl rfl) (q_clamp (k := 4) rfl) dX0_draws_17 (fun H locs hw => ?_)
  rw [← e2] at hw
  have h := Option.some.inj h
  have h1 := h
  exact d_ret E hr hw (by rw [h1]) dX0_draws_18

theorem m_X0_draws (l : Launch) {K : QK} {G : State → Prop} (hG : QG G) (hC : QCl K) {rs : QA × QL × QX × QM} {r0 : Nat} {A : QA} {Ao : QA} (hr0 : qia K r0 154) (h : f_X0_draws r0 A = some Ao) : MC l K G yX0_draws (ws_ yX0_draws cX0_draws 1 none) 1 40 0 0 [.ref (K.2.1 r0)] (A, rs) (QR none (Ao, rs)) := by
  refine MC.of (by decide) (Nat.le_of_ble_eq_true rfl) (lv := [(0, .ref (K.2.1 r0))]) rfl (fun p e s m below meth c ls E hr hl hw => ?_)
  exact w_X0_draws_0 hG hC E hr _ _ hr0 h hw hl

def f_X0_draw (r0 : Nat) (A : QA) : Option (Int32 × QA) :=
  qlet ((A r0 4) - (A r0 4) / (10:Int32) * (10:Int32)) fun x1_1 =>
  qb1 (f_X0_draws r0 A) fun A3 =>
  some (x1_1, A3)
set_option maxHeartbeats 4000000 in
theorem w_X0_draw_0 {p : Program} {l : Launch} {e : Env} {s : State} {m : MethodId} {args : Array Value} {below : List Frame} {meth : Method} {c : Code} {K : QK} {G : State → Prop} {rs : QA × QL × QX × QM} {ro : Int32} {Ao : QA} (hG : QG G) (hC : QCl K) (E : EV K G p s m args meth c cX0_draw "VaneCourt" 2) (hr : meth.sig.returnType = (some .int)) : ∀ (r0 : Nat) (A : QA) {H : Heap} {locs : List Loc} {ls : Array Slot}, qia K r0 154 → f_X0_draw r0 A = some (ro, Ao) → WP K (A, rs) H locs → lv_has ls 2 [(0, .ref (K.2.1 r0))] → W p l e (qrm 2 60 0 0) s m args below meth c H locs 0 0 (MQ below (QE K (QR (some (.int ro)) (Ao, rs))) args s 0 0 (qA K)) (F0 m 0 ls []) := by
  have hx := E.1
  have hb := E.2.1
  have hown := E.2.2.1
  have hts := E.2.2.2.2.1
  intro r0 A H locs ls hr0 h hw hl
  rw [f_X0_draw] at h
  refine lv_aload_n hx hb dX0_draw_0 rfl (lv_at hl 0 rfl) ?_
  refine lv_iconst (v := (4:Int32)) hx hb dX0_draw_1 (by decide) ?_
  refine r_iald (j := 4) E hw (hr0).at (q_lit (k := 4) (n := 154) rfl rfl) (q_clamp (k := 4) rfl) dX0_draw_2 ?_
  refine lv_bipush (v := (10:Int32)) hx hb dX0_draw_3 (by decide) ?_
  refine lv_irem hx hb dX0_draw_5 (by decide) ?_
  obtain ⟨x1_1, e2, h⟩ := qlet_s h
  refine r_nm e2 ?_
  refine lv_istore_n (lv' := [(1, .int x1_1), (0, .ref (K.2.1 r0))]) hx hb dX0_draw_6 rfl hl (by decide) rfl (fun ls hl => ?_)
  refine lv_aload_n hx hb dX0_draw_7 rfl (lv_at hl 1 rfl) ?_
  obtain ⟨A3, g4, h⟩ := qb1_s h
  refine d_S (As := [.ref (K.2.1 r0)]) (v0 := none) (w0 := (A3, rs)) hG E hw hl (m_X0_draws l hG hC (hr0) g4) (va_cwS 1 hts (lw_S q1058 q1059 q137 q1060) rfl rfl rfl kd_X0_draws ⟨Nat.le_of_ble_eq_true rfl, Nat.le_of_ble_eq_true rfl⟩) rfl (rest := []) (st1 := []) rfl rfl rfl dX0_draw_8 ⟨Nat.le_of_ble_eq_true rfl, Nat.le_of_ble_eq_true rfl⟩ (fun H locs hw => ?_)
  refine lv_iload_n hx hb dX0_draw_11 rfl (lv_at hl 0 rfl) ?_
  have h := Option.some.inj h
  obtain ⟨h1, h2⟩ := Prod.mk.inj h
  exact d_iret E hr rfl hw h1 (by rw [h2]) dX0_draw_12

theorem m_X0_draw (l : Launch) {K : QK} {G : State → Prop} (hG : QG G) (hC : QCl K) {rs : QA × QL × QX × QM} {r0 : Nat} {A : QA} {ro : Int32} {Ao : QA} (hr0 : qia K r0 154) (h : f_X0_draw r0 A = some (ro, Ao)) : MC l K G yX0_draw (ws_ yX0_draw cX0_draw 2 (some .int)) 2 60 0 0 [.ref (K.2.1 r0)] (A, rs) (QR (some (.int ro)) (Ao, rs)) := by
  refine MC.of (by decide) (Nat.le_of_ble_eq_true rfl) (lv := [(0, .ref (K.2.1 r0))]) rfl (fun p e s m below meth c ls E hr hl hw => ?_)
  exact w_X0_draw_0 hG hC E hr _ _ hr0 h hw hl

def f_X0_isCase (x1 : Int32) (A : QA) : Option (Int32) :=
  qb1 (f_X0_in x1 (0:Int32) ((A 100 0) - (1:Int32))) fun u1 =>
  qif (qbo u1) <|
  some (u1)
set_option maxHeartbeats 4000000 in
theorem w_X0_isCase_0 {p : Program} {l : Launch} {e : Env} {s : State} {m : MethodId} {args : Array Value} {below : List Frame} {meth : Method} {c : Code} {K : QK} {G : State → Prop} {rs : QA × QL × QX × QM} {ro : Int32} (hG : QG G) (hC : QCl K) (E : EV K G p s m args meth c cX0_isCase "VaneCourt" 2) (hr : meth.sig.returnType = (some .boolean)) : ∀ (x1 : Int32) (A : QA) {H : Heap} {locs : List Loc} {ls : Array Slot}, f_X0_isCase x1 A = some ro → WP K (A, rs) H locs → lv_has ls 2 [(0, .ref (K.2.1 0)), (1, .int x1)] → W p l e (qrm 2 62 0 0) s m args below meth c H locs 0 0 (MQ below (QE K (QR (some (.int ro)) (A, rs))) args s 0 0 (qA K)) (F0 m 0 ls []) := by
  have hx := E.1
  have hb := E.2.1
  have hown := E.2.2.1
  have hts := E.2.2.2.2.1
  intro x1 A H locs ls  h hw hl
  rw [f_X0_isCase] at h
  refine lv_iload_n hx hb dX0_isCase_0 rfl (lv_at hl 1 rfl) ?_
  refine lv_iconst (v := (0:Int32)) hx hb dX0_isCase_1 (by decide) ?_
  refine lv_aload_n hx hb dX0_isCase_2 rfl (lv_at hl 0 rfl) ?_
  refine r_getX (v := .ref (K.2.1 1)) E hw hC 0 (by decide) q238 rfl dX0_isCase_3 ?_
  refine r_getS1 (v := .ref (K.2.1 100)) hG E hw hC 0 (by decide) q191 rfl dX0_isCase_6 ?_
  refine lv_iconst (v := (0:Int32)) hx hb dX0_isCase_9 (by decide) ?_
  refine r_iald (j := 0) E hw (qi_100 hC).at (q_lit (k := 0) (n := 7) rfl rfl) (q_clamp (k := 0) rfl) dX0_isCase_10 ?_
  refine lv_iconst (v := (1:Int32)) hx hb dX0_isCase_11 (by decide) ?_
  refine lv_isub hx hb dX0_isCase_12 ?_
  obtain ⟨u1, g2, h⟩ := qb1_s h
  refine d_S (As := [.int x1, .int (0:Int32), .int ((A 100 0) - (1:Int32))]) (v0 := some (.int u1)) (w0 := (A, rs)) hG E hw hl (m_X0_in l hG hC  g2) (va_cwS 3 hts (lw_S q283 q284 q137 q285) rfl rfl rfl kd_X0_in ⟨Nat.le_of_ble_eq_true rfl, Nat.le_of_ble_eq_true rfl⟩) rfl (rest := []) (st1 := [.int u1]) rfl rfl rfl dX0_isCase_13 ⟨Nat.le_of_ble_eq_true rfl, Nat.le_of_ble_eq_true rfl⟩ (fun H locs hw => ?_)
  obtain ⟨z3, h⟩ := qif_s h
  have h := Option.some.inj h
  have h1 := h
  exact d_iret E hr (qbo_n z3) hw h1 rfl dX0_isCase_16

theorem m_X0_isCase (l : Launch) {K : QK} {G : State → Prop} (hG : QG G) (hC : QCl K) {rs : QA × QL × QX × QM} {x1 : Int32} {A : QA} {ro : Int32} (h : f_X0_isCase x1 A = some ro) : MC l K G yX0_isCase (ws_ yX0_isCase cX0_isCase 2 (some .boolean)) 2 62 0 0 [.ref (K.2.1 0), .int x1] (A, rs) (QR (some (.int ro)) (A, rs)) := by
  refine MC.of (by decide) (Nat.le_of_ble_eq_true rfl) (lv := [(0, .ref (K.2.1 0)), (1, .int x1)]) rfl (fun p e s m below meth c ls E hr hl hw => ?_)
  exact w_X0_isCase_0 hG hC E hr _ _  h hw hl

def f_X0_waits (x1 : Int32) (A : QA) : Option (Int32) :=
  qb1 (f_X0_isCase x1 A) fun u1 =>
  if u1 = (0:Int32) then (
  some ((0:Int32))) else (
  qif (qok ((9:Int32) + x1) 154) <|
  if (A 101 ((9:Int32) + x1).toNatClampNeg) = (0:Int32) then (
  some ((1:Int32))) else (
  some ((0:Int32))))
set_option maxHeartbeats 4000000 in
theorem w_X0_waits_0 {p : Program} {l : Launch} {e : Env} {s : State} {m : MethodId} {args : Array Value} {below : List Frame} {meth : Method} {c : Code} {K : QK} {G : State → Prop} {rs : QA × QL × QX × QM} {ro : Int32} (hG : QG G) (hC : QCl K) (E : EV K G p s m args meth c cX0_waits "VaneCourt" 2) (hr : meth.sig.returnType = (some .boolean)) : ∀ (x1 : Int32) (A : QA) {H : Heap} {locs : List Loc} {ls : Array Slot}, f_X0_waits x1 A = some ro → WP K (A, rs) H locs → lv_has ls 2 [(0, .ref (K.2.1 0)), (1, .int x1)] → W p l e (qrm 3 83 0 0) s m args below meth c H locs 0 0 (MQ below (QE K (QR (some (.int ro)) (A, rs))) args s 0 0 (qA K)) (F0 m 0 ls []) := by
  have hx := E.1
  have hb := E.2.1
  have hown := E.2.2.1
  have hts := E.2.2.2.2.1
  intro x1 A H locs ls  h hw hl
  rw [f_X0_waits] at h
  refine lv_aload_n hx hb dX0_waits_0 rfl (lv_at hl 0 rfl) ?_
  refine lv_iload_n hx hb dX0_waits_1 rfl (lv_at hl 1 rfl) ?_
  obtain ⟨u1, g2, h⟩ := qb1_s h
  refine d_V (As := [.int x1]) (v0 := some (.int u1)) (w0 := (A, rs)) hG E hw hl (m_X0_isCase l hG hC  g2) (qX0 hC) rfl (cwV 1 hts (lw_V q1077 q1079 qs38 q137 q1080) rfl rfl rfl ⟨rfl, kd_X0_isCase⟩ ⟨Nat.le_of_ble_eq_true rfl, Nat.le_of_ble_eq_true rfl⟩) rfl (rest := []) (st1 := [.int u1]) rfl rfl rfl dX0_waits_2 ⟨Nat.le_of_ble_eq_true rfl, Nat.le_of_ble_eq_true rfl⟩ (fun H locs hw => ?_)
  refine lv_if_eq (tgt := 27) hx hb dX0_waits_5 (by decide) (fun c => ?_) (fun c => ?_)
  · have h := qi_t c h
    refine lv_iconst (v := (0:Int32)) hx hb dX0_waits_27 (by decide) ?_
    have h := Option.some.inj h
    have h1 := h
    exact d_iret E hr rfl hw h1 rfl dX0_waits_28
  · have h := qi_f c h
    refine lv_aload_n hx hb dX0_waits_8 rfl (lv_at hl 0 rfl) ?_
    refine r_getX (v := .ref (K.2.1 1)) E hw hC 0 (by decide) q238 rfl dX0_waits_9 ?_
    refine r_getS1 (v := .ref (K.2.1 101)) hG E hw hC 1 (by decide) q193 rfl dX0_waits_12 ?_
    refine lv_bipush (v := (9:Int32)) hx hb dX0_waits_15 (by decide) ?_
    refine lv_iload_n hx hb dX0_waits_17 rfl (lv_at hl 1 rfl) ?_
    refine lv_iadd hx hb dX0_waits_18 ?_
    obtain ⟨z3, h⟩ := qif_s h
    refine r_iald (j := ((9:Int32) + x1).toNatClampNeg) E hw (qi_101 hC).at (qok_in z3) rfl dX0_waits_19 ?_
    refine lv_if_ne (tgt := 27) hx hb dX0_waits_20 (by decide) (fun c => ?_) (fun c => ?_)
    · have h := qi_f c h
      refine lv_iconst (v := (0:Int32)) hx hb dX0_waits_27 (by decide) ?_
      have h := Option.some.inj h
      have h1 := h
      exact d_iret E hr rfl hw h1 rfl dX0_waits_28
    · have h := qi_t c h
      refine lv_iconst (v := (1:Int32)) hx hb dX0_waits_23 (by decide) ?_
      refine lv_goto (tgt := 28) hx hb dX0_waits_24 (by decide) ?_
      have h := Option.some.inj h
      have h1 := h
      exact d_iret E hr rfl hw h1 rfl dX0_waits_28

theorem m_X0_waits (l : Launch) {K : QK} {G : State → Prop} (hG : QG G) (hC : QCl K) {rs : QA × QL × QX × QM} {x1 : Int32} {A : QA} {ro : Int32} (h : f_X0_waits x1 A = some ro) : MC l K G yX0_waits (ws_ yX0_waits cX0_waits 2 (some .boolean)) 3 83 0 0 [.ref (K.2.1 0), .int x1] (A, rs) (QR (some (.int ro)) (A, rs)) := by
  refine MC.of (by decide) (Nat.le_of_ble_eq_true rfl) (lv := [(0, .ref (K.2.1 0)), (1, .int x1)]) rfl (fun p e s m below meth c ls E hr hl hw => ?_)
  exact w_X0_waits_0 hG hC E hr _ _  h hw hl

def f_X0_canCall (x1 : Int32) (A : QA) : Option (Int32) :=
  qb1 (f_X0_waits x1 A) fun u1 =>
  if u1 = (0:Int32) then (
  some ((0:Int32))) else (
  if (A 101 5) = (-1:Int32) then (
  some ((1:Int32))) else (
  some ((0:Int32))))
set_option maxHeartbeats 4000000 in
theorem w_X0_canCall_0 {p : Program} {l : Launch} {e : Env} {s : State} {m : MethodId} {args : Array Value} {below : List Frame} {meth : Method} {c : Code} {K : QK} {G : State → Prop} {rs : QA × QL × QX × QM} {ro : Int32} (hG : QG G) (hC : QCl K) (E : EV K G p s m args meth c cX0_canCall "VaneCourt" 2) (hr : meth.sig.returnType = (some .boolean)) : ∀ (x1 : Int32) (A : QA) {H : Heap} {locs : List Loc} {ls : Array Slot}, f_X0_canCall x1 A = some ro → WP K (A, rs) H locs → lv_has ls 2 [(0, .ref (K.2.1 0)), (1, .int x1)] → W p l e (qrm 4 104 0 0) s m args below meth c H locs 0 0 (MQ below (QE K (QR (some (.int ro)) (A, rs))) args s 0 0 (qA K)) (F0 m 0 ls []) := by
  have hx := E.1
  have hb := E.2.1
  have hown := E.2.2.1
  have hts := E.2.2.2.2.1
  intro x1 A H locs ls  h hw hl
  rw [f_X0_canCall] at h
  refine lv_aload_n hx hb dX0_canCall_0 rfl (lv_at hl 0 rfl) ?_
  refine lv_iload_n hx hb dX0_canCall_1 rfl (lv_at hl 1 rfl) ?_
  obtain ⟨u1, g2, h⟩ := qb1_s h
  refine d_V (As := [.int x1]) (v0 := some (.int u1)) (w0 := (A, rs)) hG E hw hl (m_X0_waits l hG hC  g2) (qX0 hC) rfl (cwV 1 hts (lw_V q1073 q1075 qs37 q137 q1076) rfl rfl rfl ⟨rfl, kd_X0_waits⟩ ⟨Nat.le_of_ble_eq_true rfl, Nat.le_of_ble_eq_true rfl⟩) rfl (rest := []) (st1 := [.int u1]) rfl rfl rfl dX0_canCall_2 ⟨Nat.le_of_ble_eq_true rfl, Nat.le_of_ble_eq_true rfl⟩ (fun H locs hw => ?_)
  refine lv_if_eq (tgt := 25) hx hb dX0_canCall_5 (by decide) (fun c => ?_) (fun c => ?_)
  · have h := qi_t c h
    refine lv_iconst (v := (0:Int32)) hx hb dX0_canCall_25 (by decide) ?_
    have h := Option.some.inj h
    have h1 := h
    exact d_iret E hr rfl hw h1 rfl dX0_canCall_26
  · have h := qi_f c h
    refine lv_aload_n hx hb dX0_canCall_8 rfl (lv_at hl 0 rfl) ?_
    refine r_getX (v := .ref (K.2.1 1)) E hw hC 0 (by decide) q238 rfl dX0_canCall_9 ?_
    refine r_getS1 (v := .ref (K.2.1 101)) hG E hw hC 1 (by decide) q193 rfl dX0_canCall_12 ?_
    refine lv_iconst (v := (5:Int32)) hx hb dX0_canCall_15 (by decide) ?_
    refine r_iald (j := 5) E hw (qi_101 hC).at (q_lit (k := 5) (n := 154) rfl rfl) (q_clamp (k := 5) rfl) dX0_canCall_16 ?_
    refine lv_iconst (v := (-1:Int32)) hx hb dX0_canCall_17 (by decide) ?_
    refine lv_icmp_ne (tgt := 25) hx hb dX0_canCall_18 (by decide) (fun c => ?_) (fun c => ?_)
    · have h := qi_f c h
      refine lv_iconst (v := (0:Int32)) hx hb dX0_canCall_25 (by decide) ?_
      have h := Option.some.inj h
      have h1 := h
      exact d_iret E hr rfl hw h1 rfl dX0_canCall_26
    · have h := qi_t c h
      refine lv_iconst (v := (1:Int32)) hx hb dX0_canCall_21 (by decide) ?_
      refine lv_goto (tgt := 26) hx hb dX0_canCall_22 (by decide) ?_
      have h := Option.some.inj h
      have h1 := h
      exact d_iret E hr rfl hw h1 rfl dX0_canCall_26

theorem m_X0_canCall (l : Launch) {K : QK} {G : State → Prop} (hG : QG G) (hC : QCl K) {rs : QA × QL × QX × QM} {x1 : Int32} {A : QA} {ro : Int32} (h : f_X0_canCall x1 A = some ro) : MC l K G yX0_canCall (ws_ yX0_canCall cX0_canCall 2 (some .boolean)) 4 104 0 0 [.ref (K.2.1 0), .int x1] (A, rs) (QR (some (.int ro)) (A, rs)) := by
  refine MC.of (by decide) (Nat.le_of_ble_eq_true rfl) (lv := [(0, .ref (K.2.1 0)), (1, .int x1)]) rfl (fun p e s m below meth c ls E hr hl hw => ?_)
  exact w_X0_canCall_0 hG hC E hr _ _  h hw hl

def f_X0_calls (r0 : Nat) (x1 : Int32) (A : QA) : Option (QA) :=
  qlet (qu A r0 5 x1) fun A1 =>
  qif (qok ((9:Int32) + x1) 154) <|
  qlet (qu A1 r0 ((9:Int32) + x1).toNatClampNeg (1:Int32)) fun A4 =>
  some (A4)
set_option maxHeartbeats 4000000 in
theorem w_X0_calls_0 {p : Program} {l : Launch} {e : Env} {s : State} {m : MethodId} {args : Array Value} {below : List Frame} {meth : Method} {c : Code} {K : QK} {G : State → Prop} {rs : QA × QL × QX × QM} {Ao : QA} (hG : QG G) (hC : QCl K) (E : EV K G p s m args meth c cX0_calls "VaneCourt" 2) (hr : meth.sig.returnType = none) : ∀ (r0 : Nat) (x1 : Int32) (A : QA) {H : Heap} {locs : List Loc} {ls : Array Slot}, qia K r0 154 → f_X0_calls r0 x1 A = some Ao → WP K (A, rs) H locs → lv_has ls 2 [(0, .ref (K.2.1 r0)), (1, .int x1)] → W p l e (qrm 1 40 0 0) s m args below meth c H locs 0 0 (MQ below (QE K (QR none (Ao, rs))) args s 0 0 (qA K)) (F0 m 0 ls []) := by
  have hx := E.1
  have hb := E.2.1
  have hown := E.2.2.1
  have hts := E.2.2.2.2.1
  intro r0 x1 A H locs ls hr0 h hw hl
  rw [f_X0_calls] at h
  refine lv_aload_n hx hb dX0_calls_0 rfl (lv_at hl 0 rfl) ?_
  refine lv_iconst (v := (5:Int32)) hx hb dX0_calls_1 (by decide) ?_
  refine lv_iload_n hx hb dX0_calls_2 rfl (lv_at hl 1 rfl) ?_
  obtain ⟨A1, e2, h⟩ := qlet_s h
  refine r_iastA (j := 5) E hw (hr0) (q_lit (k := 5) (n := 154) rfl rfl) (q_clamp (k := 5) rfl) dX0_calls_3 (fun H locs hw => ?_)
  rw [← e2] at hw
  refine lv_aload_n hx hb dX0_calls_4 rfl (lv_at hl 0 rfl) ?_
  refine lv_bipush (v := (9:Int32)) hx hb dX0_calls_5 (by decide) ?_
  refine lv_iload_n hx hb dX0_calls_7 rfl (lv_at hl 1 rfl) ?_
  refine lv_iadd hx hb dX0_calls_8 ?_
  refine lv_iconst (v := (1:Int32)) hx hb dX0_calls_9 (by decide) ?_
  obtain ⟨z3, h⟩ := qif_s h
  obtain ⟨A4, e5, h⟩ := qlet_s h
  refine r_iastA (j := ((9:Int32) + x1).toNatClampNeg) E hw (hr0) (qok_in z3) rfl dX0_calls_10 (fun H locs hw => ?_)
  rw [← e5] at hw
  have h := Option.some.inj h
  have h1 := h
  exact d_ret E hr hw (by rw [h1]) dX0_calls_11

theorem m_X0_calls (l : Launch) {K : QK} {G : State → Prop} (hG : QG G) (hC : QCl K) {rs : QA × QL × QX × QM} {r0 : Nat} {x1 : Int32} {A : QA} {Ao : QA} (hr0 : qia K r0 154) (h : f_X0_calls r0 x1 A = some Ao) : MC l K G yX0_calls (ws_ yX0_calls cX0_calls 2 none) 1 40 0 0 [.ref (K.2.1 r0), .int x1] (A, rs) (QR none (Ao, rs)) := by
  refine MC.of (by decide) (Nat.le_of_ble_eq_true rfl) (lv := [(0, .ref (K.2.1 r0)), (1, .int x1)]) rfl (fun p e s m below meth c ls E hr hl hw => ?_)
  exact w_X0_calls_0 hG hC E hr _ _ _ hr0 h hw hl

def f_X0_call (x1 : Int32) (A : QA) : Option (Int32 × QA) :=
  qb1 (f_X0_canCall x1 A) fun u1 =>
  if u1 = (0:Int32) then (
  some ((0:Int32), A)) else (
  qb1 (f_X1_keeps A) fun A3 =>
  qb1 (f_X0_calls 101 x1 A3) fun A5 =>
  some ((1:Int32), A5))
set_option maxHeartbeats 4000000 in
theorem w_X0_call_0 {p : Program} {l : Launch} {e : Env} {s : State} {m : MethodId} {args : Array Value} {below : List Frame} {meth : Method} {c : Code} {K : QK} {G : State → Prop} {rs : QA × QL × QX × QM} {ro : Int32} {Ao : QA} (hG : QG G) (hC : QCl K) (E : EV K G p s m args meth c cX0_call "VaneCourt" 2) (hr : meth.sig.returnType = (some .boolean)) : ∀ (x1 : Int32) (A : QA) {H : Heap} {locs : List Loc} {ls : Array Slot}, f_X0_call x1 A = some (ro, Ao) → WP K (A, rs) H locs → lv_has ls 2 [(0, .ref (K.2.1 0)), (1, .int x1)] → W p l e (qrm 5 125 0 0) s m args below meth c H locs 0 0 (MQ below (QE K (QR (some (.int ro)) (Ao, rs))) args s 0 0 (qA K)) (F0 m 0 ls []) := by
  have hx := E.1
  have hb := E.2.1
  have hown := E.2.2.1
  have hts := E.2.2.2.2.1
  intro x1 A H locs ls  h hw hl
  rw [f_X0_call] at h
  refine lv_aload_n hx hb dX0_call_0 rfl (lv_at hl 0 rfl) ?_
  refine lv_iload_n hx hb dX0_call_1 rfl (lv_at hl 1 rfl) ?_
  obtain ⟨u1, g2, h⟩ := qb1_s h
  refine d_V (As := [.int x1]) (v0 := some (.int u1)) (w0 := (A, rs)) hG E hw hl (m_X0_canCall l hG hC  g2) (qX0 hC) rfl (cwV 1 hts (lw_V q1069 q1071 qs36 q137 q1072) rfl rfl rfl ⟨rfl, kd_X0_canCall⟩ ⟨Nat.le_of_ble_eq_true rfl, Nat.le_of_ble_eq_true rfl⟩) rfl (rest := []) (st1 := [.int u1]) rfl rfl rfl dX0_call_2 ⟨Nat.le_of_ble_eq_true rfl, Nat.le_of_ble_eq_true rfl⟩ (fun H locs hw => ?_)
  refine lv_if_ne (tgt := 10) hx hb dX0_call_5 (by decide) (fun c => ?_) (fun c => ?_)
  · have h := qi_f c h
    refine lv_aload_n hx hb dX0_call_10 rfl (lv_at hl 0 rfl) ?_
    refine r_getX (v := .ref (K.2.1 1)) E hw hC 0 (by decide) q238 rfl dX0_call_11 ?_
    obtain ⟨A3, g4, h⟩ := qb1_s h
    refine d_V (As := []) (v0 := none) (w0 := (A3, rs)) hG E hw hl (m_X1_keeps l hG hC  g4) (qS1 hC) rfl (cwV 0 hts (lw_V q891 q892 q893 q138 q894) rfl rfl rfl ⟨rfl, kd_X1_keeps⟩ ⟨Nat.le_of_ble_eq_true rfl, Nat.le_of_ble_eq_true rfl⟩) rfl (rest := []) (st1 := []) rfl rfl rfl dX0_call_14 ⟨Nat.le_of_ble_eq_true rfl, Nat.le_of_ble_eq_true rfl⟩ (fun H locs hw => ?_)
    refine lv_aload_n hx hb dX0_call_17 rfl (lv_at hl 0 rfl) ?_
    refine r_getX (v := .ref (K.2.1 1)) E hw hC 0 (by decide) q238 rfl dX0_call_18 ?_
    refine r_getS1 (v := .ref (K.2.1 101)) hG E hw hC 1 (by decide) q193 rfl dX0_call_21 ?_
    refine lv_iload_n hx hb dX0_call_24 rfl (lv_at hl 1 rfl) ?_
    obtain ⟨A5, g6, h⟩ := qb1_s h
    refine d_S (As := [.ref (K.2.1 101), .int x1]) (v0 := none) (w0 := (A5, rs)) hG E hw hl (m_X0_calls l hG hC (qi_101 hC) g6) (va_cwS 2 hts (lw_S q1081 q1082 q137 q1083) rfl rfl rfl kd_X0_calls ⟨Nat.le_of_ble_eq_true rfl, Nat.le_of_ble_eq_true rfl⟩) rfl (rest := []) (st1 := []) rfl rfl rfl dX0_call_25 ⟨Nat.le_of_ble_eq_true rfl, Nat.le_of_ble_eq_true rfl⟩ (fun H locs hw => ?_)
    refine lv_iconst (v := (1:Int32)) hx hb dX0_call_28 (by decide) ?_
    have h := Option.some.inj h
    obtain ⟨h1, h2⟩ := Prod.mk.inj h
    exact d_iret E hr rfl hw h1 (by rw [h2]) dX0_call_29
  · have h := qi_t c h
    refine lv_iconst (v := (0:Int32)) hx hb dX0_call_8 (by decide) ?_
    have h := Option.some.inj h
    obtain ⟨h1, h2⟩ := Prod.mk.inj h
    exact d_iret E hr rfl hw h1 (by rw [h2]) dX0_call_9

theorem m_X0_call (l : Launch) {K : QK} {G : State → Prop} (hG : QG G) (hC : QCl K) {rs : QA × QL × QX × QM} {x1 : Int32} {A : QA} {ro : Int32} {Ao : QA} (h : f_X0_call x1 A = some (ro, Ao)) : MC l K G yX0_call (ws_ yX0_call cX0_call 2 (some .boolean)) 5 125 0 0 [.ref (K.2.1 0), .int x1] (A, rs) (QR (some (.int ro)) (Ao, rs)) := by
  refine MC.of (by decide) (Nat.le_of_ble_eq_true rfl) (lv := [(0, .ref (K.2.1 0)), (1, .int x1)]) rfl (fun p e s m below meth c ls E hr hl hw => ?_)
  exact w_X0_call_0 hG hC E hr _ _  h hw hl

def f_X0_canDelay (A : QA) : Option (Int32) :=
  if (A 101 5) = (-1:Int32) then (
  some ((0:Int32))) else (
  if (3:Int32) ≤ (A 101 8) then (
  some ((0:Int32))) else (
  some ((1:Int32))))
set_option maxHeartbeats 4000000 in
theorem w_X0_canDelay_0 {p : Program} {l : Launch} {e : Env} {s : State} {m : MethodId} {args : Array Value} {below : List Frame} {meth : Method} {c : Code} {K : QK} {G : State → Prop} {rs : QA × QL × QX × QM} {ro : Int32} (hG : QG G) (hC : QCl K) (E : EV K G p s m args meth c cX0_canDelay "VaneCourt" 1) (hr : meth.sig.returnType = (some .boolean)) : ∀ (A : QA) {H : Heap} {locs : List Loc} {ls : Array Slot}, f_X0_canDelay A = some ro → WP K (A, rs) H locs → lv_has ls 1 [(0, .ref (K.2.1 0))] → W p l e (qrm 1 40 0 0) s m args below meth c H locs 0 0 (MQ below (QE K (QR (some (.int ro)) (A, rs))) args s 0 0 (qA K)) (F0 m 0 ls []) := by
  have hx := E.1
  have hb := E.2.1
  have hown := E.2.2.1
  have hts := E.2.2.2.2.1
  intro A H locs ls  h hw hl
  rw [f_X0_canDelay] at h
  refine lv_aload_n hx hb dX0_canDelay_0 rfl (lv_at hl 0 rfl) ?_
  refine r_getX (v := .ref (K.2.1 1)) E hw hC 0 (by decide) q238 rfl dX0_canDelay_1 ?_
  refine r_getS1 (v := .ref (K.2.1 101)) hG E hw hC 1 (by decide) q193 rfl dX0_canDelay_4 ?_
  refine lv_iconst (v := (5:Int32)) hx hb dX0_canDelay_7 (by decide) ?_
  refine r_iald (j := 5) E hw (qi_101 hC).at (q_lit (k := 5) (n := 154) rfl rfl) (q_clamp (k := 5) rfl) dX0_canDelay_8 ?_
  refine lv_iconst (v := (-1:Int32)) hx hb dX0_canDelay_9 (by decide) ?_
  refine lv_icmp_eq (tgt := 31) hx hb dX0_canDelay_10 (by decide) (fun c => ?_) (fun c => ?_)
  · have h := qi_t c h
    refine lv_iconst (v := (0:Int32)) hx hb dX0_canDelay_31 (by decide) ?_
    have h := Option.some.inj h
    have h1 := h
    exact d_iret E hr rfl hw h1 rfl dX0_canDelay_32
  · have h := qi_f c h
    refine lv_aload_n hx hb dX0_canDelay_13 rfl (lv_at hl 0 rfl) ?_
    refine r_getX (v := .ref (K.2.1 1)) E hw hC 0 (by decide) q238 rfl dX0_canDelay_14 ?_
    refine r_getS1 (v := .ref (K.2.1 101)) hG E hw hC 1 (by decide) q193 rfl dX0_canDelay_17 ?_
    refine lv_bipush (v := (8:Int32)) hx hb dX0_canDelay_20 (by decide) ?_
    refine r_iald (j := 8) E hw (qi_101 hC).at (q_lit (k := 8) (n := 154) rfl rfl) (q_clamp (k := 8) rfl) dX0_canDelay_22 ?_
    refine lv_iconst (v := (3:Int32)) hx hb dX0_canDelay_23 (by decide) ?_
    refine lv_icmp_ge (tgt := 31) hx hb dX0_canDelay_24 (by decide) (fun c => ?_) (fun c => ?_)
    · have h := qi_t c h
      refine lv_iconst (v := (0:Int32)) hx hb dX0_canDelay_31 (by decide) ?_
      have h := Option.some.inj h
      have h1 := h
      exact d_iret E hr rfl hw h1 rfl dX0_canDelay_32
    · have h := qi_f c h
      refine lv_iconst (v := (1:Int32)) hx hb dX0_canDelay_27 (by decide) ?_
      refine lv_goto (tgt := 32) hx hb dX0_canDelay_28 (by decide) ?_
      have h := Option.some.inj h
      have h1 := h
      exact d_iret E hr rfl hw h1 rfl dX0_canDelay_32

theorem m_X0_canDelay (l : Launch) {K : QK} {G : State → Prop} (hG : QG G) (hC : QCl K) {rs : QA × QL × QX × QM} {A : QA} {ro : Int32} (h : f_X0_canDelay A = some ro) : MC l K G yX0_canDelay (ws_ yX0_canDelay cX0_canDelay 1 (some .boolean)) 1 40 0 0 [.ref (K.2.1 0)] (A, rs) (QR (some (.int ro)) (A, rs)) := by
  refine MC.of (by decide) (Nat.le_of_ble_eq_true rfl) (lv := [(0, .ref (K.2.1 0))]) rfl (fun p e s m below meth c ls E hr hl hw => ?_)
  exact w_X0_canDelay_0 hG hC E hr _  h hw hl

def f_X0_delay (A : QA) : Option (Int32 × QA) :=
  qb1 (f_X0_canDelay A) fun u1 =>
  if u1 = (0:Int32) then (
  some ((-1:Int32), A)) else (
  qb1 (f_X1_keeps A) fun A3 =>
  qlet (qu A3 101 8 ((A3 101 8) + (1:Int32))) fun A5 =>
  some ((A5 101 8), A5))
set_option maxHeartbeats 4000000 in
theorem w_X0_delay_0 {p : Program} {l : Launch} {e : Env} {s : State} {m : MethodId} {args : Array Value} {below : List Frame} {meth : Method} {c : Code} {K : QK} {G : State → Prop} {rs : QA × QL × QX × QM} {ro : Int32} {Ao : QA} (hG : QG G) (hC : QCl K) (E : EV K G p s m args meth c cX0_delay "VaneCourt" 1) (hr : meth.sig.returnType = (some .int)) : ∀ (A : QA) {H : Heap} {locs : List Loc} {ls : Array Slot}, f_X0_delay A = some (ro, Ao) → WP K (A, rs) H locs → lv_has ls 1 [(0, .ref (K.2.1 0))] → W p l e (qrm 4 82 0 0) s m args below meth c H locs 0 0 (MQ below (QE K (QR (some (.int ro)) (Ao, rs))) args s 0 0 (qA K)) (F0 m 0 ls []) := by
  have hx := E.1
  have hb := E.2.1
  have hown := E.2.2.1
  have hts := E.2.2.2.2.1
  intro A H locs ls  h hw hl
  rw [f_X0_delay] at h
  refine lv_aload_n hx hb dX0_delay_0 rfl (lv_at hl 0 rfl) ?_
  obtain ⟨u1, g2, h⟩ := qb1_s h
  refine d_V (As := []) (v0 := some (.int u1)) (w0 := (A, rs)) hG E hw hl (m_X0_canDelay l hG hC  g2) (qX0 hC) rfl (cwV 0 hts (lw_V q1088 q1090 qs39 q137 q1091) rfl rfl rfl ⟨rfl, kd_X0_canDelay⟩ ⟨Nat.le_of_ble_eq_true rfl, Nat.le_of_ble_eq_true rfl⟩) rfl (rest := []) (st1 := [.int u1]) rfl rfl rfl dX0_delay_1 ⟨Nat.le_of_ble_eq_true rfl, Nat.le_of_ble_eq_true rfl⟩ (fun H locs hw => ?_)
  refine lv_if_ne (tgt := 9) hx hb dX0_delay_4 (by decide) (fun c => ?_) (fun c => ?_)
  · have h := qi_f c h
    refine lv_aload_n hx hb dX0_delay_9 rfl (lv_at hl 0 rfl) ?_
    refine r_getX (v := .ref (K.2.1 1)) E hw hC 0 (by decide) q238 rfl dX0_delay_10 ?_
    obtain ⟨A3, g4, h⟩ := qb1_s h
    refine d_V (As := []) (v0 := none) (w0 := (A3, rs)) hG E hw hl (m_X1_keeps l hG hC  g4) (qS1 hC) rfl (cwV 0 hts (lw_V q891 q892 q893 q138 q894) rfl rfl rfl ⟨rfl, kd_X1_keeps⟩ ⟨Nat.le_of_ble_eq_true rfl, Nat.le_of_ble_eq_true rfl⟩) rfl (rest := []) (st1 := []) rfl rfl rfl dX0_delay_13 ⟨Nat.le_of_ble_eq_true rfl, Nat.le_of_ble_eq_true rfl⟩ (fun H locs hw => ?_)
    refine lv_aload_n hx hb dX0_delay_16 rfl (lv_at hl 0 rfl) ?_
    refine r_getX (v := .ref (K.2.1 1)) E hw hC 0 (by decide) q238 rfl dX0_delay_17 ?_
    refine r_getS1 (v := .ref (K.2.1 101)) hG E hw hC 1 (by decide) q193 rfl dX0_delay_20 ?_
    refine lv_bipush (v := (8:Int32)) hx hb dX0_delay_23 (by decide) ?_
    refine lv_dup2_11 hx hb dX0_delay_25 rfl rfl ?_
    refine r_iald (j := 8) E hw (qi_101 hC).at (q_lit (k := 8) (n := 154) rfl rfl) (q_clamp (k := 8) rfl) dX0_delay_26 ?_
    refine lv_iconst (v := (1:Int32)) hx hb dX0_delay_27 (by decide) ?_
    refine lv_iadd hx hb dX0_delay_28 ?_
    obtain ⟨A5, e6, h⟩ := qlet_s h
    refine r_iastA (j := 8) E hw (qi_101 hC) (q_lit (k := 8) (n := 154) rfl rfl) (q_clamp (k := 8) rfl) dX0_delay_29 (fun H locs hw => ?_)
    rw [← e6] at hw
    refine lv_aload_n hx hb dX0_delay_30 rfl (lv_at hl 0 rfl) ?_
    refine r_getX (v := .ref (K.2.1 1)) E hw hC 0 (by decide) q238 rfl dX0_delay_31 ?_
    refine r_getS1 (v := .ref (K.2.1 101)) hG E hw hC 1 (by decide) q193 rfl dX0_delay_34 ?_
    refine lv_bipush (v := (8:Int32)) hx hb dX0_delay_37 (by decide) ?_
    refine r_iald (j := 8) E hw (qi_101 hC).at (q_lit (k := 8) (n := 154) rfl rfl) (q_clamp (k := 8) rfl) dX0_delay_39 ?_
    have h := Option.some.inj h
    obtain ⟨h1, h2⟩ := Prod.mk.inj h
    exact d_iret E hr rfl hw h1 (by rw [h2]) dX0_delay_40
  · have h := qi_t c h
    refine lv_iconst (v := (-1:Int32)) hx hb dX0_delay_7 (by decide) ?_
    have h := Option.some.inj h
    obtain ⟨h1, h2⟩ := Prod.mk.inj h
    exact d_iret E hr rfl hw h1 (by rw [h2]) dX0_delay_8

theorem m_X0_delay (l : Launch) {K : QK} {G : State → Prop} (hG : QG G) (hC : QCl K) {rs : QA × QL × QX × QM} {A : QA} {ro : Int32} {Ao : QA} (h : f_X0_delay A = some (ro, Ao)) : MC l K G yX0_delay (ws_ yX0_delay cX0_delay 1 (some .int)) 4 82 0 0 [.ref (K.2.1 0)] (A, rs) (QR (some (.int ro)) (Ao, rs)) := by
  refine MC.of (by decide) (Nat.le_of_ble_eq_true rfl) (lv := [(0, .ref (K.2.1 0))]) rfl (fun p e s m below meth c ls E hr hl hw => ?_)
  exact w_X0_delay_0 hG hC E hr _  h hw hl

def f_X0_canAppeal (x1 : Int32) (A : QA) : Option (Int32) :=
  qb1 (f_X0_isCase x1 A) fun u1 =>
  if u1 = (0:Int32) then (
  some ((0:Int32))) else (
  qif (qok ((9:Int32) + x1) 154) <|
  if (A 101 ((9:Int32) + x1).toNatClampNeg) = (3:Int32) then (
  qif (qok ((25:Int32) + x1) 154) <|
  if (A 101 ((25:Int32) + x1).toNatClampNeg) = (0:Int32) then (
  some ((1:Int32))) else (
  some ((0:Int32)))) else (
  some ((0:Int32))))
set_option maxHeartbeats 4000000 in
theorem w_X0_canAppeal_0 {p : Program} {l : Launch} {e : Env} {s : State} {m : MethodId} {args : Array Value} {below : List Frame} {meth : Method} {c : Code} {K : QK} {G : State → Prop} {rs : QA × QL × QX × QM} {ro : Int32} (hG : QG G) (hC : QCl K) (E : EV K G p s m args meth c cX0_canAppeal "VaneCourt" 2) (hr : meth.sig.returnType = (some .boolean)) : ∀ (x1 : Int32) (A : QA) {H : Heap} {locs : List Loc} {ls : Array Slot}, f_X0_canAppeal x1 A = some ro → WP K (A, rs) H locs → lv_has ls 2 [(0, .ref (K.2.1 0)), (1, .int x1)] → W p l e (qrm 3 83 0 0) s m args below meth c H locs 0 0 (MQ below (QE K (QR (some (.int ro)) (A, rs))) args s 0 0 (qA K)) (F0 m 0 ls []) := by
  have hx := E.1
  have hb := E.2.1
  have hown := E.2.2.1
  have hts := E.2.2.2.2.1
  intro x1 A H locs ls  h hw hl
  rw [f_X0_canAppeal] at h
  refine lv_aload_n hx hb dX0_canAppeal_0 rfl (lv_at hl 0 rfl) ?_
  refine lv_iload_n hx hb dX0_canAppeal_1 rfl (lv_at hl 1 rfl) ?_
  obtain ⟨u1, g2, h⟩ := qb1_s h
  refine d_V (As := [.int x1]) (v0 := some (.int u1)) (w0 := (A, rs)) hG E hw hl (m_X0_isCase l hG hC  g2) (qX0 hC) rfl (cwV 1 hts (lw_V q1077 q1079 qs38 q137 q1080) rfl rfl rfl ⟨rfl, kd_X0_isCase⟩ ⟨Nat.le_of_ble_eq_true rfl, Nat.le_of_ble_eq_true rfl⟩) rfl (rest := []) (st1 := [.int u1]) rfl rfl rfl dX0_canAppeal_2 ⟨Nat.le_of_ble_eq_true rfl, Nat.le_of_ble_eq_true rfl⟩ (fun H locs hw => ?_)
  refine lv_if_eq (tgt := 43) hx hb dX0_canAppeal_5 (by decide) (fun c => ?_) (fun c => ?_)
  · have h := qi_t c h
    refine lv_iconst (v := (0:Int32)) hx hb dX0_canAppeal_43 (by decide) ?_
    have h := Option.some.inj h
    have h1 := h
    exact d_iret E hr rfl hw h1 rfl dX0_canAppeal_44
  · have h := qi_f c h
    refine lv_aload_n hx hb dX0_canAppeal_8 rfl (lv_at hl 0 rfl) ?_
    refine r_getX (v := .ref (K.2.1 1)) E hw hC 0 (by decide) q238 rfl dX0_canAppeal_9 ?_
    refine r_getS1 (v := .ref (K.2.1 101)) hG E hw hC 1 (by decide) q193 rfl dX0_canAppeal_12 ?_
    refine lv_bipush (v := (9:Int32)) hx hb dX0_canAppeal_15 (by decide) ?_
    refine lv_iload_n hx hb dX0_canAppeal_17 rfl (lv_at hl 1 rfl) ?_
    refine lv_iadd hx hb dX0_canAppeal_18 ?_
    obtain ⟨z3, h⟩ := qif_s h
    refine r_iald (j := ((9:Int32) + x1).toNatClampNeg) E hw (qi_101 hC).at (qok_in z3) rfl dX0_canAppeal_19 ?_
    refine lv_iconst (v := (3:Int32)) hx hb dX0_canAppeal_20 (by decide) ?_
    refine lv_icmp_ne (tgt := 43) hx hb dX0_canAppeal_21 (by decide) (fun c => ?_) (fun c => ?_)
    · have h := qi_f c h
      refine lv_iconst (v := (0:Int32)) hx hb dX0_canAppeal_43 (by decide) ?_
      have h := Option.some.inj h
      have h1 := h
      exact d_iret E hr rfl hw h1 rfl dX0_canAppeal_44
    · have h := qi_t c h
      refine lv_aload_n hx hb dX0_canAppeal_24 rfl (lv_at hl 0 rfl) ?_
      refine r_getX (v := .ref (K.2.1 1)) E hw hC 0 (by decide) q238 rfl dX0_canAppeal_25 ?_
      refine r_getS1 (v := .ref (K.2.1 101)) hG E hw hC 1 (by decide) q193 rfl dX0_canAppeal_28 ?_
      refine lv_bipush (v := (25:Int32)) hx hb dX0_canAppeal_31 (by decide) ?_
      refine lv_iload_n hx hb dX0_canAppeal_33 rfl (lv_at hl 1 rfl) ?_
      refine lv_iadd hx hb dX0_canAppeal_34 ?_
      obtain ⟨z4, h⟩ := qif_s h
      refine r_iald (j := ((25:Int32) + x1).toNatClampNeg) E hw (qi_101 hC).at (qok_in z4) rfl dX0_canAppeal_35 ?_
      refine lv_if_ne (tgt := 43) hx hb dX0_canAppeal_36 (by decide) (fun c => ?_) (fun c => ?_)
      · have h := qi_f c h
        refine lv_iconst (v := (0:Int32)) hx hb dX0_canAppeal_43 (by decide) ?_
        have h := Option.some.inj h
        have h1 := h
        exact d_iret E hr rfl hw h1 rfl dX0_canAppeal_44
      · have h := qi_t c h
        refine lv_iconst (v := (1:Int32)) hx hb dX0_canAppeal_39 (by decide) ?_
        refine lv_goto (tgt := 44) hx hb dX0_canAppeal_40 (by decide) ?_
        have h := Option.some.inj h
        have h1 := h
        exact d_iret E hr rfl hw h1 rfl dX0_canAppeal_44

theorem m_X0_canAppeal (l : Launch) {K : QK} {G : State → Prop} (hG : QG G) (hC : QCl K) {rs : QA × QL × QX × QM} {x1 : Int32} {A : QA} {ro : Int32} (h : f_X0_canAppeal x1 A = some ro) : MC l K G yX0_canAppeal (ws_ yX0_canAppeal cX0_canAppeal 2 (some .boolean)) 3 83 0 0 [.ref (K.2.1 0), .int x1] (A, rs) (QR (some (.int ro)) (A, rs)) := by
  refine MC.of (by decide) (Nat.le_of_ble_eq_true rfl) (lv := [(0, .ref (K.2.1 0)), (1, .int x1)]) rfl (fun p e s m below meth c ls E hr hl hw => ?_)
  exact w_X0_canAppeal_0 hG hC E hr _ _  h hw hl

def f_X0_appeals (x1 : Int32) (A : QA) : Option (QA) :=
  qif (qok ((9:Int32) + x1) 154) <|
  qlet (qu A 101 ((9:Int32) + x1).toNatClampNeg (0:Int32)) fun A2 =>
  qif (qok ((17:Int32) + x1) 154) <|
  qlet (qu A2 101 ((17:Int32) + x1).toNatClampNeg (0:Int32)) fun A5 =>
  qif (qok ((25:Int32) + x1) 154) <|
  qlet (qu A5 101 ((25:Int32) + x1).toNatClampNeg (1:Int32)) fun A8 =>
  some (A8)
set_option maxHeartbeats 4000000 in
theorem w_X0_appeals_0 {p : Program} {l : Launch} {e : Env} {s : State} {m : MethodId} {args : Array Value} {below : List Frame} {meth : Method} {c : Code} {K : QK} {G : State → Prop} {rs : QA × QL × QX × QM} {Ao : QA} (hG : QG G) (hC : QCl K) (E : EV K G p s m args meth c cX0_appeals "VaneCourt" 2) (hr : meth.sig.returnType = none) : ∀ (x1 : Int32) (A : QA) {H : Heap} {locs : List Loc} {ls : Array Slot}, f_X0_appeals x1 A = some Ao → WP K (A, rs) H locs → lv_has ls 2 [(0, .ref (K.2.1 0)), (1, .int x1)] → W p l e (qrm 1 40 0 0) s m args below meth c H locs 0 0 (MQ below (QE K (QR none (Ao, rs))) args s 0 0 (qA K)) (F0 m 0 ls []) := by
  have hx := E.1
  have hb := E.2.1
  have hown := E.2.2.1
  have hts := E.2.2.2.2.1
  intro x1 A H locs ls  h hw hl
  rw [f_X0_appeals] at h
  refine lv_aload_n hx hb dX0_appeals_0 rfl (lv_at hl 0 rfl) ?_
  refine r_getX (v := .ref (K.2.1 1)) E hw hC 0 (by decide) q238 rfl dX0_appeals_1 ?_
  refine r_getS1 (v := .ref (K.2.1 101)) hG E hw hC 1 (by decide) q193 rfl dX0_appeals_4 ?_
  refine lv_bipush (v := (9:Int32)) hx hb dX0_appeals_7 (by decide) ?_
  refine lv_iload_n hx hb dX0_appeals_9 rfl (lv_at hl 1 rfl) ?_
  refine lv_iadd hx hb dX0_appeals_10 ?_
  refine lv_iconst (v := (0:Int32)) hx hb dX0_appeals_11 (by decide) ?_
  obtain ⟨z1, h⟩ := qif_s h
  obtain ⟨A2, e3, h⟩ := qlet_s h
  refine r_iastA (j := ((9:Int32) + x1).toNatClampNeg) E hw (qi_101 hC) (qok_in z1) rfl dX0_appeals_12 (fun H locs hw => ?_)
  rw [← e3] at hw
  refine lv_aload_n hx hb dX0_appeals_13 rfl (lv_at hl 0 rfl) ?_
  refine r_getX (v := .ref (K.2.1 1)) E hw hC 0 (by decide) q238 rfl dX0_appeals_14 ?_
  refine r_getS1 (v := .ref (K.2.1 101)) hG E hw hC 1 (by decide) q193 rfl dX0_appeals_17 ?_
  refine lv_bipush (v := (17:Int32)) hx hb dX0_appeals_20 (by decide) ?_
  refine lv_iload_n hx hb dX0_appeals_22 rfl (lv_at hl 1 rfl) ?_
  refine lv_iadd hx hb dX0_appeals_23 ?_
  refine lv_iconst (v := (0:Int32)) hx hb dX0_appeals_24 (by decide) ?_
  obtain ⟨z4, h⟩ := qif_s h
  obtain ⟨A5, e6, h⟩ := qlet_s h
  refine r_iastA (j := ((17:Int32) + x1).toNatClampNeg) E hw (qi_101 hC) (qok_in z4) rfl dX0_appeals_25 (fun H locs hw => ?_)
  rw [← e6] at hw
  refine lv_aload_n hx hb dX0_appeals_26 rfl (lv_at hl 0 rfl) ?_
  refine r_getX (v := .ref (K.2.1 1)) E hw hC 0 (by decide) q238 rfl dX0_appeals_27 ?_
  refine r_getS1 (v := .ref (K.2.1 101)) hG E hw hC 1 (by decide) q193 rfl dX0_appeals_30 ?_
  refine lv_bipush (v := (25:Int32)) hx hb dX0_appeals_33 (by decide) ?_
  refine lv_iload_n hx hb dX0_appeals_35 rfl (lv_at hl 1 rfl) ?_
  refine lv_iadd hx hb dX0_appeals_36 ?_
  refine lv_iconst (v := (1:Int32)) hx hb dX0_appeals_37 (by decide) ?_
  obtain ⟨z7, h⟩ := qif_s h
  obtain ⟨A8, e9, h⟩ := qlet_s h
  refine r_iastA (j := ((25:Int32) + x1).toNatClampNeg) E hw (qi_101 hC) (qok_in z7) rfl dX0_appeals_38 (fun H locs hw => ?_)
  rw [← e9] at hw
  have h := Option.some.inj h
  have h1 := h
  exact d_ret E hr hw (by rw [h1]) dX0_appeals_39

theorem m_X0_appeals (l : Launch) {K : QK} {G : State → Prop} (hG : QG G) (hC : QCl K) {rs : QA × QL × QX × QM} {x1 : Int32} {A : QA} {Ao : QA} (h : f_X0_appeals x1 A = some Ao) : MC l K G yX0_appeals (ws_ yX0_appeals cX0_appeals 2 none) 1 40 0 0 [.ref (K.2.1 0), .int x1] (A, rs) (QR none (Ao, rs)) := by
  refine MC.of (by decide) (Nat.le_of_ble_eq_true rfl) (lv := [(0, .ref (K.2.1 0)), (1, .int x1)]) rfl (fun p e s m below meth c ls E hr hl hw => ?_)
  exact w_X0_appeals_0 hG hC E hr _ _  h hw hl

def f_X0_appeal (x1 : Int32) (A : QA) : Option (Int32 × QA) :=
  qb1 (f_X0_canAppeal x1 A) fun u1 =>
  if u1 = (0:Int32) then (
  some ((0:Int32), A)) else (
  qb1 (f_X1_keeps A) fun A3 =>
  qb1 (f_X0_appeals x1 A3) fun A5 =>
  some ((1:Int32), A5))
set_option maxHeartbeats 4000000 in
theorem w_X0_appeal_0 {p : Program} {l : Launch} {e : Env} {s : State} {m : MethodId} {args : Array Value} {below : List Frame} {meth : Method} {c : Code} {K : QK} {G : State → Prop} {rs : QA × QL × QX × QM} {ro : Int32} {Ao : QA} (hG : QG G) (hC : QCl K) (E : EV K G p s m args meth c cX0_appeal "VaneCourt" 2) (hr : meth.sig.returnType = (some .boolean)) : ∀ (x1 : Int32) (A : QA) {H : Heap} {locs : List Loc} {ls : Array Slot}, f_X0_appeal x1 A = some (ro, Ao) → WP K (A, rs) H locs → lv_has ls 2 [(0, .ref (K.2.1 0)), (1, .int x1)] → W p l e (qrm 4 104 0 0) s m args below meth c H locs 0 0 (MQ below (QE K (QR (some (.int ro)) (Ao, rs))) args s 0 0 (qA K)) (F0 m 0 ls []) := by
  have hx := E.1
  have hb := E.2.1
  have hown := E.2.2.1
  have hts := E.2.2.2.2.1
  intro x1 A H locs ls  h hw hl
  rw [f_X0_appeal] at h
  refine lv_aload_n hx hb dX0_appeal_0 rfl (lv_at hl 0 rfl) ?_
  refine lv_iload_n hx hb dX0_appeal_1 rfl (lv_at hl 1 rfl) ?_
  obtain ⟨u1, g2, h⟩ := qb1_s h
  refine d_V (As := [.int x1]) (v0 := some (.int u1)) (w0 := (A, rs)) hG E hw hl (m_X0_canAppeal l hG hC  g2) (qX0 hC) rfl (cwV 1 hts (lw_V q1096 q1098 qs40 q137 q1099) rfl rfl rfl ⟨rfl, kd_X0_canAppeal⟩ ⟨Nat.le_of_ble_eq_true rfl, Nat.le_of_ble_eq_true rfl⟩) rfl (rest := []) (st1 := [.int u1]) rfl rfl rfl dX0_appeal_2 ⟨Nat.le_of_ble_eq_true rfl, Nat.le_of_ble_eq_true rfl⟩ (fun H locs hw => ?_)
  refine lv_if_ne (tgt := 10) hx hb dX0_appeal_5 (by decide) (fun c => ?_) (fun c => ?_)
  · have h := qi_f c h
    refine lv_aload_n hx hb dX0_appeal_10 rfl (lv_at hl 0 rfl) ?_
    refine r_getX (v := .ref (K.2.1 1)) E hw hC 0 (by decide) q238 rfl dX0_appeal_11 ?_
    obtain ⟨A3, g4, h⟩ := qb1_s h
    refine d_V (As := []) (v0 := none) (w0 := (A3, rs)) hG E hw hl (m_X1_keeps l hG hC  g4) (qS1 hC) rfl (cwV 0 hts (lw_V q891 q892 q893 q138 q894) rfl rfl rfl ⟨rfl, kd_X1_keeps⟩ ⟨Nat.le_of_ble_eq_true rfl, Nat.le_of_ble_eq_true rfl⟩) rfl (rest := []) (st1 := []) rfl rfl rfl dX0_appeal_14 ⟨Nat.le_of_ble_eq_true rfl, Nat.le_of_ble_eq_true rfl⟩ (fun H locs hw => ?_)
    refine lv_aload_n hx hb dX0_appeal_17 rfl (lv_at hl 0 rfl) ?_
    refine lv_iload_n hx hb dX0_appeal_18 rfl (lv_at hl 1 rfl) ?_
    obtain ⟨A5, g6, h⟩ := qb1_s h
    refine d_V (As := [.int x1]) (v0 := none) (w0 := (A5, rs)) hG E hw hl (m_X0_appeals l hG hC  g6) (qX0 hC) rfl (cwV 1 hts (lw_V q1100 q1102 qs41 q137 q1103) rfl rfl rfl ⟨rfl, kd_X0_appeals⟩ ⟨Nat.le_of_ble_eq_true rfl, Nat.le_of_ble_eq_true rfl⟩) rfl (rest := []) (st1 := []) rfl rfl rfl dX0_appeal_19 ⟨Nat.le_of_ble_eq_true rfl, Nat.le_of_ble_eq_true rfl⟩ (fun H locs hw => ?_)
    refine lv_iconst (v := (1:Int32)) hx hb dX0_appeal_22 (by decide) ?_
    have h := Option.some.inj h
    obtain ⟨h1, h2⟩ := Prod.mk.inj h
    exact d_iret E hr rfl hw h1 (by rw [h2]) dX0_appeal_23
  · have h := qi_t c h
    refine lv_iconst (v := (0:Int32)) hx hb dX0_appeal_8 (by decide) ?_
    have h := Option.some.inj h
    obtain ⟨h1, h2⟩ := Prod.mk.inj h
    exact d_iret E hr rfl hw h1 (by rw [h2]) dX0_appeal_9

theorem m_X0_appeal (l : Launch) {K : QK} {G : State → Prop} (hG : QG G) (hC : QCl K) {rs : QA × QL × QX × QM} {x1 : Int32} {A : QA} {ro : Int32} {Ao : QA} (h : f_X0_appeal x1 A = some (ro, Ao)) : MC l K G yX0_appeal (ws_ yX0_appeal cX0_appeal 2 (some .boolean)) 4 104 0 0 [.ref (K.2.1 0), .int x1] (A, rs) (QR (some (.int ro)) (Ao, rs)) := by
  refine MC.of (by decide) (Nat.le_of_ble_eq_true rfl) (lv := [(0, .ref (K.2.1 0)), (1, .int x1)]) rfl (fun p e s m below meth c ls E hr hl hw => ?_)
  exact w_X0_appeal_0 hG hC E hr _ _  h hw hl

def f_X0_gust_47 (x1 : Int32) (x2 : Int32) (A : QA) : Option (Int32 × QA) :=
  qb1 (f_X1_keeps A) fun A5 =>
  qlet (qu A5 101 0 x1) fun A7 =>
  qlet (qu A7 101 1 x2) fun A9 =>
  some ((1:Int32), A9)
set_option maxHeartbeats 4000000 in
theorem w_X0_gust_47 {p : Program} {l : Launch} {e : Env} {s : State} {m : MethodId} {args : Array Value} {below : List Frame} {meth : Method} {c : Code} {K : QK} {G : State → Prop} {rs : QA × QL × QX × QM} {ro : Int32} {Ao : QA} (hG : QG G) (hC : QCl K) (E : EV K G p s m args meth c cX0_gust "VaneCourt" 3) (hr : meth.sig.returnType = (some .boolean)) : ∀ (x1 : Int32) (x2 : Int32) (A : QA) {H : Heap} {locs : List Loc} {ls : Array Slot}, f_X0_gust_47 x1 x2 A = some (ro, Ao) → WP K (A, rs) H locs → lv_has ls 3 [(0, .ref (K.2.1 0)), (1, .int x1), (2, .int x2)] → W p l e (qrm 4 82 0 0) s m args below meth c H locs 0 0 (MQ below (QE K (QR (some (.int ro)) (Ao, rs))) args s 0 0 (qA K)) (F0 m 47 ls []) := by
  have hx := E.1
  have hb := E.2.1
  have hown := E.2.2.1
  have hts := E.2.2.2.2.1
  intro x1 x2 A H locs ls  h hw hl
  rw [f_X0_gust_47] at h
  refine lv_aload_n hx hb dX0_gust_47 rfl (lv_at hl 0 rfl) ?_
  refine r_getX (v := .ref (K.2.1 1)) E hw hC 0 (by decide) q238 rfl dX0_gust_48 ?_
  obtain ⟨A5, g6, h⟩ := qb1_s h
  refine d_V (As := []) (v0 := none) (w0 := (A5, rs)) hG E hw hl (m_X1_keeps l hG hC  g6) (qS1 hC) rfl (cwV 0 hts (lw_V q891 q892 q893 q138 q894) rfl rfl rfl ⟨rfl, kd_X1_keeps⟩ ⟨Nat.le_of_ble_eq_true rfl, Nat.le_of_ble_eq_true rfl⟩) rfl (rest := []) (st1 := []) rfl rfl rfl dX0_gust_51 ⟨Nat.le_of_ble_eq_true rfl, Nat.le_of_ble_eq_true rfl⟩ (fun H locs hw => ?_)
  refine lv_aload_n hx hb dX0_gust_54 rfl (lv_at hl 0 rfl) ?_
  refine r_getX (v := .ref (K.2.1 1)) E hw hC 0 (by decide) q238 rfl dX0_gust_55 ?_
  refine r_getS1 (v := .ref (K.2.1 101)) hG E hw hC 1 (by decide) q193 rfl dX0_gust_58 ?_
  refine lv_iconst (v := (0:Int32)) hx hb dX0_gust_61 (by decide) ?_
  refine lv_iload_n hx hb dX0_gust_62 rfl (lv_at hl 1 rfl) ?_
  obtain ⟨A7, e8, h⟩ := qlet_s h
  refine r_iastA (j := 0) E hw (qi_101 hC) (q_lit (k := 0) (n := 154) rfl rfl) (q_clamp (k := 0) rfl) dX0_gust_63 (fun H locs hw => ?_)
  rw [← e8] at hw
  refine lv_aload_n hx hb dX0_gust_64 rfl (lv_at hl 0 rfl) ?_
  refine r_getX (v := .ref (K.2.1 1)) E hw hC 0 (by decide) q238 rfl dX0_gust_65 ?_
  refine r_getS1 (v := .ref (K.2.1 101)) hG E hw hC 1 (by decide) q193 rfl dX0_gust_68 ?_
  refine lv_iconst (v := (1:Int32)) hx hb dX0_gust_71 (by decide) ?_
  refine lv_iload_n hx hb dX0_gust_72 rfl (lv_at hl 2 rfl) ?_
  obtain ⟨A9, e10, h⟩ := qlet_s h
  refine r_iastA (j := 1) E hw (qi_101 hC) (q_lit (k := 1) (n := 154) rfl rfl) (q_clamp (k := 1) rfl) dX0_gust_73 (fun H locs hw => ?_)
  rw [← e10] at hw
  refine lv_iconst (v := (1:Int32)) hx hb dX0_gust_74 (by decide) ?_
  have h := Option.some.inj h
  obtain ⟨h1, h2⟩ := Prod.mk.inj h
  exact d_iret E hr rfl hw h1 (by rw [h2]) dX0_gust_75

def f_X0_gust (x1 : Int32) (x2 : Int32) (A : QA) : Option (Int32 × QA) :=
  qb1 (f_X0_in x1 (0:Int32) (3:Int32)) fun u1 =>
  if u1 = (0:Int32) then (
  some ((0:Int32), A)) else (
  qb1 (f_X0_in x2 (0:Int32) (9:Int32)) fun u3 =>
  if u3 = (0:Int32) then (
  some ((0:Int32), A)) else (
  if (A 101 0) = x1 then (
  if (A 101 1) = x2 then (
  some ((0:Int32), A)) else (
  f_X0_gust_47 x1 x2 A)) else (
  f_X0_gust_47 x1 x2 A)))
set_option maxHeartbeats 4000000 in
theorem w_X0_gust_0 {p : Program} {l : Launch} {e : Env} {s : State} {m : MethodId} {args : Array Value} {below : List Frame} {meth : Method} {c : Code} {K : QK} {G : State → Prop} {rs : QA × QL × QX × QM} {ro : Int32} {Ao : QA} (hG : QG G) (hC : QCl K) (E : EV K G p s m args meth c cX0_gust "VaneCourt" 3) (hr : meth.sig.returnType = (some .boolean)) : ∀ (x1 : Int32) (x2 : Int32) (A : QA) {H : Heap} {locs : List Loc} {ls : Array Slot}, f_X0_gust x1 x2 A = some (ro, Ao) → WP K (A, rs) H locs → lv_has ls 3 [(0, .ref (K.2.1 0)), (1, .int x1), (2, .int x2)] → W p l e (qrm 4 82 0 0) s m args below meth c H locs 0 0 (MQ below (QE K (QR (some (.int ro)) (Ao, rs))) args s 0 0 (qA K)) (F0 m 0 ls []) := by
  have hx := E.1
  have hb := E.2.1
  have hown := E.2.2.1
  have hts := E.2.2.2.2.1
  intro x1 x2 A H locs ls  h hw hl
  rw [f_X0_gust] at h
  refine lv_iload_n hx hb dX0_gust_0 rfl (lv_at hl 1 rfl) ?_
  refine lv_iconst (v := (0:Int32)) hx hb dX0_gust_1 (by decide) ?_
  refine lv_iconst (v := (3:Int32)) hx hb dX0_gust_2 (by decide) ?_
  obtain ⟨u1, g2, h⟩ := qb1_s h
  refine d_S (As := [.int x1, .int (0:Int32), .int (3:Int32)]) (v0 := some (.int u1)) (w0 := (A, rs)) hG E hw hl (m_X0_in l hG hC  g2) (va_cwS 3 hts (lw_S q283 q284 q137 q285) rfl rfl rfl kd_X0_in ⟨Nat.le_of_ble_eq_true rfl, Nat.le_of_ble_eq_true rfl⟩) rfl (rest := []) (st1 := [.int u1]) rfl rfl rfl dX0_gust_3 ⟨Nat.le_of_ble_eq_true rfl, Nat.le_of_ble_eq_true rfl⟩ (fun H locs hw => ?_)
  refine lv_if_eq (tgt := 45) hx hb dX0_gust_6 (by decide) (fun c => ?_) (fun c => ?_)
  · have h := qi_t c h
    refine lv_iconst (v := (0:Int32)) hx hb dX0_gust_45 (by decide) ?_
    have h := Option.some.inj h
    obtain ⟨h1, h2⟩ := Prod.mk.inj h
    exact d_iret E hr rfl hw h1 (by rw [h2]) dX0_gust_46
  · have h := qi_f c h
    refine lv_iload_n hx hb dX0_gust_9 rfl (lv_at hl 2 rfl) ?_
    refine lv_iconst (v := (0:Int32)) hx hb dX0_gust_10 (by decide) ?_
    refine lv_bipush (v := (9:Int32)) hx hb dX0_gust_11 (by decide) ?_
    obtain ⟨u3, g4, h⟩ := qb1_s h
    refine d_S (As := [.int x2, .int (0:Int32), .int (9:Int32)]) (v0 := some (.int u3)) (w0 := (A, rs)) hG E hw hl (m_X0_in l hG hC  g4) (va_cwS 3 hts (lw_S q283 q284 q137 q285) rfl rfl rfl kd_X0_in ⟨Nat.le_of_ble_eq_true rfl, Nat.le_of_ble_eq_true rfl⟩) rfl (rest := []) (st1 := [.int u3]) rfl rfl rfl dX0_gust_13 ⟨Nat.le_of_ble_eq_true rfl, Nat.le_of_ble_eq_true rfl⟩ (fun H locs hw => ?_)
    refine lv_if_eq (tgt := 45) hx hb dX0_gust_16 (by decide) (fun c => ?_) (fun c => ?_)
    · have h := qi_t c h
      refine lv_iconst (v := (0:Int32)) hx hb dX0_gust_45 (by decide) ?_
      have h := Option.some.inj h
      obtain ⟨h1, h2⟩ := Prod.mk.inj h
      exact d_iret E hr rfl hw h1 (by rw [h2]) dX0_gust_46
    · have h := qi_f c h
      refine lv_aload_n hx hb dX0_gust_19 rfl (lv_at hl 0 rfl) ?_
      refine r_getX (v := .ref (K.2.1 1)) E hw hC 0 (by decide) q238 rfl dX0_gust_20 ?_
      refine r_getS1 (v := .ref (K.2.1 101)) hG E hw hC 1 (by decide) q193 rfl dX0_gust_23 ?_
      refine lv_iconst (v := (0:Int32)) hx hb dX0_gust_26 (by decide) ?_
      refine r_iald (j := 0) E hw (qi_101 hC).at (q_lit (k := 0) (n := 154) rfl rfl) (q_clamp (k := 0) rfl) dX0_gust_27 ?_
      refine lv_iload_n hx hb dX0_gust_28 rfl (lv_at hl 1 rfl) ?_
      refine lv_icmp_ne (tgt := 47) hx hb dX0_gust_29 (by decide) (fun c => ?_) (fun c => ?_)
      · have h := qi_f c h
        exact w_X0_gust_47 hG hC E hr  _ _ _   h hw (lv_sub hl [0, 1, 2] rfl)
      · have h := qi_t c h
        refine lv_aload_n hx hb dX0_gust_32 rfl (lv_at hl 0 rfl) ?_
        refine r_getX (v := .ref (K.2.1 1)) E hw hC 0 (by decide) q238 rfl dX0_gust_33 ?_
        refine r_getS1 (v := .ref (K.2.1 101)) hG E hw hC 1 (by decide) q193 rfl dX0_gust_36 ?_
        refine lv_iconst (v := (1:Int32)) hx hb dX0_gust_39 (by decide) ?_
        refine r_iald (j := 1) E hw (qi_101 hC).at (q_lit (k := 1) (n := 154) rfl rfl) (q_clamp (k := 1) rfl) dX0_gust_40 ?_
        refine lv_iload_n hx hb dX0_gust_41 rfl (lv_at hl 2 rfl) ?_
        refine lv_icmp_ne (tgt := 47) hx hb dX0_gust_42 (by decide) (fun c => ?_) (fun c => ?_)
        · have h := qi_f c h
          exact w_X0_gust_47 hG hC E hr  _ _ _   h hw (lv_sub hl [0, 1, 2] rfl)
        · have h := qi_t c h
          refine lv_iconst (v := (0:Int32)) hx hb dX0_gust_45 (by decide) ?_
          have h := Option.some.inj h
          obtain ⟨h1, h2⟩ := Prod.mk.inj h
          exact d_iret E hr rfl hw h1 (by rw [h2]) dX0_gust_46

theorem m_X0_gust (l : Launch) {K : QK} {G : State → Prop} (hG : QG G) (hC : QCl K) {rs : QA × QL × QX × QM} {x1 : Int32} {x2 : Int32} {A : QA} {ro : Int32} {Ao : QA} (h : f_X0_gust x1 x2 A = some (ro, Ao)) : MC l K G yX0_gust (ws_ yX0_gust cX0_gust 3 (some .boolean)) 4 82 0 0 [.ref (K.2.1 0), .int x1, .int x2] (A, rs) (QR (some (.int ro)) (Ao, rs)) := by
  refine MC.of (by decide) (Nat.le_of_ble_eq_true rfl) (lv := [(0, .ref (K.2.1 0)), (1, .int x1), (2, .int x2)]) rfl (fun p e s m below meth c ls E hr hl hw => ?_)
  exact w_X0_gust_0 hG hC E hr _ _ _  h hw hl

def f_X0_withdraws (r0 : Nat) (A : QA) : Option (QA) :=
  if (A r0 5) = (-1:Int32) then (
  some (A)) else (
  qif (qok ((9:Int32) + (A r0 5)) 154) <|
  qlet (qu A r0 ((9:Int32) + (A r0 5)).toNatClampNeg (0:Int32)) fun A2 =>
  qb1 (f_X0_leaves r0 A2) fun A4 =>
  some (A4))
set_option maxHeartbeats 4000000 in
theorem w_X0_withdraws_0 {p : Program} {l : Launch} {e : Env} {s : State} {m : MethodId} {args : Array Value} {below : List Frame} {meth : Method} {c : Code} {K : QK} {G : State → Prop} {rs : QA × QL × QX × QM} {Ao : QA} (hG : QG G) (hC : QCl K) (E : EV K G p s m args meth c cX0_withdraws "VaneCourt" 1) (hr : meth.sig.returnType = none) : ∀ (r0 : Nat) (A : QA) {H : Heap} {locs : List Loc} {ls : Array Slot}, qia K r0 154 → f_X0_withdraws r0 A = some Ao → WP K (A, rs) H locs → lv_has ls 1 [(0, .ref (K.2.1 r0))] → W p l e (qrm 2 60 0 0) s m args below meth c H locs 0 0 (MQ below (QE K (QR none (Ao, rs))) args s 0 0 (qA K)) (F0 m 0 ls []) := by
  have hx := E.1
  have hb := E.2.1
  have hown := E.2.2.1
  have hts := E.2.2.2.2.1
  intro r0 A H locs ls hr0 h hw hl
  rw [f_X0_withdraws] at h
  refine lv_aload_n hx hb dX0_withdraws_0 rfl (lv_at hl 0 rfl) ?_
  refine lv_iconst (v := (5:Int32)) hx hb dX0_withdraws_1 (by decide) ?_
  refine r_iald (j := 5) E hw (hr0).at (q_lit (k := 5) (n := 154) rfl rfl) (q_clamp (k := 5) rfl) dX0_withdraws_2 ?_
  refine lv_iconst (v := (-1:Int32)) hx hb dX0_withdraws_3 (by decide) ?_
  refine lv_icmp_ne (tgt := 8) hx hb dX0_withdraws_4 (by decide) (fun c => ?_) (fun c => ?_)
  · have h := qi_f c h
    refine lv_aload_n hx hb dX0_withdraws_8 rfl (lv_at hl 0 rfl) ?_
    refine lv_bipush (v := (9:Int32)) hx hb dX0_withdraws_9 (by decide) ?_
    refine lv_aload_n hx hb dX0_withdraws_11 rfl (lv_at hl 0 rfl) ?_
    refine lv_iconst (v := (5:Int32)) hx hb dX0_withdraws_12 (by decide) ?_
    refine r_iald (j := 5) E hw (hr0).at (q_lit (k := 5) (n := 154) rfl rfl) (q_clamp (k := 5) rfl) dX0_withdraws_13 ?_
    refine lv_iadd hx hb dX0_withdraws_14 ?_
    refine lv_iconst (v := (0:Int32)) hx hb dX0_withdraws_15 (by decide) ?_
    obtain ⟨z1, h⟩ := qif_s h
    obtain ⟨A2, e3, h⟩ := qlet_s h
    refine r_iastA (j := ((9:Int32) + (A r0 5)).toNatClampNeg) E hw (hr0) (qok_in z1) rfl dX0_withdraws_16 (fun H locs hw => ?_)
    rw [← e3] at hw
    refine lv_aload_n hx hb dX0_withdraws_17 rfl (lv_at hl 0 rfl) ?_
    obtain ⟨A4, g5, h⟩ := qb1_s h
    refine d_S (As := [.ref (K.2.1 r0)]) (v0 := none) (w0 := (A4, rs)) hG E hw hl (m_X0_leaves l hG hC (hr0) g5) (va_cwS 1 hts (lw_S q1052 q1053 q137 q1054) rfl rfl rfl kd_X0_leaves ⟨Nat.le_of_ble_eq_true rfl, Nat.le_of_ble_eq_true rfl⟩) rfl (rest := []) (st1 := []) rfl rfl rfl dX0_withdraws_18 ⟨Nat.le_of_ble_eq_true rfl, Nat.le_of_ble_eq_true rfl⟩ (fun H locs hw => ?_)
    have h := Option.some.inj h
    have h1 := h
    exact d_ret E hr hw (by rw [h1]) dX0_withdraws_21
  · have h := qi_t c h
    have h := Option.some.inj h
    have h1 := h
    exact d_ret E hr hw (by rw [h1]) dX0_withdraws_7

theorem m_X0_withdraws (l : Launch) {K : QK} {G : State → Prop} (hG : QG G) (hC : QCl K) {rs : QA × QL × QX × QM} {r0 : Nat} {A : QA} {Ao : QA} (hr0 : qia K r0 154) (h : f_X0_withdraws r0 A = some Ao) : MC l K G yX0_withdraws (ws_ yX0_withdraws cX0_withdraws 1 none) 2 60 0 0 [.ref (K.2.1 r0)] (A, rs) (QR none (Ao, rs)) := by
  refine MC.of (by decide) (Nat.le_of_ble_eq_true rfl) (lv := [(0, .ref (K.2.1 r0))]) rfl (fun p e s m below meth c ls E hr hl hw => ?_)
  exact w_X0_withdraws_0 hG hC E hr _ _ hr0 h hw hl

def f_X0_withdraw (A : QA) : Option (Int32 × QA) :=
  qlet (A 101 5) fun x1_1 =>
  if x1_1 = (-1:Int32) then (
  some ((-1:Int32), A)) else (
  qb1 (f_X1_keeps A) fun A3 =>
  qb1 (f_X0_withdraws 101 A3) fun A5 =>
  some (x1_1, A5))
set_option maxHeartbeats 4000000 in
theorem w_X0_withdraw_0 {p : Program} {l : Launch} {e : Env} {s : State} {m : MethodId} {args : Array Value} {below : List Frame} {meth : Method} {c : Code} {K : QK} {G : State → Prop} {rs : QA × QL × QX × QM} {ro : Int32} {Ao : QA} (hG : QG G) (hC : QCl K) (E : EV K G p s m args meth c cX0_withdraw "VaneCourt" 2) (hr : meth.sig.returnType = (some .int)) : ∀ (A : QA) {H : Heap} {locs : List Loc} {ls : Array Slot}, f_X0_withdraw A = some (ro, Ao) → WP K (A, rs) H locs → lv_has ls 2 [(0, .ref (K.2.1 0))] → W p l e (qrm 4 82 0 0) s m args below meth c H locs 0 0 (MQ below (QE K (QR (some (.int ro)) (Ao, rs))) args s 0 0 (qA K)) (F0 m 0 ls []) := by
  have hx := E.1
  have hb := E.2.1
  have hown := E.2.2.1
  have hts := E.2.2.2.2.1
  intro A H locs ls  h hw hl
  rw [f_X0_withdraw] at h
  refine lv_aload_n hx hb dX0_withdraw_0 rfl (lv_at hl 0 rfl) ?_
  refine r_getX (v := .ref (K.2.1 1)) E hw hC 0 (by decide) q238 rfl dX0_withdraw_1 ?_
  refine r_getS1 (v := .ref (K.2.1 101)) hG E hw hC 1 (by decide) q193 rfl dX0_withdraw_4 ?_
  refine lv_iconst (v := (5:Int32)) hx hb dX0_withdraw_7 (by decide) ?_
  refine r_iald (j := 5) E hw (qi_101 hC).at (q_lit (k := 5) (n := 154) rfl rfl) (q_clamp (k := 5) rfl) dX0_withdraw_8 ?_
  obtain ⟨x1_1, e2, h⟩ := qlet_s h
  refine r_nm e2 ?_
  refine lv_istore_n (lv' := [(1, .int x1_1), (0, .ref (K.2.1 0))]) hx hb dX0_withdraw_9 rfl hl (by decide) rfl (fun ls hl => ?_)
  refine lv_iload_n hx hb dX0_withdraw_10 rfl (lv_at hl 0 rfl) ?_
  refine lv_iconst (v := (-1:Int32)) hx hb dX0_withdraw_11 (by decide) ?_
  refine lv_icmp_ne (tgt := 17) hx hb dX0_withdraw_12 (by decide) (fun c => ?_) (fun c => ?_)
  · have h := qi_f c h
    refine lv_aload_n hx hb dX0_withdraw_17 rfl (lv_at hl 1 rfl) ?_
    refine r_getX (v := .ref (K.2.1 1)) E hw hC 0 (by decide) q238 rfl dX0_withdraw_18 ?_
    obtain ⟨A3, g4, h⟩ := qb1_s h
    refine d_V (As := []) (v0 := none) (w0 := (A3, rs)) hG E hw hl (m_X1_keeps l hG hC  g4) (qS1 hC) rfl (cwV 0 hts (lw_V q891 q892 q893 q138 q894) rfl rfl rfl ⟨rfl, kd_X1_keeps⟩ ⟨Nat.le_of_ble_eq_true rfl, Nat.le_of_ble_eq_true rfl⟩) rfl (rest := []) (st1 := []) rfl rfl rfl dX0_withdraw_21 ⟨Nat.le_of_ble_eq_true rfl, Nat.le_of_ble_eq_true rfl⟩ (fun H locs hw => ?_)
    refine lv_aload_n hx hb dX0_withdraw_24 rfl (lv_at hl 1 rfl) ?_
    refine r_getX (v := .ref (K.2.1 1)) E hw hC 0 (by decide) q238 rfl dX0_withdraw_25 ?_
    refine r_getS1 (v := .ref (K.2.1 101)) hG E hw hC 1 (by decide) q193 rfl dX0_withdraw_28 ?_
    obtain ⟨A5, g6, h⟩ := qb1_s h
    refine d_S (As := [.ref (K.2.1 101)]) (v0 := none) (w0 := (A5, rs)) hG E hw hl (m_X0_withdraws l hG hC (qi_101 hC) g6) (va_cwS 1 hts (lw_S q1112 q1113 q137 q1114) rfl rfl rfl kd_X0_withdraws ⟨Nat.le_of_ble_eq_true rfl, Nat.le_of_ble_eq_true rfl⟩) rfl (rest := []) (st1 := []) rfl rfl rfl dX0_withdraw_31 ⟨Nat.le_of_ble_eq_true rfl, Nat.le_of_ble_eq_true rfl⟩ (fun H locs hw => ?_)
    refine lv_iload_n hx hb dX0_withdraw_34 rfl (lv_at hl 0 rfl) ?_
    have h := Option.some.inj h
    obtain ⟨h1, h2⟩ := Prod.mk.inj h
    exact d_iret E hr rfl hw h1 (by rw [h2]) dX0_withdraw_35
  · have h := qi_t c h
    refine lv_iconst (v := (-1:Int32)) hx hb dX0_withdraw_15 (by decide) ?_
    have h := Option.some.inj h
    obtain ⟨h1, h2⟩ := Prod.mk.inj h
    exact d_iret E hr rfl hw h1 (by rw [h2]) dX0_withdraw_16

theorem m_X0_withdraw (l : Launch) {K : QK} {G : State → Prop} (hG : QG G) (hC : QCl K) {rs : QA × QL × QX × QM} {A : QA} {ro : Int32} {Ao : QA} (h : f_X0_withdraw A = some (ro, Ao)) : MC l K G yX0_withdraw (ws_ yX0_withdraw cX0_withdraw 2 (some .int)) 4 82 0 0 [.ref (K.2.1 0)] (A, rs) (QR (some (.int ro)) (Ao, rs)) := by
  refine MC.of (by decide) (Nat.le_of_ble_eq_true rfl) (lv := [(0, .ref (K.2.1 0))]) rfl (fun p e s m below meth c ls E hr hl hw => ?_)
  exact w_X0_withdraw_0 hG hC E hr _  h hw hl

def f_X0_undo (A : QA) : Option (Int32 × QA) :=
  if (A 100 3) = (0:Int32) then (
  some ((-1:Int32), A)) else (
  qlet (qu A 100 3 ((A 100 3) - (1:Int32))) fun A1 =>
  qif (qok (A1 100 3) 30) <|
  qlet (qset A1 101 (va_cpy (A1 (150 + (A1 100 3).toNatClampNeg)) (A1 101) 0 0 154)) fun A4 =>
  some ((A4 100 3), A4))
set_option maxHeartbeats 4000000 in
theorem w_X0_undo_0 {p : Program} {l : Launch} {e : Env} {s : State} {m : MethodId} {args : Array Value} {below : List Frame} {meth : Method} {c : Code} {K : QK} {G : State → Prop} {rs : QA × QL × QX × QM} {ro : Int32} {Ao : QA} (hG : QG G) (hC : QCl K) (E : EV K G p s m args meth c cX0_undo "VaneCourt" 1) (hr : meth.sig.returnType = (some .int)) : ∀ (A : QA) {H : Heap} {locs : List Loc} {ls : Array Slot}, f_X0_undo A = some (ro, Ao) → WP K (A, rs) H locs → lv_has ls 1 [(0, .ref (K.2.1 0))] → W p l e (qrm 3 61 0 0) s m args below meth c H locs 0 0 (MQ below (QE K (QR (some (.int ro)) (Ao, rs))) args s 0 0 (qA K)) (F0 m 0 ls []) := by
  have hx := E.1
  have hb := E.2.1
  have hown := E.2.2.1
  have hts := E.2.2.2.2.1
  intro A H locs ls  h hw hl
  rw [f_X0_undo] at h
  refine lv_aload_n hx hb dX0_undo_0 rfl (lv_at hl 0 rfl) ?_
  refine r_getX (v := .ref (K.2.1 1)) E hw hC 0 (by decide) q238 rfl dX0_undo_1 ?_
  refine r_getS1 (v := .ref (K.2.1 100)) hG E hw hC 0 (by decide) q191 rfl dX0_undo_4 ?_
  refine lv_iconst (v := (3:Int32)) hx hb dX0_undo_7 (by decide) ?_
  refine r_iald (j := 3) E hw (qi_100 hC).at (q_lit (k := 3) (n := 7) rfl rfl) (q_clamp (k := 3) rfl) dX0_undo_8 ?_
  refine lv_if_ne (tgt := 14) hx hb dX0_undo_9 (by decide) (fun c => ?_) (fun c => ?_)
  · have h := qi_f c h
    refine lv_aload_n hx hb dX0_undo_14 rfl (lv_at hl 0 rfl) ?_
    refine r_getX (v := .ref (K.2.1 1)) E hw hC 0 (by decide) q238 rfl dX0_undo_15 ?_
    refine r_getS1 (v := .ref (K.2.1 100)) hG E hw hC 0 (by decide) q191 rfl dX0_undo_18 ?_
    refine lv_iconst (v := (3:Int32)) hx hb dX0_undo_21 (by decide) ?_
    refine lv_dup2_11 hx hb dX0_undo_22 rfl rfl ?_
    refine r_iald (j := 3) E hw (qi_100 hC).at (q_lit (k := 3) (n := 7) rfl rfl) (q_clamp (k := 3) rfl) dX0_undo_23 ?_
    refine lv_iconst (v := (1:Int32)) hx hb dX0_undo_24 (by decide) ?_
    refine lv_isub hx hb dX0_undo_25 ?_
    obtain ⟨A1, e2, h⟩ := qlet_s h
    refine r_iastA (j := 3) E hw (qi_100 hC) (q_lit (k := 3) (n := 7) rfl rfl) (q_clamp (k := 3) rfl) dX0_undo_26 (fun H locs hw => ?_)
    rw [← e2] at hw
    refine lv_aload_n hx hb dX0_undo_27 rfl (lv_at hl 0 rfl) ?_
    refine r_getX (v := .ref (K.2.1 1)) E hw hC 0 (by decide) q238 rfl dX0_undo_28 ?_
    refine r_getS1 (v := .ref (K.2.1 106)) hG E hw hC 6 (by decide) q203 rfl dX0_undo_31 ?_
    refine lv_aload_n hx hb dX0_undo_34 rfl (lv_at hl 0 rfl) ?_
    refine r_getX (v := .ref (K.2.1 1)) E hw hC 0 (by decide) q238 rfl dX0_undo_35 ?_
    refine r_getS1 (v := .ref (K.2.1 100)) hG E hw hC 0 (by decide) q191 rfl dX0_undo_38 ?_
    refine lv_iconst (v := (3:Int32)) hx hb dX0_undo_41 (by decide) ?_
    refine r_iald (j := 3) E hw (qi_100 hC).at (q_lit (k := 3) (n := 7) rfl rfl) (q_clamp (k := 3) rfl) dX0_undo_42 ?_
    obtain ⟨z3, h⟩ := qif_s h
    refine r_gald (j := (A1 100 3).toNatClampNeg) E hw (qg_106 hC).at (qok_in z3) rfl dX0_undo_43 ?_
    refine lv_aload_n hx hb dX0_undo_44 rfl (lv_at hl 0 rfl) ?_
    refine r_getX (v := .ref (K.2.1 1)) E hw hC 0 (by decide) q238 rfl dX0_undo_45 ?_
    refine r_getS1 (v := .ref (K.2.1 101)) hG E hw hC 1 (by decide) q193 rfl dX0_undo_48 ?_
    obtain ⟨A4, e5, h⟩ := qlet_s h
    refine d_SN (As := [.ref (K.2.1 (150 + (A1 100 3).toNatClampNeg)), .ref (K.2.1 101)]) (v0 := none) hG E hw hl (m_X1_copy l hG hC (qi_f150 hC (k := (A1 100 3).toNatClampNeg) (qok_lt z3)) (qi_101 hC) (Nat.le_of_ble_eq_true rfl)) ⟨va_cnB 2 hts (lw_meth q231) rfl rfl rfl (hG.2.2 s _ E.2.2.2.2.2.1 q1169 rfl) (hts _ q138) kd_X1_copy ⟨Nat.le_of_ble_eq_true rfl, Nat.le_of_ble_eq_true rfl⟩, hts _ q230, trivial⟩ rfl (rest := []) (st1 := []) rfl rfl rfl dX0_undo_51 ⟨Nat.le_of_ble_eq_true rfl, Nat.le_of_ble_eq_true rfl⟩ (fun H locs hw => ?_)
    rw [← e5] at hw
    refine lv_aload_n hx hb dX0_undo_54 rfl (lv_at hl 0 rfl) ?_
    refine r_getX (v := .ref (K.2.1 1)) E hw hC 0 (by decide) q238 rfl dX0_undo_55 ?_
    refine r_getS1 (v := .ref (K.2.1 100)) hG E hw hC 0 (by decide) q191 rfl dX0_undo_58 ?_
    refine lv_iconst (v := (3:Int32)) hx hb dX0_undo_61 (by decide) ?_
    refine r_iald (j := 3) E hw (qi_100 hC).at (q_lit (k := 3) (n := 7) rfl rfl) (q_clamp (k := 3) rfl) dX0_undo_62 ?_
    have h := Option.some.inj h
    obtain ⟨h1, h2⟩ := Prod.mk.inj h
    exact d_iret E hr rfl hw h1 (by rw [h2]) dX0_undo_63
  · have h := qi_t c h
    refine lv_iconst (v := (-1:Int32)) hx hb dX0_undo_12 (by decide) ?_
    have h := Option.some.inj h
    obtain ⟨h1, h2⟩ := Prod.mk.inj h
    exact d_iret E hr rfl hw h1 (by rw [h2]) dX0_undo_13

theorem m_X0_undo (l : Launch) {K : QK} {G : State → Prop} (hG : QG G) (hC : QCl K) {rs : QA × QL × QX × QM} {A : QA} {ro : Int32} {Ao : QA} (h : f_X0_undo A = some (ro, Ao)) : MC l K G yX0_undo (ws_ yX0_undo cX0_undo 1 (some .int)) 3 61 0 0 [.ref (K.2.1 0)] (A, rs) (QR (some (.int ro)) (Ao, rs)) := by
  refine MC.of (by decide) (Nat.le_of_ble_eq_true rfl) (lv := [(0, .ref (K.2.1 0))]) rfl (fun p e s m below meth c ls E hr hl hw => ?_)
  exact w_X0_undo_0 hG hC E hr _  h hw hl

def f_X0_ofCase (x1 : Int32) (x2 : Int32) (A : QA) : Option (Int32) :=
  qb1 (f_X0_isCase x1 A) fun u1 =>
  if u1 = (0:Int32) then (
  some ((-1:Int32))) else (
  if x2 = (0:Int32) then (
  qif (qok x1 8) <|
  qif (qok x2 4) <|
  some ((A (110 + x1.toNatClampNeg) x2.toNatClampNeg))) else (
  if x2 = (1:Int32) then (
  qif (qok x1 8) <|
  qif (qok x2 4) <|
  some ((A (110 + x1.toNatClampNeg) x2.toNatClampNeg))) else (
  if x2 = (2:Int32) then (
  qif (qok x1 8) <|
  qif (qok x2 4) <|
  some ((A (110 + x1.toNatClampNeg) x2.toNatClampNeg))) else (
  if x2 = (3:Int32) then (
  qif (qok x1 8) <|
  qif (qok x2 4) <|
  some ((A (110 + x1.toNatClampNeg) x2.toNatClampNeg))) else (
  if x2 = (4:Int32) then (
  qif (qok ((9:Int32) + x1) 154) <|
  some ((A 101 ((9:Int32) + x1).toNatClampNeg))) else (
  if x2 = (5:Int32) then (
  qif (qok ((17:Int32) + x1) 154) <|
  some ((A 101 ((17:Int32) + x1).toNatClampNeg))) else (
  if x2 = (6:Int32) then (
  qif (qok ((25:Int32) + x1) 154) <|
  some ((A 101 ((25:Int32) + x1).toNatClampNeg))) else (
  some ((-1:Int32))))))))))
set_option maxHeartbeats 4000000 in
theorem w_X0_ofCase_0 {p : Program} {l : Launch} {e : Env} {s : State} {m : MethodId} {args : Array Value} {below : List Frame} {meth : Method} {c : Code} {K : QK} {G : State → Prop} {rs : QA × QL × QX × QM} {ro : Int32} (hG : QG G) (hC : QCl K) (E : EV K G p s m args meth c cX0_ofCase "VaneCourt" 3) (hr : meth.sig.returnType = (some .int)) : ∀ (x1 : Int32) (x2 : Int32) (A : QA) {H : Heap} {locs : List Loc} {ls : Array Slot}, f_X0_ofCase x1 x2 A = some ro → WP K (A, rs) H locs → lv_has ls 3 [(0, .ref (K.2.1 0)), (1, .int x1), (2, .int x2)] → W p l e (qrm 3 83 0 0) s m args below meth c H locs 0 0 (MQ below (QE K (QR (some (.int ro)) (A, rs))) args s 0 0 (qA K)) (F0 m 0 ls []) := by
  have hx := E.1
  have hb := E.2.1
  have hown := E.2.2.1
  have hts := E.2.2.2.2.1
  intro x1 x2 A H locs ls  h hw hl
  rw [f_X0_ofCase] at h
  refine lv_aload_n hx hb dX0_ofCase_0 rfl (lv_at hl 0 rfl) ?_
  refine lv_iload_n hx hb dX0_ofCase_1 rfl (lv_at hl 1 rfl) ?_
  obtain ⟨u1, g2, h⟩ := qb1_s h
  refine d_V (As := [.int x1]) (v0 := some (.int u1)) (w0 := (A, rs)) hG E hw hl (m_X0_isCase l hG hC  g2) (qX0 hC) rfl (cwV 1 hts (lw_V q1077 q1079 qs38 q137 q1080) rfl rfl rfl ⟨rfl, kd_X0_isCase⟩ ⟨Nat.le_of_ble_eq_true rfl, Nat.le_of_ble_eq_true rfl⟩) rfl (rest := []) (st1 := [.int u1]) rfl rfl rfl dX0_ofCase_2 ⟨Nat.le_of_ble_eq_true rfl, Nat.le_of_ble_eq_true rfl⟩ (fun H locs hw => ?_)
  refine lv_if_ne (tgt := 10) hx hb dX0_ofCase_5 (by decide) (fun c => ?_) (fun c => ?_)
  · have h := qi_f c h
    refine lv_iload_n hx hb dX0_ofCase_10 rfl (lv_at hl 2 rfl) ?_
    by_cases c : x2 = (0:Int32)
    · have h := qi_t c h
      refine lv_tableIn (tgt := 52) (off := 41) hx hb dX0_ofCase_11 (by rw [c]; decide) (by rw [c]; decide) (by rw [c]; rfl) (by decide) ?_
      refine lv_aload_n hx hb dX0_ofCase_52 rfl (lv_at hl 0 rfl) ?_
      refine r_getX (v := .ref (K.2.1 1)) E hw hC 0 (by decide) q238 rfl dX0_ofCase_53 ?_
      refine r_getS1 (v := .ref (K.2.1 102)) hG E hw hC 2 (by decide) q195 rfl dX0_ofCase_56 ?_
      refine lv_iload_n hx hb dX0_ofCase_59 rfl (lv_at hl 1 rfl) ?_
      obtain ⟨z3, h⟩ := qif_s h
      refine r_gald (j := x1.toNatClampNeg) E hw (qg_102 hC).at (qok_in z3) rfl dX0_ofCase_60 ?_
      refine lv_iload_n hx hb dX0_ofCase_61 rfl (lv_at hl 2 rfl) ?_
      obtain ⟨z4, h⟩ := qif_s h
      refine r_iald (j := x2.toNatClampNeg) E hw (qi_f110 hC (k := x1.toNatClampNeg) (qok_lt z3)).at (qok_in z4) rfl dX0_ofCase_62 ?_
      have h := Option.some.inj h
      have h1 := h
      exact d_iret E hr rfl hw h1 rfl dX0_ofCase_63
    · have h := qi_f c h
      have n0 := qne32 c
      by_cases c : x2 = (1:Int32)
      · have h := qi_t c h
        refine lv_tableIn (tgt := 52) (off := 41) hx hb dX0_ofCase_11 (by rw [c]; decide) (by rw [c]; decide) (by rw [c]; rfl) (by decide) ?_
        refine lv_aload_n hx hb dX0_ofCase_52 rfl (lv_at hl 0 rfl) ?_
        refine r_getX (v := .ref (K.2.1 1)) E hw hC 0 (by decide) q238 rfl dX0_ofCase_53 ?_
        refine r_getS1 (v := .ref (K.2.1 102)) hG E hw hC 2 (by decide) q195 rfl dX0_ofCase_56 ?_
        refine lv_iload_n hx hb dX0_ofCase_59 rfl (lv_at hl 1 rfl) ?_
        obtain ⟨z5, h⟩ := qif_s h
        refine r_gald (j := x1.toNatClampNeg) E hw (qg_102 hC).at (qok_in z5) rfl dX0_ofCase_60 ?_
        refine lv_iload_n hx hb dX0_ofCase_61 rfl (lv_at hl 2 rfl) ?_
        obtain ⟨z6, h⟩ := qif_s h
        refine r_iald (j := x2.toNatClampNeg) E hw (qi_f110 hC (k := x1.toNatClampNeg) (qok_lt z5)).at (qok_in z6) rfl dX0_ofCase_62 ?_
        have h := Option.some.inj h
        have h1 := h
        exact d_iret E hr rfl hw h1 rfl dX0_ofCase_63
      · have h := qi_f c h
        have n1 := qne32 c
        by_cases c : x2 = (2:Int32)
        · have h := qi_t c h
          refine lv_tableIn (tgt := 52) (off := 41) hx hb dX0_ofCase_11 (by rw [c]; decide) (by rw [c]; decide) (by rw [c]; rfl) (by decide) ?_
          refine lv_aload_n hx hb dX0_ofCase_52 rfl (lv_at hl 0 rfl) ?_
          refine r_getX (v := .ref (K.2.1 1)) E hw hC 0 (by decide) q238 rfl dX0_ofCase_53 ?_
          refine r_getS1 (v := .ref (K.2.1 102)) hG E hw hC 2 (by decide) q195 rfl dX0_ofCase_56 ?_
          refine lv_iload_n hx hb dX0_ofCase_59 rfl (lv_at hl 1 rfl) ?_
          obtain ⟨z7, h⟩ := qif_s h
          refine r_gald (j := x1.toNatClampNeg) E hw (qg_102 hC).at (qok_in z7) rfl dX0_ofCase_60 ?_
          refine lv_iload_n hx hb dX0_ofCase_61 rfl (lv_at hl 2 rfl) ?_
          obtain ⟨z8, h⟩ := qif_s h
          refine r_iald (j := x2.toNatClampNeg) E hw (qi_f110 hC (k := x1.toNatClampNeg) (qok_lt z7)).at (qok_in z8) rfl dX0_ofCase_62 ?_
          have h := Option.some.inj h
          have h1 := h
          exact d_iret E hr rfl hw h1 rfl dX0_ofCase_63
        · have h := qi_f c h
          have n2 := qne32 c
          by_cases c : x2 = (3:Int32)
          · have h := qi_t c h
            refine lv_tableIn (tgt := 52) (off := 41) hx hb dX0_ofCase_11 (by rw [c]; decide) (by rw [c]; decide) (by rw [c]; rfl) (by decide) ?_
            refine lv_aload_n hx hb dX0_ofCase_52 rfl (lv_at hl 0 rfl) ?_
            refine r_getX (v := .ref (K.2.1 1)) E hw hC 0 (by decide) q238 rfl dX0_ofCase_53 ?_
            refine r_getS1 (v := .ref (K.2.1 102)) hG E hw hC 2 (by decide) q195 rfl dX0_ofCase_56 ?_
            refine lv_iload_n hx hb dX0_ofCase_59 rfl (lv_at hl 1 rfl) ?_
            obtain ⟨z9, h⟩ := qif_s h
            refine r_gald (j := x1.toNatClampNeg) E hw (qg_102 hC).at (qok_in z9) rfl dX0_ofCase_60 ?_
            refine lv_iload_n hx hb dX0_ofCase_61 rfl (lv_at hl 2 rfl) ?_
            obtain ⟨z10, h⟩ := qif_s h
            refine r_iald (j := x2.toNatClampNeg) E hw (qi_f110 hC (k := x1.toNatClampNeg) (qok_lt z9)).at (qok_in z10) rfl dX0_ofCase_62 ?_
            have h := Option.some.inj h
            have h1 := h
            exact d_iret E hr rfl hw h1 rfl dX0_ofCase_63
          · have h := qi_f c h
            have n3 := qne32 c
            by_cases c : x2 = (4:Int32)
            · have h := qi_t c h
              refine lv_tableIn (tgt := 64) (off := 53) hx hb dX0_ofCase_11 (by rw [c]; decide) (by rw [c]; decide) (by rw [c]; rfl) (by decide) ?_
              refine lv_aload_n hx hb dX0_ofCase_64 rfl (lv_at hl 0 rfl) ?_
              refine r_getX (v := .ref (K.2.1 1)) E hw hC 0 (by decide) q238 rfl dX0_ofCase_65 ?_
              refine r_getS1 (v := .ref (K.2.1 101)) hG E hw hC 1 (by decide) q193 rfl dX0_ofCase_68 ?_
              refine lv_bipush (v := (9:Int32)) hx hb dX0_ofCase_71 (by decide) ?_
              refine lv_iload_n hx hb dX0_ofCase_73 rfl (lv_at hl 1 rfl) ?_
              refine lv_iadd hx hb dX0_ofCase_74 ?_
              obtain ⟨z11, h⟩ := qif_s h
              refine r_iald (j := ((9:Int32) + x1).toNatClampNeg) E hw (qi_101 hC).at (qok_in z11) rfl dX0_ofCase_75 ?_
              have h := Option.some.inj h
              have h1 := h
              exact d_iret E hr rfl hw h1 rfl dX0_ofCase_76
            · have h := qi_f c h
              have n4 := qne32 c
              by_cases c : x2 = (5:Int32)
              · have h := qi_t c h
                refine lv_tableIn (tgt := 77) (off := 66) hx hb dX0_ofCase_11 (by rw [c]; decide) (by rw [c]; decide) (by rw [c]; rfl) (by decide) ?_
                refine lv_aload_n hx hb dX0_ofCase_77 rfl (lv_at hl 0 rfl) ?_
                refine r_getX (v := .ref (K.2.1 1)) E hw hC 0 (by decide) q238 rfl dX0_ofCase_78 ?_
                refine r_getS1 (v := .ref (K.2.1 101)) hG E hw hC 1 (by decide) q193 rfl dX0_ofCase_81 ?_
                refine lv_bipush (v := (17:Int32)) hx hb dX0_ofCase_84 (by decide) ?_
                refine lv_iload_n hx hb dX0_ofCase_86 rfl (lv_at hl 1 rfl) ?_
                refine lv_iadd hx hb dX0_ofCase_87 ?_
                obtain ⟨z12, h⟩ := qif_s h
                refine r_iald (j := ((17:Int32) + x1).toNatClampNeg) E hw (qi_101 hC).at (qok_in z12) rfl dX0_ofCase_88 ?_
                have h := Option.some.inj h
                have h1 := h
                exact d_iret E hr rfl hw h1 rfl dX0_ofCase_89
              · have h := qi_f c h
                have n5 := qne32 c
                by_cases c : x2 = (6:Int32)
                · have h := qi_t c h
                  refine lv_tableIn (tgt := 90) (off := 79) hx hb dX0_ofCase_11 (by rw [c]; decide) (by rw [c]; decide) (by rw [c]; rfl) (by decide) ?_
                  refine lv_aload_n hx hb dX0_ofCase_90 rfl (lv_at hl 0 rfl) ?_
                  refine r_getX (v := .ref (K.2.1 1)) E hw hC 0 (by decide) q238 rfl dX0_ofCase_91 ?_
                  refine r_getS1 (v := .ref (K.2.1 101)) hG E hw hC 1 (by decide) q193 rfl dX0_ofCase_94 ?_
                  refine lv_bipush (v := (25:Int32)) hx hb dX0_ofCase_97 (by decide) ?_
                  refine lv_iload_n hx hb dX0_ofCase_99 rfl (lv_at hl 1 rfl) ?_
                  refine lv_iadd hx hb dX0_ofCase_100 ?_
                  obtain ⟨z13, h⟩ := qif_s h
                  refine r_iald (j := ((25:Int32) + x1).toNatClampNeg) E hw (qi_101 hC).at (qok_in z13) rfl dX0_ofCase_101 ?_
                  have h := Option.some.inj h
                  have h1 := h
                  exact d_iret E hr rfl hw h1 rfl dX0_ofCase_102
                · have h := qi_f c h
                  have n6 := qne32 c
                  refine lv_tableOut (tgt := 103) hx hb dX0_ofCase_11 (by have m0 : (x2).toInt ≠ 0 := n0; have m1 : (x2).toInt ≠ 1 := n1; have m2 : (x2).toInt ≠ 2 := n2; have m3 : (x2).toInt ≠ 3 := n3; have m4 : (x2).toInt ≠ 4 := n4; have m5 : (x2).toInt ≠ 5 := n5; have m6 : (x2).toInt ≠ 6 := n6; omega) (by decide) ?_
                  refine lv_iconst (v := (-1:Int32)) hx hb dX0_ofCase_103 (by decide) ?_
                  have h := Option.some.inj h
                  have h1 := h
                  exact d_iret E hr rfl hw h1 rfl dX0_ofCase_104
  · have h := qi_t c h
    refine lv_iconst (v := (-1:Int32)) hx hb dX0_ofCase_8 (by decide) ?_
    have h := Option.some.inj h
    have h1 := h
    exact d_iret E hr rfl hw h1 rfl dX0_ofCase_9

theorem m_X0_ofCase (l : Launch) {K : QK} {G : State → Prop} (hG : QG G) (hC : QCl K) {rs : QA × QL × QX × QM} {x1 : Int32} {x2 : Int32} {A : QA} {ro : Int32} (h : f_X0_ofCase x1 x2 A = some ro) : MC l K G yX0_ofCase (ws_ yX0_ofCase cX0_ofCase 3 (some .int)) 3 83 0 0 [.ref (K.2.1 0), .int x1, .int x2] (A, rs) (QR (some (.int ro)) (A, rs)) := by
  refine MC.of (by decide) (Nat.le_of_ble_eq_true rfl) (lv := [(0, .ref (K.2.1 0)), (1, .int x1), (2, .int x2)]) rfl (fun p e s m below meth c ls E hr hl hw => ?_)
  exact w_X0_ofCase_0 hG hC E hr _ _ _  h hw hl

def f_X0_is (x1 : Int32) (A : QA) : Option (Int32) :=
  qb1 (f_X0_in x1 (0:Int32) (8:Int32)) fun u1 =>
  if u1 = (0:Int32) then (
  some ((-2:Int32))) else (
  qif (qok x1 154) <|
  some ((A 101 x1.toNatClampNeg)))
set_option maxHeartbeats 4000000 in
theorem w_X0_is_0 {p : Program} {l : Launch} {e : Env} {s : State} {m : MethodId} {args : Array Value} {below : List Frame} {meth : Method} {c : Code} {K : QK} {G : State → Prop} {rs : QA × QL × QX × QM} {ro : Int32} (hG : QG G) (hC : QCl K) (E : EV K G p s m args meth c cX0_is "VaneCourt" 2) (hr : meth.sig.returnType = (some .int)) : ∀ (x1 : Int32) (A : QA) {H : Heap} {locs : List Loc} {ls : Array Slot}, f_X0_is x1 A = some ro → WP K (A, rs) H locs → lv_has ls 2 [(0, .ref (K.2.1 0)), (1, .int x1)] → W p l e (qrm 2 62 0 0) s m args below meth c H locs 0 0 (MQ below (QE K (QR (some (.int ro)) (A, rs))) args s 0 0 (qA K)) (F0 m 0 ls []) := by
  have hx := E.1
  have hb := E.2.1
  have hown := E.2.2.1
  have hts := E.2.2.2.2.1
  intro x1 A H locs ls  h hw hl
  rw [f_X0_is] at h
  refine lv_iload_n hx hb dX0_is_0 rfl (lv_at hl 1 rfl) ?_
  refine lv_iconst (v := (0:Int32)) hx hb dX0_is_1 (by decide) ?_
  refine lv_bipush (v := (8:Int32)) hx hb dX0_is_2 (by decide) ?_
  obtain ⟨u1, g2, h⟩ := qb1_s h
  refine d_S (As := [.int x1, .int (0:Int32), .int (8:Int32)]) (v0 := some (.int u1)) (w0 := (A, rs)) hG E hw hl (m_X0_in l hG hC  g2) (va_cwS 3 hts (lw_S q283 q284 q137 q285) rfl rfl rfl kd_X0_in ⟨Nat.le_of_ble_eq_true rfl, Nat.le_of_ble_eq_true rfl⟩) rfl (rest := []) (st1 := [.int u1]) rfl rfl rfl dX0_is_4 ⟨Nat.le_of_ble_eq_true rfl, Nat.le_of_ble_eq_true rfl⟩ (fun H locs hw => ?_)
  refine lv_if_eq (tgt := 22) hx hb dX0_is_7 (by decide) (fun c => ?_) (fun c => ?_)
  · have h := qi_t c h
    refine lv_bipush (v := (-2:Int32)) hx hb dX0_is_22 (by decide) ?_
    have h := Option.some.inj h
    have h1 := h
    exact d_iret E hr rfl hw h1 rfl dX0_is_24
  · have h := qi_f c h
    refine lv_aload_n hx hb dX0_is_10 rfl (lv_at hl 0 rfl) ?_
    refine r_getX (v := .ref (K.2.1 1)) E hw hC 0 (by decide) q238 rfl dX0_is_11 ?_
    refine r_getS1 (v := .ref (K.2.1 101)) hG E hw hC 1 (by decide) q193 rfl dX0_is_14 ?_
    refine lv_iload_n hx hb dX0_is_17 rfl (lv_at hl 1 rfl) ?_
    obtain ⟨z3, h⟩ := qif_s h
    refine r_iald (j := x1.toNatClampNeg) E hw (qi_101 hC).at (qok_in z3) rfl dX0_is_18 ?_
    refine lv_goto (tgt := 24) hx hb dX0_is_19 (by decide) ?_
    have h := Option.some.inj h
    have h1 := h
    exact d_iret E hr rfl hw h1 rfl dX0_is_24

theorem m_X0_is (l : Launch) {K : QK} {G : State → Prop} (hG : QG G) (hC : QCl K) {rs : QA × QL × QX × QM} {x1 : Int32} {A : QA} {ro : Int32} (h : f_X0_is x1 A = some ro) : MC l K G yX0_is (ws_ yX0_is cX0_is 2 (some .int)) 2 62 0 0 [.ref (K.2.1 0), .int x1] (A, rs) (QR (some (.int ro)) (A, rs)) := by
  refine MC.of (by decide) (Nat.le_of_ble_eq_true rfl) (lv := [(0, .ref (K.2.1 0)), (1, .int x1)]) rfl (fun p e s m below meth c ls E hr hl hw => ?_)
  exact w_X0_is_0 hG hC E hr _ _  h hw hl

def f_X0_book (x1 : Int32) (x2 : Int32) (A : QA) : Option (Int32) :=
  if x1 = (-1:Int32) then (
  some ((A 101 33))) else (
  qb1 (f_X0_in x1 (0:Int32) ((A 101 33) - (1:Int32))) fun u1 =>
  if u1 = (0:Int32) then (
  some ((-2:Int32))) else (
  qb1 (f_X0_in x2 (0:Int32) (3:Int32)) fun u3 =>
  if u3 = (0:Int32) then (
  some ((-2:Int32))) else (
  qif (qok (((34:Int32) + ((4:Int32) * x1)) + x2) 154) <|
  some ((A 101 (((34:Int32) + ((4:Int32) * x1)) + x2).toNatClampNeg)))))
set_option maxHeartbeats 4000000 in
theorem w_X0_book_0 {p : Program} {l : Launch} {e : Env} {s : State} {m : MethodId} {args : Array Value} {below : List Frame} {meth : Method} {c : Code} {K : QK} {G : State → Prop} {rs : QA × QL × QX × QM} {ro : Int32} (hG : QG G) (hC : QCl K) (E : EV K G p s m args meth c cX0_book "VaneCourt" 3) (hr : meth.sig.returnType = (some .int)) : ∀ (x1 : Int32) (x2 : Int32) (A : QA) {H : Heap} {locs : List Loc} {ls : Array Slot}, f_X0_book x1 x2 A = some ro → WP K (A, rs) H locs → lv_has ls 3 [(0, .ref (K.2.1 0)), (1, .int x1), (2, .int x2)] → W p l e (qrm 2 62 0 0) s m args below meth c H locs 0 0 (MQ below (QE K (QR (some (.int ro)) (A, rs))) args s 0 0 (qA K)) (F0 m 0 ls []) := by
  have hx := E.1
  have hb := E.2.1
  have hown := E.2.2.1
  have hts := E.2.2.2.2.1
  intro x1 x2 A H locs ls  h hw hl
  rw [f_X0_book] at h
  refine lv_iload_n hx hb dX0_book_0 rfl (lv_at hl 1 rfl) ?_
  refine lv_iconst (v := (-1:Int32)) hx hb dX0_book_1 (by decide) ?_
  refine lv_icmp_ne (tgt := 16) hx hb dX0_book_2 (by decide) (fun c => ?_) (fun c => ?_)
  · have h := qi_f c h
    refine lv_iload_n hx hb dX0_book_16 rfl (lv_at hl 1 rfl) ?_
    refine lv_iconst (v := (0:Int32)) hx hb dX0_book_17 (by decide) ?_
    refine lv_aload_n hx hb dX0_book_18 rfl (lv_at hl 0 rfl) ?_
    refine r_getX (v := .ref (K.2.1 1)) E hw hC 0 (by decide) q238 rfl dX0_book_19 ?_
    refine r_getS1 (v := .ref (K.2.1 101)) hG E hw hC 1 (by decide) q193 rfl dX0_book_22 ?_
    refine lv_bipush (v := (33:Int32)) hx hb dX0_book_25 (by decide) ?_
    refine r_iald (j := 33) E hw (qi_101 hC).at (q_lit (k := 33) (n := 154) rfl rfl) (q_clamp (k := 33) rfl) dX0_book_27 ?_
    refine lv_iconst (v := (1:Int32)) hx hb dX0_book_28 (by decide) ?_
    refine lv_isub hx hb dX0_book_29 ?_
    obtain ⟨u1, g2, h⟩ := qb1_s h
    refine d_S (As := [.int x1, .int (0:Int32), .int ((A 101 33) - (1:Int32))]) (v0 := some (.int u1)) (w0 := (A, rs)) hG E hw hl (m_X0_in l hG hC  g2) (va_cwS 3 hts (lw_S q283 q284 q137 q285) rfl rfl rfl kd_X0_in ⟨Nat.le_of_ble_eq_true rfl, Nat.le_of_ble_eq_true rfl⟩) rfl (rest := []) (st1 := [.int u1]) rfl rfl rfl dX0_book_30 ⟨Nat.le_of_ble_eq_true rfl, Nat.le_of_ble_eq_true rfl⟩ (fun H locs hw => ?_)
    refine lv_if_eq (tgt := 64) hx hb dX0_book_33 (by decide) (fun c => ?_) (fun c => ?_)
    · have h := qi_t c h
      refine lv_bipush (v := (-2:Int32)) hx hb dX0_book_64 (by decide) ?_
      have h := Option.some.inj h
      have h1 := h
      exact d_iret E hr rfl hw h1 rfl dX0_book_66
    · have h := qi_f c h
      refine lv_iload_n hx hb dX0_book_36 rfl (lv_at hl 2 rfl) ?_
      refine lv_iconst (v := (0:Int32)) hx hb dX0_book_37 (by decide) ?_
      refine lv_iconst (v := (3:Int32)) hx hb dX0_book_38 (by decide) ?_
      obtain ⟨u3, g4, h⟩ := qb1_s h
      refine d_S (As := [.int x2, .int (0:Int32), .int (3:Int32)]) (v0 := some (.int u3)) (w0 := (A, rs)) hG E hw hl (m_X0_in l hG hC  g4) (va_cwS 3 hts (lw_S q283 q284 q137 q285) rfl rfl rfl kd_X0_in ⟨Nat.le_of_ble_eq_true rfl, Nat.le_of_ble_eq_true rfl⟩) rfl (rest := []) (st1 := [.int u3]) rfl rfl rfl dX0_book_39 ⟨Nat.le_of_ble_eq_true rfl, Nat.le_of_ble_eq_true rfl⟩ (fun H locs hw => ?_)
      refine lv_if_eq (tgt := 64) hx hb dX0_book_42 (by decide) (fun c => ?_) (fun c => ?_)
      · have h := qi_t c h
        refine lv_bipush (v := (-2:Int32)) hx hb dX0_book_64 (by decide) ?_
        have h := Option.some.inj h
        have h1 := h
        exact d_iret E hr rfl hw h1 rfl dX0_book_66
      · have h := qi_f c h
        refine lv_aload_n hx hb dX0_book_45 rfl (lv_at hl 0 rfl) ?_
        refine r_getX (v := .ref (K.2.1 1)) E hw hC 0 (by decide) q238 rfl dX0_book_46 ?_
        refine r_getS1 (v := .ref (K.2.1 101)) hG E hw hC 1 (by decide) q193 rfl dX0_book_49 ?_
        refine lv_bipush (v := (34:Int32)) hx hb dX0_book_52 (by decide) ?_
        refine lv_iconst (v := (4:Int32)) hx hb dX0_book_54 (by decide) ?_
        refine lv_iload_n hx hb dX0_book_55 rfl (lv_at hl 1 rfl) ?_
        refine lv_imul hx hb dX0_book_56 ?_
        refine lv_iadd hx hb dX0_book_57 ?_
        refine lv_iload_n hx hb dX0_book_58 rfl (lv_at hl 2 rfl) ?_
        refine lv_iadd hx hb dX0_book_59 ?_
        obtain ⟨z5, h⟩ := qif_s h
        refine r_iald (j := (((34:Int32) + ((4:Int32) * x1)) + x2).toNatClampNeg) E hw (qi_101 hC).at (qok_in z5) rfl dX0_book_60 ?_
        refine lv_goto (tgt := 66) hx hb dX0_book_61 (by decide) ?_
        have h := Option.some.inj h
        have h1 := h
        exact d_iret E hr rfl hw h1 rfl dX0_book_66
  · have h := qi_t c h
    refine lv_aload_n hx hb dX0_book_5 rfl (lv_at hl 0 rfl) ?_
    refine r_getX (v := .ref (K.2.1 1)) E hw hC 0 (by decide) q238 rfl dX0_book_6 ?_
    refine r_getS1 (v := .ref (K.2.1 101)) hG E hw hC 1 (by decide) q193 rfl dX0_book_9 ?_
    refine lv_bipush (v := (33:Int32)) hx hb dX0_book_12 (by decide) ?_
    refine r_iald (j := 33) E hw (qi_101 hC).at (q_lit (k := 33) (n := 154) rfl rfl) (q_clamp (k := 33) rfl) dX0_book_14 ?_
    have h := Option.some.inj h
    have h1 := h
    exact d_iret E hr rfl hw h1 rfl dX0_book_15

theorem m_X0_book (l : Launch) {K : QK} {G : State → Prop} (hG : QG G) (hC : QCl K) {rs : QA × QL × QX × QM} {x1 : Int32} {x2 : Int32} {A : QA} {ro : Int32} (h : f_X0_book x1 x2 A = some ro) : MC l K G yX0_book (ws_ yX0_book cX0_book 3 (some .int)) 2 62 0 0 [.ref (K.2.1 0), .int x1, .int x2] (A, rs) (QR (some (.int ro)) (A, rs)) := by
  refine MC.of (by decide) (Nat.le_of_ble_eq_true rfl) (lv := [(0, .ref (K.2.1 0)), (1, .int x1), (2, .int x2)]) rfl (fun p e s m below meth c ls E hr hl hw => ?_)
  exact w_X0_book_0 hG hC E hr _ _ _  h hw hl

def f_X0_tens_0 (slf : (Int32 → Option (Int32))) (x0 : Int32) : Option (Int32) :=
  if x0 = (0:Int32) then (
  some ((1:Int32))) else (
  qb1 (slf (x0 - (1:Int32))) fun u1 =>
  some (((10:Int32) * u1)))
set_option maxHeartbeats 4000000 in
theorem w_X0_tens_0 {f1 l1 : Nat} {p : Program} {l : Launch} {e : Env} {s : State} {m : MethodId} {args : Array Value} {below : List Frame} {meth : Method} {c : Code} {K : QK} {G : State → Prop} {rs : QA × QL × QX × QM} {A : QA} {ro : Int32} (hG : QG G) (hC : QCl K) (E : EV K G p s m args meth c cX0_tens "VaneCourt" 1) (hr : meth.sig.returnType = (some .int)) {slf : (Int32 → Option (Int32))} (hslf : ∀ (x0 : Int32) (ro : Int32), slf x0 = some ro → MC l K G yX0_tens (ws_ yX0_tens cX0_tens 1 (some .int)) f1 l1 0 0 [.int x0] (A, rs) (QR (some (.int ro)) (A, rs))) : ∀ (x0 : Int32) {H : Heap} {locs : List Loc} {ls : Array Slot}, f_X0_tens_0 slf x0 = some ro → WP K (A, rs) H locs → lv_has ls 1 [(0, .int x0)] → W p l e (qrm (f1 + 12) (l1 + 800) 0 0) s m args below meth c H locs 0 0 (MQ below (QE K (QR (some (.int ro)) (A, rs))) args s 0 0 (qA K)) (F0 m 0 ls []) := by
  have hx := E.1
  have hb := E.2.1
  have hown := E.2.2.1
  have hts := E.2.2.2.2.1
  intro x0 H locs ls  h hw hl
  rw [f_X0_tens_0] at h
  refine lv_iload_n hx hb dX0_tens_0 rfl (lv_at hl 0 rfl) ?_
  refine lv_if_ne (tgt := 8) hx hb dX0_tens_1 (by decide) (fun c => ?_) (fun c => ?_)
  · have h := qi_f c h
    refine lv_bipush (v := (10:Int32)) hx hb dX0_tens_8 (by decide) ?_
    refine lv_iload_n hx hb dX0_tens_10 rfl (lv_at hl 0 rfl) ?_
    refine lv_iconst (v := (1:Int32)) hx hb dX0_tens_11 (by decide) ?_
    refine lv_isub hx hb dX0_tens_12 ?_
    obtain ⟨u1, g2, h⟩ := qb1_s h
    refine d_S (As := [.int (x0 - (1:Int32))]) (v0 := some (.int u1)) (w0 := (A, rs)) hG E hw hl (hslf _ _  g2) (va_cwS 1 hts (lw_S q1220 q1221 q137 q1222) rfl rfl rfl kd_X0_tens ⟨(show f1 + 1 ≤ f1 + 12 by omega), (show 8 + (1 + 11) + l1 ≤ l1 + 800 by omega)⟩) rfl (rest := [.int (10:Int32)]) (st1 := [.int u1, .int (10:Int32)]) rfl rfl rfl dX0_tens_13 ⟨Nat.le_of_ble_eq_true rfl, Nat.le_of_ble_eq_true rfl⟩ (fun H locs hw => ?_)
    refine lv_imul hx hb dX0_tens_16 ?_
    have h := Option.some.inj h
    have h1 := h
    exact d_iret E hr rfl hw h1 rfl dX0_tens_17
  · have h := qi_t c h
    refine lv_iconst (v := (1:Int32)) hx hb dX0_tens_4 (by decide) ?_
    refine lv_goto (tgt := 17) hx hb dX0_tens_5 (by decide) ?_
    have h := Option.some.inj h
    have h1 := h
    exact d_iret E hr rfl hw h1 rfl dX0_tens_17

def f_X0_tens : Nat → Int32 → Option (Int32)
  | 0, _ => none
  | d + 1, x0 => f_X0_tens_0 (f_X0_tens d) x0

theorem m_X0_tens_d (l : Launch) {K : QK} {G : State → Prop} (hG : QG G) (hC : QCl K) {rs : QA × QL × QX × QM} {A : QA} : ∀ (d : Nat) (x0 : Int32) (ro : Int32), f_X0_tens d x0 = some ro → MC l K G yX0_tens (ws_ yX0_tens cX0_tens 1 (some .int)) (d * 12) (d * 800) 0 0 [.int x0] (A, rs) (QR (some (.int ro)) (A, rs)) := by
  intro d
  induction d with
  | zero =>
    intro x0 ro h
    cases h
  | succ d ih =>
    intro x0 ro h
    rw [f_X0_tens] at h
    rw [Nat.succ_mul, Nat.succ_mul]
    refine MC.of (by decide) (Nat.le_of_ble_eq_true rfl) (lv := [(0, .int x0)]) rfl (fun p e s m below meth c ls E hr hl hw => ?_)
    exact w_X0_tens_0 hG hC E hr ih _  h hw hl
theorem m_X0_tens (l : Launch) {K : QK} {G : State → Prop} (hG : QG G) (hC : QCl K) {rs : QA × QL × QX × QM} {A : QA} {d : Nat} {x0 : Int32} {ro : Int32} (h : f_X0_tens d x0 = some ro) : MC l K G yX0_tens (ws_ yX0_tens cX0_tens 1 (some .int)) (d * 12) (d * 800) 0 0 [.int x0] (A, rs) (QR (some (.int ro)) (A, rs)) := m_X0_tens_d l hG hC d _ _  h

def f_X0_common_0 (slf : (Int64 → Int64 → Option (Int64))) (x0 : Int64) (x2 : Int64) : Option (Int64) :=
  if (lg_cmp x2 (0:Int64)) = (0:Int32) then (
  some (x0)) else (
  qif (decide (¬ x2 = 0)) <|
  qb1 (slf x2 (x0 - x0 / x2 * x2)) fun u2 =>
  some (u2))
set_option maxHeartbeats 4000000 in
theorem w_X0_common_0 {f1 l1 : Nat} {p : Program} {l : Launch} {e : Env} {s : State} {m : MethodId} {args : Array Value} {below : List Frame} {meth : Method} {c : Code} {K : QK} {G : State → Prop} {rs : QA × QL × QX × QM} {A : QA} {ro : Int64} (hG : QG G) (hC : QCl K) (E : EV K G p s m args meth c cX0_common "VaneCourt" 4) (hr : meth.sig.returnType = (some .long)) {slf : (Int64 → Int64 → Option (Int64))} (hslf : ∀ (x0 : Int64) (x2 : Int64) (ro : Int64), slf x0 x2 = some ro → MC l K G yX0_common (ws_ yX0_common cX0_common 4 (some .long)) f1 l1 0 0 [.long x0, .long x2] (A, rs) (QR (some (.long ro)) (A, rs))) : ∀ (x0 : Int64) (x2 : Int64) {H : Heap} {locs : List Loc} {ls : Array Slot}, f_X0_common_0 slf x0 x2 = some ro → WP K (A, rs) H locs → lv_has ls 4 [(0, .long x0), (2, .long x2)] → W p l e (qrm (f1 + 12) (l1 + 800) 0 0) s m args below meth c H locs 0 0 (MQ below (QE K (QR (some (.long ro)) (A, rs))) args s 0 0 (qA K)) (F0 m 0 ls []) := by
  have hx := E.1
  have hb := E.2.1
  have hown := E.2.2.1
  have hts := E.2.2.2.2.1
  intro x0 x2 H locs ls  h hw hl
  rw [f_X0_common_0] at h
  refine lv_lload_n hx hb dX0_common_0 rfl (lv_at hl 1 rfl) ?_
  refine lv_lconst (v := (0:Int64)) hx hb dX0_common_1 (by decide) ?_
  refine W.lcmp hx hb dX0_common_2 ?_
  refine lv_if_ne (tgt := 10) hx hb dX0_common_3 (by decide) (fun c => ?_) (fun c => ?_)
  · have h := qi_f c h
    refine lv_lload_n hx hb dX0_common_10 rfl (lv_at hl 1 rfl) ?_
    refine lv_lload_n hx hb dX0_common_11 rfl (lv_at hl 0 rfl) ?_
    refine lv_lload_n hx hb dX0_common_12 rfl (lv_at hl 1 rfl) ?_
    obtain ⟨z1, h⟩ := qif_s h
    refine lv_lrem hx hb dX0_common_13 (of_decide_eq_true z1) ?_
    obtain ⟨u2, g3, h⟩ := qb1_s h
    refine d_S (As := [.long x2, .long (x0 - x0 / x2 * x2)]) (v0 := some (.long u2)) (w0 := (A, rs)) hG E hw hl (hslf _ _ _  g3) (va_cwS 2 hts (lw_S q1223 q1224 q137 q1225) rfl rfl rfl kd_X0_common ⟨(show f1 + 1 ≤ f1 + 12 by omega), (show 8 + (4 + 11) + l1 ≤ l1 + 800 by omega)⟩) rfl (rest := []) (st1 := [.long u2]) rfl rfl rfl dX0_common_14 ⟨Nat.le_of_ble_eq_true rfl, Nat.le_of_ble_eq_true rfl⟩ (fun H locs hw => ?_)
    have h := Option.some.inj h
    have h1 := h
    exact d_lret E hr hw h1 rfl dX0_common_17
  · have h := qi_t c h
    refine lv_lload_n hx hb dX0_common_6 rfl (lv_at hl 0 rfl) ?_
    refine lv_goto (tgt := 17) hx hb dX0_common_7 (by decide) ?_
    have h := Option.some.inj h
    have h1 := h
    exact d_lret E hr hw h1 rfl dX0_common_17

def f_X0_common : Nat → Int64 → Int64 → Option (Int64)
  | 0, _, _ => none
  | d + 1, x0, x2 => f_X0_common_0 (f_X0_common d) x0 x2

theorem m_X0_common_d (l : Launch) {K : QK} {G : State → Prop} (hG : QG G) (hC : QCl K) {rs : QA × QL × QX × QM} {A : QA} : ∀ (d : Nat) (x0 : Int64) (x2 : Int64) (ro : Int64), f_X0_common d x0 x2 = some ro → MC l K G yX0_common (ws_ yX0_common cX0_common 4 (some .long)) (d * 12) (d * 800) 0 0 [.long x0, .long x2] (A, rs) (QR (some (.long ro)) (A, rs)) := by
  intro d
  induction d with
  | zero =>
    intro x0 x2 ro h
    cases h
  | succ d ih =>
    intro x0 x2 ro h
    rw [f_X0_common] at h
    rw [Nat.succ_mul, Nat.succ_mul]
    refine MC.of (by decide) (Nat.le_of_ble_eq_true rfl) (lv := [(0, .long x0), (2, .long x2)]) rfl (fun p e s m below meth c ls E hr hl hw => ?_)
    exact w_X0_common_0 hG hC E hr ih _ _  h hw hl
theorem m_X0_common (l : Launch) {K : QK} {G : State → Prop} (hG : QG G) (hC : QCl K) {rs : QA × QL × QX × QM} {A : QA} {d : Nat} {x0 : Int64} {x2 : Int64} {ro : Int64} (h : f_X0_common d x0 x2 = some ro) : MC l K G yX0_common (ws_ yX0_common cX0_common 4 (some .long)) (d * 12) (d * 800) 0 0 [.long x0, .long x2] (A, rs) (QR (some (.long ro)) (A, rs)) := m_X0_common_d l hG hC d _ _ _  h

def f_X0_plays_56 (slf : (Int32 → Int32 → Int32 → QA → Option (Int32))) (x3 : Int32) (x4 : Int32) (s1 : Int32) (s2 : Int32) (s3 : Int32) (A : QA) : Option (Int32) :=
  qb1 (slf s1 s2 s3 A) fun u3 =>
  if x3 = (0:Int32) then (
  some ((if u3 < x4 then u3 else x4))) else (
  some ((if x4 < u3 then u3 else x4)))
set_option maxHeartbeats 4000000 in
theorem w_X0_plays_56 {f1 l1 : Nat} {p : Program} {l : Launch} {e : Env} {s : State} {m : MethodId} {args : Array Value} {below : List Frame} {meth : Method} {c : Code} {K : QK} {G : State → Prop} {rs : QA × QL × QX × QM} {ro : Int32} (hG : QG G) (hC : QCl K) (E : EV K G p s m args meth c cX0_plays "VaneCourt" 6) (hr : meth.sig.returnType = (some .int)) {slf : (Int32 → Int32 → Int32 → QA → Option (Int32))} (hslf : ∀ (x1 : Int32) (x2 : Int32) (x3 : Int32) (A : QA) (ro : Int32), slf x1 x2 x3 A = some ro → MC l K G yX0_plays (ws_ yX0_plays cX0_plays 6 (some .int)) f1 l1 0 0 [.ref (K.2.1 0), .int x1, .int x2, .int x3] (A, rs) (QR (some (.int ro)) (A, rs))) : ∀ (x3 : Int32) (x4 : Int32) (s1 : Int32) (s2 : Int32) (s3 : Int32) (A : QA) {H : Heap} {locs : List Loc} {ls : Array Slot}, f_X0_plays_56 slf x3 x4 s1 s2 s3 A = some ro → WP K (A, rs) H locs → lv_has ls 6 [(3, .int x3), (4, .int x4)] → W p l e (qrm (f1 + 12) (l1 + 800) 0 0) s m args below meth c H locs 0 0 (MQ below (QE K (QR (some (.int ro)) (A, rs))) args s 0 0 (qA K)) (F0 m 56 ls [.int s3, .int s2, .int s1, .ref (K.2.1 0)]) := by
  have hx := E.1
  have hb := E.2.1
  have hown := E.2.2.1
  have hts := E.2.2.2.2.1
  intro x3 x4 s1 s2 s3 A H locs ls  h hw hl
  rw [f_X0_plays_56] at h
  obtain ⟨u3, g4, h⟩ := qb1_s h
  refine d_V (As := [.int s1, .int s2, .int s3]) (v0 := some (.int u3)) (w0 := (A, rs)) hG E hw hl (hslf _ _ _ _ _  g4) (qX0 hC) rfl (cwV 3 hts (lw_V q1243 q1245 qs50 q137 q1246) rfl rfl rfl ⟨rfl, kd_X0_plays⟩ ⟨(show f1 + 1 ≤ f1 + 12 by omega), (show 8 + (6 + 11) + l1 ≤ l1 + 800 by omega)⟩) rfl (rest := []) (st1 := [.int u3]) rfl rfl rfl dX0_plays_56 ⟨Nat.le_of_ble_eq_true rfl, Nat.le_of_ble_eq_true rfl⟩ (fun H locs hw => ?_)
  refine lv_istore (lv' := [(5, .int u3), (3, .int x3), (4, .int x4)]) hx hb dX0_plays_59 hl (by decide) rfl (fun ls hl => ?_)
  refine lv_iload_n hx hb dX0_plays_61 rfl (lv_at hl 1 rfl) ?_
  refine lv_if_eq (tgt := 75) hx hb dX0_plays_62 (by decide) (fun c => ?_) (fun c => ?_)
  · have h := qi_t c h
    refine lv_iload hx hb dX0_plays_75 (lv_at hl 2 rfl) ?_
    refine lv_iload hx hb dX0_plays_77 (lv_at hl 0 rfl) ?_
    refine va_mmin hx hb (E.2.2.2.2.2.2.2.trans hl.1.symm) hown (hts _ q1247) (hts _ q472) (hts _ q150) (hts _ q473) (Nat.le_trans (Nat.le_of_ble_eq_true rfl : 1 ≤ 12) (Nat.le_add_left _ _)) (Nat.le_trans (Nat.le_of_ble_eq_true rfl : _ ≤ 800) (Nat.le_add_left _ _)) (Nat.le_refl _) (Nat.le_refl _) dX0_plays_79 ?_
    have h := Option.some.inj h
    have h1 := h
    exact d_iret E hr rfl hw h1 rfl dX0_plays_82
  · have h := qi_f c h
    refine lv_iload hx hb dX0_plays_65 (lv_at hl 2 rfl) ?_
    refine lv_iload hx hb dX0_plays_67 (lv_at hl 0 rfl) ?_
    refine va_mmax hx hb (E.2.2.2.2.2.2.2.trans hl.1.symm) hown (hts _ q1210) (hts _ q632) (hts _ q150) (hts _ q633) (Nat.le_trans (Nat.le_of_ble_eq_true rfl : 1 ≤ 12) (Nat.le_add_left _ _)) (Nat.le_trans (Nat.le_of_ble_eq_true rfl : _ ≤ 800) (Nat.le_add_left _ _)) (Nat.le_refl _) (Nat.le_refl _) dX0_plays_69 ?_
    refine lv_goto (tgt := 82) hx hb dX0_plays_72 (by decide) ?_
    have h := Option.some.inj h
    have h1 := h
    exact d_iret E hr rfl hw h1 rfl dX0_plays_82

def f_X0_plays_27 (slf : (Int32 → Int32 → Int32 → QA → Option (Int32))) (x1 : Int32) (x2 : Int32) (x3 : Int32) (s1 : Int32) (s2 : Int32) (s3 : Int32) (A : QA) : Option (Int32) :=
  qb1 (slf s1 s2 s3 A) fun u1 =>
  if x2 = (3:Int32) then (
  some (u1)) else (
  if x3 = (0:Int32) then (
  f_X0_plays_56 slf x3 u1 (x1 + (1:Int32)) (x2 + (1:Int32)) (1:Int32) A) else (
  f_X0_plays_56 slf x3 u1 (x1 + (1:Int32)) (x2 + (1:Int32)) (0:Int32) A))
set_option maxHeartbeats 4000000 in
theorem w_X0_plays_27 {f1 l1 : Nat} {p : Program} {l : Launch} {e : Env} {s : State} {m : MethodId} {args : Array Value} {below : List Frame} {meth : Method} {c : Code} {K : QK} {G : State → Prop} {rs : QA × QL × QX × QM} {ro : Int32} (hG : QG G) (hC : QCl K) (E : EV K G p s m args meth c cX0_plays "VaneCourt" 6) (hr : meth.sig.returnType = (some .int)) {slf : (Int32 → Int32 → Int32 → QA → Option (Int32))} (hslf : ∀ (x1 : Int32) (x2 : Int32) (x3 : Int32) (A : QA) (ro : Int32), slf x1 x2 x3 A = some ro → MC l K G yX0_plays (ws_ yX0_plays cX0_plays 6 (some .int)) f1 l1 0 0 [.ref (K.2.1 0), .int x1, .int x2, .int x3] (A, rs) (QR (some (.int ro)) (A, rs))) : ∀ (x1 : Int32) (x2 : Int32) (x3 : Int32) (s1 : Int32) (s2 : Int32) (s3 : Int32) (A : QA) {H : Heap} {locs : List Loc} {ls : Array Slot}, f_X0_plays_27 slf x1 x2 x3 s1 s2 s3 A = some ro → WP K (A, rs) H locs → lv_has ls 6 [(0, .ref (K.2.1 0)), (1, .int x1), (2, .int x2), (3, .int x3)] → W p l e (qrm (f1 + 12) (l1 + 800) 0 0) s m args below meth c H locs 0 0 (MQ below (QE K (QR (some (.int ro)) (A, rs))) args s 0 0 (qA K)) (F0 m 27 ls [.int s3, .int s2, .int s1, .ref (K.2.1 0)]) := by
  have hx := E.1
  have hb := E.2.1
  have hown := E.2.2.1
  have hts := E.2.2.2.2.1
  intro x1 x2 x3 s1 s2 s3 A H locs ls  h hw hl
  rw [f_X0_plays_27] at h
  obtain ⟨u1, g2, h⟩ := qb1_s h
  refine d_V (As := [.int s1, .int s2, .int s3]) (v0 := some (.int u1)) (w0 := (A, rs)) hG E hw hl (hslf _ _ _ _ _  g2) (qX0 hC) rfl (cwV 3 hts (lw_V q1243 q1245 qs50 q137 q1246) rfl rfl rfl ⟨rfl, kd_X0_plays⟩ ⟨(show f1 + 1 ≤ f1 + 12 by omega), (show 8 + (6 + 11) + l1 ≤ l1 + 800 by omega)⟩) rfl (rest := []) (st1 := [.int u1]) rfl rfl rfl dX0_plays_27 ⟨Nat.le_of_ble_eq_true rfl, Nat.le_of_ble_eq_true rfl⟩ (fun H locs hw => ?_)
  refine lv_istore (lv' := [(4, .int u1), (0, .ref (K.2.1 0)), (1, .int x1), (2, .int x2), (3, .int x3)]) hx hb dX0_plays_30 hl (by decide) rfl (fun ls hl => ?_)
  refine lv_iload_n hx hb dX0_plays_32 rfl (lv_at hl 3 rfl) ?_
  refine lv_iconst (v := (3:Int32)) hx hb dX0_plays_33 (by decide) ?_
  refine lv_icmp_ne (tgt := 40) hx hb dX0_plays_34 (by decide) (fun c => ?_) (fun c => ?_)
  · have h := qi_f c h
    refine lv_aload_n hx hb dX0_plays_40 rfl (lv_at hl 1 rfl) ?_
    refine lv_iload_n hx hb dX0_plays_41 rfl (lv_at hl 2 rfl) ?_
    refine lv_iconst (v := (1:Int32)) hx hb dX0_plays_42 (by decide) ?_
    refine lv_iadd hx hb dX0_plays_43 ?_
    refine lv_iload_n hx hb dX0_plays_44 rfl (lv_at hl 3 rfl) ?_
    refine lv_iconst (v := (1:Int32)) hx hb dX0_plays_45 (by decide) ?_
    refine lv_iadd hx hb dX0_plays_46 ?_
    refine lv_iload_n hx hb dX0_plays_47 rfl (lv_at hl 4 rfl) ?_
    refine lv_if_ne (tgt := 55) hx hb dX0_plays_48 (by decide) (fun c => ?_) (fun c => ?_)
    · have h := qi_f c h
      refine lv_iconst (v := (0:Int32)) hx hb dX0_plays_55 (by decide) ?_
      exact w_X0_plays_56 hG hC E hr hslf _ _ _ _ _ _   h hw (lv_sub hl [4, 0] rfl)
    · have h := qi_t c h
      refine lv_iconst (v := (1:Int32)) hx hb dX0_plays_51 (by decide) ?_
      refine lv_goto (tgt := 56) hx hb dX0_plays_52 (by decide) ?_
      exact w_X0_plays_56 hG hC E hr hslf _ _ _ _ _ _   h hw (lv_sub hl [4, 0] rfl)
  · have h := qi_t c h
    refine lv_iload hx hb dX0_plays_37 (lv_at hl 0 rfl) ?_
    have h := Option.some.inj h
    have h1 := h
    exact d_iret E hr rfl hw h1 rfl dX0_plays_39

def f_X0_plays_0 (slf : (Int32 → Int32 → Int32 → QA → Option (Int32))) (x1 : Int32) (x2 : Int32) (x3 : Int32) (A : QA) : Option (Int32) :=
  if x1 = (6:Int32) then (
  qif (qok x2 4) <|
  some ((A 10 x2.toNatClampNeg))) else (
  if x3 = (0:Int32) then (
  f_X0_plays_27 slf x1 x2 x3 (x1 + (1:Int32)) x2 (1:Int32) A) else (
  f_X0_plays_27 slf x1 x2 x3 (x1 + (1:Int32)) x2 (0:Int32) A))
set_option maxHeartbeats 4000000 in
theorem w_X0_plays_0 {f1 l1 : Nat} {p : Program} {l : Launch} {e : Env} {s : State} {m : MethodId} {args : Array Value} {below : List Frame} {meth : Method} {c : Code} {K : QK} {G : State → Prop} {rs : QA × QL × QX × QM} {ro : Int32} (hG : QG G) (hC : QCl K) (E : EV K G p s m args meth c cX0_plays "VaneCourt" 6) (hr : meth.sig.returnType = (some .int)) {slf : (Int32 → Int32 → Int32 → QA → Option (Int32))} (hslf : ∀ (x1 : Int32) (x2 : Int32) (x3 : Int32) (A : QA) (ro : Int32), slf x1 x2 x3 A = some ro → MC l K G yX0_plays (ws_ yX0_plays cX0_plays 6 (some .int)) f1 l1 0 0 [.ref (K.2.1 0), .int x1, .int x2, .int x3] (A, rs) (QR (some (.int ro)) (A, rs))) : ∀ (x1 : Int32) (x2 : Int32) (x3 : Int32) (A : QA) {H : Heap} {locs : List Loc} {ls : Array Slot}, f_X0_plays_0 slf x1 x2 x3 A = some ro → WP K (A, rs) H locs → lv_has ls 6 [(0, .ref (K.2.1 0)), (1, .int x1), (2, .int x2), (3, .int x3)] → W p l e (qrm (f1 + 12) (l1 + 800) 0 0) s m args below meth c H locs 0 0 (MQ below (QE K (QR (some (.int ro)) (A, rs))) args s 0 0 (qA K)) (F0 m 0 ls []) := by
  have hx := E.1
  have hb := E.2.1
  have hown := E.2.2.1
  have hts := E.2.2.2.2.1
  intro x1 x2 x3 A H locs ls  h hw hl
  rw [f_X0_plays_0] at h
  refine lv_iload_n hx hb dX0_plays_0 rfl (lv_at hl 1 rfl) ?_
  refine lv_bipush (v := (6:Int32)) hx hb dX0_plays_1 (by decide) ?_
  refine lv_icmp_ne (tgt := 13) hx hb dX0_plays_3 (by decide) (fun c => ?_) (fun c => ?_)
  · have h := qi_f c h
    refine lv_aload_n hx hb dX0_plays_13 rfl (lv_at hl 0 rfl) ?_
    refine lv_iload_n hx hb dX0_plays_14 rfl (lv_at hl 1 rfl) ?_
    refine lv_iconst (v := (1:Int32)) hx hb dX0_plays_15 (by decide) ?_
    refine lv_iadd hx hb dX0_plays_16 ?_
    refine lv_iload_n hx hb dX0_plays_17 rfl (lv_at hl 2 rfl) ?_
    refine lv_iload_n hx hb dX0_plays_18 rfl (lv_at hl 3 rfl) ?_
    refine lv_if_ne (tgt := 26) hx hb dX0_plays_19 (by decide) (fun c => ?_) (fun c => ?_)
    · have h := qi_f c h
      refine lv_iconst (v := (0:Int32)) hx hb dX0_plays_26 (by decide) ?_
      exact w_X0_plays_27 hG hC E hr hslf _ _ _ _ _ _ _   h hw (lv_sub hl [0, 1, 2, 3] rfl)
    · have h := qi_t c h
      refine lv_iconst (v := (1:Int32)) hx hb dX0_plays_22 (by decide) ?_
      refine lv_goto (tgt := 27) hx hb dX0_plays_23 (by decide) ?_
      exact w_X0_plays_27 hG hC E hr hslf _ _ _ _ _ _ _   h hw (lv_sub hl [0, 1, 2, 3] rfl)
  · have h := qi_t c h
    refine lv_aload_n hx hb dX0_plays_6 rfl (lv_at hl 0 rfl) ?_
    refine r_getX (v := .ref (K.2.1 10)) E hw hC 9 (by decide) q247 rfl dX0_plays_7 ?_
    refine lv_iload_n hx hb dX0_plays_10 rfl (lv_at hl 2 rfl) ?_
    obtain ⟨z5, h⟩ := qif_s h
    refine r_iald (j := x2.toNatClampNeg) E hw (qi_10 hC).at (qok_in z5) rfl dX0_plays_11 ?_
    have h := Option.some.inj h
    have h1 := h
    exact d_iret E hr rfl hw h1 rfl dX0_plays_12

def f_X0_plays : Nat → Int32 → Int32 → Int32 → QA → Option (Int32)
  | 0, _, _, _, _ => none
  | d + 1, x1, x2, x3, A => f_X0_plays_0 (f_X0_plays d) x1 x2 x3 A

theorem m_X0_plays_d (l : Launch) {K : QK} {G : State → Prop} (hG : QG G) (hC : QCl K) {rs : QA × QL × QX × QM} : ∀ (d : Nat) (x1 : Int32) (x2 : Int32) (x3 : Int32) (A : QA) (ro : Int32), f_X0_plays d x1 x2 x3 A = some ro → MC l K G yX0_plays (ws_ yX0_plays cX0_plays 6 (some .int)) (d * 12) (d * 800) 0 0 [.ref (K.2.1 0), .int x1, .int x2, .int x3] (A, rs) (QR (some (.int ro)) (A, rs)) := by
  intro d
  induction d with
  | zero =>
    intro x1 x2 x3 A ro h
    cases h
  | succ d ih =>
    intro x1 x2 x3 A ro h
    rw [f_X0_plays] at h
    rw [Nat.succ_mul, Nat.succ_mul]
    refine MC.of (by decide) (Nat.le_of_ble_eq_true rfl) (lv := [(0, .ref (K.2.1 0)), (1, .int x1), (2, .int x2), (3, .int x3)]) rfl (fun p e s m below meth c ls E hr hl hw => ?_)
    exact w_X0_plays_0 hG hC E hr ih _ _ _ _  h hw hl
theorem m_X0_plays (l : Launch) {K : QK} {G : State → Prop} (hG : QG G) (hC : QCl K) {rs : QA × QL × QX × QM} {d : Nat} {x1 : Int32} {x2 : Int32} {x3 : Int32} {A : QA} {ro : Int32} (h : f_X0_plays d x1 x2 x3 A = some ro) : MC l K G yX0_plays (ws_ yX0_plays cX0_plays 6 (some .int)) (d * 12) (d * 800) 0 0 [.ref (K.2.1 0), .int x1, .int x2, .int x3] (A, rs) (QR (some (.int ro)) (A, rs)) := m_X0_plays_d l hG hC d _ _ _ _ _  h

def f_X0_finds (x1 : Int32) (x2 : Int32) (A : QA) : Option (Int32) :=
  qif (qok x2 8) <|
  if (x1 &&& ((A (110 + x2.toNatClampNeg) 3) ^^^ (-1:Int32))) = (0:Int32) then (
  some ((1:Int32))) else (
  some ((0:Int32)))
set_option maxHeartbeats 4000000 in
theorem w_X0_finds_0 {p : Program} {l : Launch} {e : Env} {s : State} {m : MethodId} {args : Array Value} {below : List Frame} {meth : Method} {c : Code} {K : QK} {G : State → Prop} {rs : QA × QL × QX × QM} {ro : Int32} (hG : QG G) (hC : QCl K) (E : EV K G p s m args meth c cX0_finds "VaneCourt" 3) (hr : meth.sig.returnType = (some .boolean)) : ∀ (x1 : Int32) (x2 : Int32) (A : QA) {H : Heap} {locs : List Loc} {ls : Array Slot}, f_X0_finds x1 x2 A = some ro → WP K (A, rs) H locs → lv_has ls 3 [(0, .ref (K.2.1 0)), (1, .int x1), (2, .int x2)] → W p l e (qrm 1 40 0 0) s m args below meth c H locs 0 0 (MQ below (QE K (QR (some (.int ro)) (A, rs))) args s 0 0 (qA K)) (F0 m 0 ls []) := by
  have hx := E.1
  have hb := E.2.1
  have hown := E.2.2.1
  have hts := E.2.2.2.2.1
  intro x1 x2 A H locs ls  h hw hl
  rw [f_X0_finds] at h
  refine lv_iload_n hx hb dX0_finds_0 rfl (lv_at hl 1 rfl) ?_
  refine lv_aload_n hx hb dX0_finds_1 rfl (lv_at hl 0 rfl) ?_
  refine r_getX (v := .ref (K.2.1 1)) E hw hC 0 (by decide) q238 rfl dX0_finds_2 ?_
  refine r_getS1 (v := .ref (K.2.1 102)) hG E hw hC 2 (by decide) q195 rfl dX0_finds_5 ?_
  refine lv_iload_n hx hb dX0_finds_8 rfl (lv_at hl 2 rfl) ?_
  obtain ⟨z1, h⟩ := qif_s h
  refine r_gald (j := x2.toNatClampNeg) E hw (qg_102 hC).at (qok_in z1) rfl dX0_finds_9 ?_
  refine lv_iconst (v := (3:Int32)) hx hb dX0_finds_10 (by decide) ?_
  refine r_iald (j := 3) E hw (qi_f110 hC (k := x2.toNatClampNeg) (qok_lt z1)).at (q_lit (k := 3) (n := 4) rfl rfl) (q_clamp (k := 3) rfl) dX0_finds_11 ?_
  refine lv_iconst (v := (-1:Int32)) hx hb dX0_finds_12 (by decide) ?_
  refine lv_ixor hx hb dX0_finds_13 ?_
  refine lv_iand hx hb dX0_finds_14 ?_
  refine lv_if_ne (tgt := 22) hx hb dX0_finds_15 (by decide) (fun c => ?_) (fun c => ?_)
  · have h := qi_f c h
    refine lv_iconst (v := (0:Int32)) hx hb dX0_finds_22 (by decide) ?_
    have h := Option.some.inj h
    have h1 := h
    exact d_iret E hr rfl hw h1 rfl dX0_finds_23
  · have h := qi_t c h
    refine lv_iconst (v := (1:Int32)) hx hb dX0_finds_18 (by decide) ?_
    refine lv_goto (tgt := 23) hx hb dX0_finds_19 (by decide) ?_
    have h := Option.some.inj h
    have h1 := h
    exact d_iret E hr rfl hw h1 rfl dX0_finds_23

theorem m_X0_finds (l : Launch) {K : QK} {G : State → Prop} (hG : QG G) (hC : QCl K) {rs : QA × QL × QX × QM} {x1 : Int32} {x2 : Int32} {A : QA} {ro : Int32} (h : f_X0_finds x1 x2 A = some ro) : MC l K G yX0_finds (ws_ yX0_finds cX0_finds 3 (some .boolean)) 1 40 0 0 [.ref (K.2.1 0), .int x1, .int x2] (A, rs) (QR (some (.int ro)) (A, rs)) := by
  refine MC.of (by decide) (Nat.le_of_ble_eq_true rfl) (lv := [(0, .ref (K.2.1 0)), (1, .int x1), (2, .int x2)]) rfl (fun p e s m below meth c ls E hr hl hw => ?_)
  exact w_X0_finds_0 hG hC E hr _ _ _  h hw hl

def f_X0_isCode_51 (k2 : (Int32 → Int32 → QA → Option (Int32))) (x1 : Int32) (x2 : Int32) (s0 : Int32) (s1 : Int32) (A : QA) : Option (Int32) :=
  if s0 = s1 then (
  qlet (x2 + (1:Int32)) fun x2_4 =>
  k2 x1 x2_4 A) else (
  some ((0:Int32)))
set_option maxHeartbeats 4000000 in
theorem w_X0_isCode_51 {p : Program} {l : Launch} {e : Env} {s : State} {m : MethodId} {args : Array Value} {below : List Frame} {meth : Method} {c : Code} {K : QK} {G : State → Prop} {rs : QA × QL × QX × QM} {ro : Int32} (hG : QG G) (hC : QCl K) (E : EV K G p s m args meth c cX0_isCode "VaneCourt" 3) (hr : meth.sig.returnType = (some .boolean)) {k2 : (Int32 → Int32 → QA → Option (Int32))} (hk2 : ∀ (x1 : Int32) (x2 : Int32) (A : QA) {H : Heap} {locs : List Loc} {ls : Array Slot}, k2 x1 x2 A = some ro → WP K (A, rs) H locs → lv_has ls 3 [(0, .ref (K.2.1 0)), (1, .int x1), (2, .int x2)] → W p l e (qrm 2 62 0 0) s m args below meth c H locs 0 0 (MQ below (QE K (QR (some (.int ro)) (A, rs))) args s 0 0 (qA K)) (F0 m 2 ls [])) : ∀ (x1 : Int32) (x2 : Int32) (s0 : Int32) (s1 : Int32) (A : QA) {H : Heap} {locs : List Loc} {ls : Array Slot}, f_X0_isCode_51 k2 x1 x2 s0 s1 A = some ro → WP K (A, rs) H locs → lv_has ls 3 [(0, .ref (K.2.1 0)), (1, .int x1), (2, .int x2)] → W p l e (qrm 2 62 0 0) s m args below meth c H locs 0 0 (MQ below (QE K (QR (some (.int ro)) (A, rs))) args s 0 0 (qA K)) (F0 m 51 ls [.int s1, .int s0]) := by
  have hx := E.1
  have hb := E.2.1
  have hown := E.2.2.1
  have hts := E.2.2.2.2.1
  intro x1 x2 s0 s1 A H locs ls  h hw hl
  rw [f_X0_isCode_51] at h
  refine lv_icmp_eq (tgt := 56) hx hb dX0_isCode_51 (by decide) (fun c => ?_) (fun c => ?_)
  · have h := qi_t c h
    obtain ⟨x2_4, e5, h⟩ := qlet_s h
    refine lv_iinc (v := x2_4) (lv' := [(2, .int x2_4), (0, .ref (K.2.1 0)), (1, .int x1)]) (k := 2) hx hb dX0_isCode_56 hl rfl (by rw [e5]; rfl) (by decide) rfl (fun ls hl => ?_)
    refine lv_goto (tgt := 2) hx hb dX0_isCode_59 (by decide) ?_
    exact hk2 _ _ _  h hw (lv_sub hl [1, 2, 0] rfl)
  · have h := qi_f c h
    refine lv_iconst (v := (0:Int32)) hx hb dX0_isCode_54 (by decide) ?_
    have h := Option.some.inj h
    have h1 := h
    exact d_iret E hr rfl hw h1 rfl dX0_isCode_55

def f_X0_isCode_2 : Nat → Int32 → Int32 → QA → Option (Int32)
  | 0, _, _, _ => none
  | n + 1, x1, x2, A => if (A 100 5) ≤ x2 then (
  some ((1:Int32))) else (
  qif (qok x2 8) <|
  qb1 (f_X0_finds x1 (A (130 + x2.toNatClampNeg) 0) A) fun u2 =>
  if (A (130 + x2.toNatClampNeg) 1) = (1:Int32) then (
  f_X0_isCode_51 (fun x1' x2' A' => f_X0_isCode_2 n x1' x2' A') x1 x2 u2 (1:Int32) A) else (
  f_X0_isCode_51 (fun x1' x2' A' => f_X0_isCode_2 n x1' x2' A') x1 x2 u2 (0:Int32) A))
set_option maxHeartbeats 4000000 in
theorem w_X0_isCode_2 {p : Program} {l : Launch} {e : Env} {s : State} {m : MethodId} {args : Array Value} {below : List Frame} {meth : Method} {c : Code} {K : QK} {G : State → Prop} {rs : QA × QL × QX × QM} {ro : Int32} (hG : QG G) (hC : QCl K) (E : EV K G p s m args meth c cX0_isCode "VaneCourt" 3) (hr : meth.sig.returnType = (some .boolean)) : ∀ (n : Nat) (x1 : Int32) (x2 : Int32) (A : QA) {H : Heap} {locs : List Loc} {ls : Array Slot}, f_X0_isCode_2 n x1 x2 A = some ro → WP K (A, rs) H locs → lv_has ls 3 [(0, .ref (K.2.1 0)), (1, .int x1), (2, .int x2)] → W p l e (qrm 2 62 0 0) s m args below meth c H locs 0 0 (MQ below (QE K (QR (some (.int ro)) (A, rs))) args s 0 0 (qA K)) (F0 m 2 ls []) := by
  have hx := E.1
  have hb := E.2.1
  have hown := E.2.2.1
  have hts := E.2.2.2.2.1
  intro n
  induction n with
  | zero =>
    intro x1 x2 A H locs ls  h hw hl
    cases h
  | succ n ih =>
    intro x1 x2 A H locs ls  h hw hl
    rw [f_X0_isCode_2] at h
    refine lv_iload_n hx hb dX0_isCode_2 rfl (lv_at hl 2 rfl) ?_
    refine lv_aload_n hx hb dX0_isCode_3 rfl (lv_at hl 0 rfl) ?_
    refine r_getX (v := .ref (K.2.1 1)) E hw hC 0 (by decide) q238 rfl dX0_isCode_4 ?_
    refine r_getS1 (v := .ref (K.2.1 100)) hG E hw hC 0 (by decide) q191 rfl dX0_isCode_7 ?_
    refine lv_iconst (v := (5:Int32)) hx hb dX0_isCode_10 (by decide) ?_
    refine r_iald (j := 5) E hw (qi_100 hC).at (q_lit (k := 5) (n := 7) rfl rfl) (q_clamp (k := 5) rfl) dX0_isCode_11 ?_
    refine lv_icmp_ge (tgt := 62) hx hb dX0_isCode_12 (by decide) (fun c => ?_) (fun c => ?_)
    · have h := qi_t c h
      refine lv_iconst (v := (1:Int32)) hx hb dX0_isCode_62 (by decide) ?_
      have h := Option.some.inj h
      have h1 := h
      exact d_iret E hr rfl hw h1 rfl dX0_isCode_63
    · have h := qi_f c h
      refine lv_aload_n hx hb dX0_isCode_15 rfl (lv_at hl 0 rfl) ?_
      refine lv_iload_n hx hb dX0_isCode_16 rfl (lv_at hl 1 rfl) ?_
      refine lv_aload_n hx hb dX0_isCode_17 rfl (lv_at hl 0 rfl) ?_
      refine r_getX (v := .ref (K.2.1 1)) E hw hC 0 (by decide) q238 rfl dX0_isCode_18 ?_
      refine r_getS1 (v := .ref (K.2.1 104)) hG E hw hC 4 (by decide) q199 rfl dX0_isCode_21 ?_
      refine lv_iload_n hx hb dX0_isCode_24 rfl (lv_at hl 2 rfl) ?_
      obtain ⟨z1, h⟩ := qif_s h
      refine r_gald (j := x2.toNatClampNeg) E hw (qg_104 hC).at (qok_in z1) rfl dX0_isCode_25 ?_
      refine lv_iconst (v := (0:Int32)) hx hb dX0_isCode_26 (by decide) ?_
      refine r_iald (j := 0) E hw (qi_f130 hC (k := x2.toNatClampNeg) (qok_lt z1)).at (q_lit (k := 0) (n := 2) rfl rfl) (q_clamp (k := 0) rfl) dX0_isCode_27 ?_
      obtain ⟨u2, g3, h⟩ := qb1_s h
      refine d_V (As := [.int x1, .int (A (130 + x2.toNatClampNeg) 0)]) (v0 := some (.int u2)) (w0 := (A, rs)) hG E hw hl (m_X0_finds l hG hC  g3) (qX0 hC) rfl (cwV 2 hts (lw_V q1292 q1294 qs55 q137 q1295) rfl rfl rfl ⟨rfl, kd_X0_finds⟩ ⟨Nat.le_of_ble_eq_true rfl, Nat.le_of_ble_eq_true rfl⟩) rfl (rest := []) (st1 := [.int u2]) rfl rfl rfl dX0_isCode_28 ⟨Nat.le_of_ble_eq_true rfl, Nat.le_of_ble_eq_true rfl⟩ (fun H locs hw => ?_)
      refine lv_aload_n hx hb dX0_isCode_31 rfl (lv_at hl 0 rfl) ?_
      refine r_getX (v := .ref (K.2.1 1)) E hw hC 0 (by decide) q238 rfl dX0_isCode_32 ?_
      refine r_getS1 (v := .ref (K.2.1 104)) hG E hw hC 4 (by decide) q199 rfl dX0_isCode_35 ?_
      refine lv_iload_n hx hb dX0_isCode_38 rfl (lv_at hl 2 rfl) ?_
      refine r_gald (j := x2.toNatClampNeg) E hw (qg_104 hC).at (qok_in z1) rfl dX0_isCode_39 ?_
      refine lv_iconst (v := (1:Int32)) hx hb dX0_isCode_40 (by decide) ?_
      refine r_iald (j := 1) E hw (qi_f130 hC (k := x2.toNatClampNeg) (qok_lt z1)).at (q_lit (k := 1) (n := 2) rfl rfl) (q_clamp (k := 1) rfl) dX0_isCode_41 ?_
      refine lv_iconst (v := (1:Int32)) hx hb dX0_isCode_42 (by decide) ?_
      refine lv_icmp_ne (tgt := 50) hx hb dX0_isCode_43 (by decide) (fun c => ?_) (fun c => ?_)
      · have h := qi_f c h
        refine lv_iconst (v := (0:Int32)) hx hb dX0_isCode_50 (by decide) ?_
        exact w_X0_isCode_51 hG hC E hr ih _ _ _ _ _   h hw (lv_sub hl [0, 1, 2] rfl)
      · have h := qi_t c h
        refine lv_iconst (v := (1:Int32)) hx hb dX0_isCode_46 (by decide) ?_
        refine lv_goto (tgt := 51) hx hb dX0_isCode_47 (by decide) ?_
        exact w_X0_isCode_51 hG hC E hr ih _ _ _ _ _   h hw (lv_sub hl [0, 1, 2] rfl)

def f_X0_isCode (x1 : Int32) (A : QA) : Option (Int32) :=
  f_X0_isCode_2 FU x1 (0:Int32) A
set_option maxHeartbeats 4000000 in
theorem w_X0_isCode_0 {p : Program} {l : Launch} {e : Env} {s : State} {m : MethodId} {args : Array Value} {below : List Frame} {meth : Method} {c : Code} {K : QK} {G : State → Prop} {rs : QA × QL × QX × QM} {ro : Int32} (hG : QG G) (hC : QCl K) (E : EV K G p s m args meth c cX0_isCode "VaneCourt" 3) (hr : meth.sig.returnType = (some .boolean)) : ∀ (x1 : Int32) (A : QA) {H : Heap} {locs : List Loc} {ls : Array Slot}, f_X0_isCode x1 A = some ro → WP K (A, rs) H locs → lv_has ls 3 [(0, .ref (K.2.1 0)), (1, .int x1)] → W p l e (qrm 2 62 0 0) s m args below meth c H locs 0 0 (MQ below (QE K (QR (some (.int ro)) (A, rs))) args s 0 0 (qA K)) (F0 m 0 ls []) := by
  have hx := E.1
  have hb := E.2.1
  have hown := E.2.2.1
  have hts := E.2.2.2.2.1
  intro x1 A H locs ls  h hw hl
  rw [f_X0_isCode] at h
  refine lv_iconst (v := (0:Int32)) hx hb dX0_isCode_0 (by decide) ?_
  refine lv_istore_n (lv' := [(2, .int (0:Int32)), (0, .ref (K.2.1 0)), (1, .int x1)]) hx hb dX0_isCode_1 rfl hl (by decide) rfl (fun ls hl => ?_)
  exact w_X0_isCode_2 hG hC E hr  _ _ _ _   h hw (lv_sub hl [1, 2, 0] rfl)

theorem m_X0_isCode (l : Launch) {K : QK} {G : State → Prop} (hG : QG G) (hC : QCl K) {rs : QA × QL × QX × QM} {x1 : Int32} {A : QA} {ro : Int32} (h : f_X0_isCode x1 A = some ro) : MC l K G yX0_isCode (ws_ yX0_isCode cX0_isCode 3 (some .boolean)) 2 62 0 0 [.ref (K.2.1 0), .int x1] (A, rs) (QR (some (.int ro)) (A, rs)) := by
  refine MC.of (by decide) (Nat.le_of_ble_eq_true rfl) (lv := [(0, .ref (K.2.1 0)), (1, .int x1)]) rfl (fun p e s m below meth c ls E hr hl hw => ?_)
  exact w_X0_isCode_0 hG hC E hr _ _  h hw hl

def f_X0_codes_11 : Nat → Int32 → Int32 → Int32 → QA → Option (Int32)
  | 0, _, _, _, _ => none
  | n + 1, x1, x2, x3, A => if (256:Int32) ≤ x3 then (
  if x1 = (-1:Int32) then (
  some (x2)) else (
  some ((-1:Int32)))) else (
  qb1 (f_X0_isCode x3 A) fun u1 =>
  if u1 = (0:Int32) then (
  qlet (x3 + (1:Int32)) fun x3_7 =>
  f_X0_codes_11 n x1 x2 x3_7 A) else (
  if x2 = x1 then (
  some (x3)) else (
  qlet (x2 + (1:Int32)) fun x2_3 =>
  qlet (x3 + (1:Int32)) fun x3_5 =>
  f_X0_codes_11 n x1 x2_3 x3_5 A)))
set_option maxHeartbeats 4000000 in
theorem w_X0_codes_11 {p : Program} {l : Launch} {e : Env} {s : State} {m : MethodId} {args : Array Value} {below : List Frame} {meth : Method} {c : Code} {K : QK} {G : State → Prop} {rs : QA × QL × QX × QM} {ro : Int32} (hG : QG G) (hC : QCl K) (E : EV K G p s m args meth c cX0_codes "VaneCourt" 4) (hr : meth.sig.returnType = (some .int)) : ∀ (n : Nat) (x1 : Int32) (x2 : Int32) (x3 : Int32) (A : QA) {H : Heap} {locs : List Loc} {ls : Array Slot}, f_X0_codes_11 n x1 x2 x3 A = some ro → WP K (A, rs) H locs → lv_has ls 4 [(0, .ref (K.2.1 0)), (1, .int x1), (2, .int x2), (3, .int x3)] → W p l e (qrm 3 84 0 0) s m args below meth c H locs 0 0 (MQ below (QE K (QR (some (.int ro)) (A, rs))) args s 0 0 (qA K)) (F0 m 11 ls []) := by
  have hx := E.1
  have hb := E.2.1
  have hown := E.2.2.1
  have hts := E.2.2.2.2.1
  intro n
  induction n with
  | zero =>
    intro x1 x2 x3 A H locs ls  h hw hl
    cases h
  | succ n ih =>
    intro x1 x2 x3 A H locs ls  h hw hl
    rw [f_X0_codes_11] at h
    refine lv_iload_n hx hb dX0_codes_11 rfl (lv_at hl 3 rfl) ?_
    refine lv_sipush (v := (256:Int32)) hx hb dX0_codes_12 (by decide) ?_
    refine lv_icmp_ge (tgt := 45) hx hb dX0_codes_15 (by decide) (fun c => ?_) (fun c => ?_)
    · have h := qi_t c h
      refine lv_iload_n hx hb dX0_codes_45 rfl (lv_at hl 1 rfl) ?_
      refine lv_iconst (v := (-1:Int32)) hx hb dX0_codes_46 (by decide) ?_
      refine lv_icmp_ne (tgt := 54) hx hb dX0_codes_47 (by decide) (fun c => ?_) (fun c => ?_)
      · have h := qi_f c h
        refine lv_iconst (v := (-1:Int32)) hx hb dX0_codes_54 (by decide) ?_
        have h := Option.some.inj h
        have h1 := h
        exact d_iret E hr rfl hw h1 rfl dX0_codes_55
      · have h := qi_t c h
        refine lv_iload_n hx hb dX0_codes_50 rfl (lv_at hl 2 rfl) ?_
        refine lv_goto (tgt := 55) hx hb dX0_codes_51 (by decide) ?_
        have h := Option.some.inj h
        have h1 := h
        exact d_iret E hr rfl hw h1 rfl dX0_codes_55
    · have h := qi_f c h
      refine lv_aload_n hx hb dX0_codes_18 rfl (lv_at hl 0 rfl) ?_
      refine lv_iload_n hx hb dX0_codes_19 rfl (lv_at hl 3 rfl) ?_
      obtain ⟨u1, g2, h⟩ := qb1_s h
      refine d_V (As := [.int x3]) (v0 := some (.int u1)) (w0 := (A, rs)) hG E hw hl (m_X0_isCode l hG hC  g2) (qX0 hC) rfl (cwV 1 hts (lw_V q1288 q1290 qs54 q137 q1291) rfl rfl rfl ⟨rfl, kd_X0_isCode⟩ ⟨Nat.le_of_ble_eq_true rfl, Nat.le_of_ble_eq_true rfl⟩) rfl (rest := []) (st1 := [.int u1]) rfl rfl rfl dX0_codes_20 ⟨Nat.le_of_ble_eq_true rfl, Nat.le_of_ble_eq_true rfl⟩ (fun H locs hw => ?_)
      refine lv_if_ne (tgt := 29) hx hb dX0_codes_23 (by decide) (fun c => ?_) (fun c => ?_)
      · have h := qi_f c h
        refine lv_iload_n hx hb dX0_codes_29 rfl (lv_at hl 2 rfl) ?_
        refine lv_iload_n hx hb dX0_codes_30 rfl (lv_at hl 1 rfl) ?_
        refine lv_icmp_ne (tgt := 36) hx hb dX0_codes_31 (by decide) (fun c => ?_) (fun c => ?_)
        · have h := qi_f c h
          obtain ⟨x2_3, e4, h⟩ := qlet_s h
          refine lv_iinc (v := x2_3) (lv' := [(2, .int x2_3), (0, .ref (K.2.1 0)), (1, .int x1), (3, .int x3)]) (k := 2) hx hb dX0_codes_36 hl rfl (by rw [e4]; rfl) (by decide) rfl (fun ls hl => ?_)
          obtain ⟨x3_5, e6, h⟩ := qlet_s h
          refine lv_iinc (v := x3_5) (lv' := [(3, .int x3_5), (2, .int x2_3), (0, .ref (K.2.1 0)), (1, .int x1)]) (k := 3) hx hb dX0_codes_39 hl rfl (by rw [e6]; rfl) (by decide) rfl (fun ls hl => ?_)
          refine lv_goto (tgt := 11) hx hb dX0_codes_42 (by decide) ?_
          exact ih _ _ _ _  h hw (lv_sub hl [2, 3, 1, 0] rfl)
        · have h := qi_t c h
          refine lv_iload_n hx hb dX0_codes_34 rfl (lv_at hl 3 rfl) ?_
          have h := Option.some.inj h
          have h1 := h
          exact d_iret E hr rfl hw h1 rfl dX0_codes_35
      · have h := qi_t c h
        refine lv_goto (tgt := 39) hx hb dX0_codes_26 (by decide) ?_
        obtain ⟨x3_7, e8, h⟩ := qlet_s h
        refine lv_iinc (v := x3_7) (lv' := [(3, .int x3_7), (0, .ref (K.2.1 0)), (1, .int x1), (2, .int x2)]) (k := 3) hx hb dX0_codes_39 hl rfl (by rw [e8]; rfl) (by decide) rfl (fun ls hl => ?_)
        refine lv_goto (tgt := 11) hx hb dX0_codes_42 (by decide) ?_
        exact ih _ _ _ _  h hw (lv_sub hl [1, 2, 3, 0] rfl)

def f_X0_codes (x1 : Int32) (A : QA) : Option (Int32) :=
  if (-1:Int32) ≤ x1 then (
  f_X0_codes_11 FU x1 (0:Int32) (0:Int32) A) else (
  some ((-1:Int32)))
set_option maxHeartbeats 4000000 in
theorem w_X0_codes_0 {p : Program} {l : Launch} {e : Env} {s : State} {m : MethodId} {args : Array Value} {below : List Frame} {meth : Method} {c : Code} {K : QK} {G : State → Prop} {rs : QA × QL × QX × QM} {ro : Int32} (hG : QG G) (hC : QCl K) (E : EV K G p s m args meth c cX0_codes "VaneCourt" 4) (hr : meth.sig.returnType = (some .int)) : ∀ (x1 : Int32) (A : QA) {H : Heap} {locs : List Loc} {ls : Array Slot}, f_X0_codes x1 A = some ro → WP K (A, rs) H locs → lv_has ls 4 [(0, .ref (K.2.1 0)), (1, .int x1)] → W p l e (qrm 3 84 0 0) s m args below meth c H locs 0 0 (MQ below (QE K (QR (some (.int ro)) (A, rs))) args s 0 0 (qA K)) (F0 m 0 ls []) := by
  have hx := E.1
  have hb := E.2.1
  have hown := E.2.2.1
  have hts := E.2.2.2.2.1
  intro x1 A H locs ls  h hw hl
  rw [f_X0_codes] at h
  refine lv_iload_n hx hb dX0_codes_0 rfl (lv_at hl 1 rfl) ?_
  refine lv_iconst (v := (-1:Int32)) hx hb dX0_codes_1 (by decide) ?_
  refine lv_icmp_ge (tgt := 7) hx hb dX0_codes_2 (by decide) (fun c => ?_) (fun c => ?_)
  · have h := qi_t c h
    refine lv_iconst (v := (0:Int32)) hx hb dX0_codes_7 (by decide) ?_
    refine lv_istore_n (lv' := [(2, .int (0:Int32)), (0, .ref (K.2.1 0)), (1, .int x1)]) hx hb dX0_codes_8 rfl hl (by decide) rfl (fun ls hl => ?_)
    refine lv_iconst (v := (0:Int32)) hx hb dX0_codes_9 (by decide) ?_
    refine lv_istore_n (lv' := [(3, .int (0:Int32)), (2, .int (0:Int32)), (0, .ref (K.2.1 0)), (1, .int x1)]) hx hb dX0_codes_10 rfl hl (by decide) rfl (fun ls hl => ?_)
    exact w_X0_codes_11 hG hC E hr  _ _ _ _ _   h hw (lv_sub hl [2, 3, 1, 0] rfl)
  · have h := qi_f c h
    refine lv_iconst (v := (-1:Int32)) hx hb dX0_codes_5 (by decide) ?_
    have h := Option.some.inj h
    have h1 := h
    exact d_iret E hr rfl hw h1 rfl dX0_codes_6

theorem m_X0_codes (l : Launch) {K : QK} {G : State → Prop} (hG : QG G) (hC : QCl K) {rs : QA × QL × QX × QM} {x1 : Int32} {A : QA} {ro : Int32} (h : f_X0_codes x1 A = some ro) : MC l K G yX0_codes (ws_ yX0_codes cX0_codes 4 (some .int)) 3 84 0 0 [.ref (K.2.1 0), .int x1] (A, rs) (QR (some (.int ro)) (A, rs)) := by
  refine MC.of (by decide) (Nat.le_of_ble_eq_true rfl) (lv := [(0, .ref (K.2.1 0)), (1, .int x1)]) rfl (fun p e s m below meth c ls E hr hl hw => ?_)
  exact w_X0_codes_0 hG hC E hr _ _  h hw hl

def f_X0_findBy_4 : Nat → Int32 → Int32 → Int32 → QA → Option (Int32)
  | 0, _, _, _, _ => none
  | n + 1, x1, x2, x3, A => if (256:Int32) ≤ x3 then (
  some (x2)) else (
  qb1 (f_X0_isCode x3 A) fun u1 =>
  if u1 = (0:Int32) then (
  qlet (x2 + (0:Int32)) fun x2_3 =>
  qlet (x3 + (1:Int32)) fun x3_5 =>
  f_X0_findBy_4 n x1 x2_3 x3_5 A) else (
  qb1 (f_X0_finds x3 x1 A) fun u7 =>
  if u7 = (0:Int32) then (
  qlet (x2 + (0:Int32)) fun x2_9 =>
  qlet (x3 + (1:Int32)) fun x3_11 =>
  f_X0_findBy_4 n x1 x2_9 x3_11 A) else (
  qlet (x2 + (1:Int32)) fun x2_13 =>
  qlet (x3 + (1:Int32)) fun x3_15 =>
  f_X0_findBy_4 n x1 x2_13 x3_15 A)))
set_option maxHeartbeats 4000000 in
theorem w_X0_findBy_4 {p : Program} {l : Launch} {e : Env} {s : State} {m : MethodId} {args : Array Value} {below : List Frame} {meth : Method} {c : Code} {K : QK} {G : State → Prop} {rs : QA × QL × QX × QM} {ro : Int32} (hG : QG G) (hC : QCl K) (E : EV K G p s m args meth c cX0_findBy "VaneCourt" 4) (hr : meth.sig.returnType = (some .int)) : ∀ (n : Nat) (x1 : Int32) (x2 : Int32) (x3 : Int32) (A : QA) {H : Heap} {locs : List Loc} {ls : Array Slot}, f_X0_findBy_4 n x1 x2 x3 A = some ro → WP K (A, rs) H locs → lv_has ls 4 [(0, .ref (K.2.1 0)), (1, .int x1), (2, .int x2), (3, .int x3)] → W p l e (qrm 3 84 0 0) s m args below meth c H locs 0 0 (MQ below (QE K (QR (some (.int ro)) (A, rs))) args s 0 0 (qA K)) (F0 m 4 ls []) := by
  have hx := E.1
  have hb := E.2.1
  have hown := E.2.2.1
  have hts := E.2.2.2.2.1
  intro n
  induction n with
  | zero =>
    intro x1 x2 x3 A H locs ls  h hw hl
    cases h
  | succ n ih =>
    intro x1 x2 x3 A H locs ls  h hw hl
    rw [f_X0_findBy_4] at h
    refine lv_iload_n hx hb dX0_findBy_4 rfl (lv_at hl 3 rfl) ?_
    refine lv_sipush (v := (256:Int32)) hx hb dX0_findBy_5 (by decide) ?_
    refine lv_icmp_ge (tgt := 42) hx hb dX0_findBy_8 (by decide) (fun c => ?_) (fun c => ?_)
    · have h := qi_t c h
      refine lv_iload_n hx hb dX0_findBy_42 rfl (lv_at hl 2 rfl) ?_
      have h := Option.some.inj h
      have h1 := h
      exact d_iret E hr rfl hw h1 rfl dX0_findBy_43
    · have h := qi_f c h
      refine lv_iload_n hx hb dX0_findBy_11 rfl (lv_at hl 2 rfl) ?_
      refine lv_aload_n hx hb dX0_findBy_12 rfl (lv_at hl 0 rfl) ?_
      refine lv_iload_n hx hb dX0_findBy_13 rfl (lv_at hl 3 rfl) ?_
      obtain ⟨u1, g2, h⟩ := qb1_s h
      refine d_V (As := [.int x3]) (v0 := some (.int u1)) (w0 := (A, rs)) hG E hw hl (m_X0_isCode l hG hC  g2) (qX0 hC) rfl (cwV 1 hts (lw_V q1288 q1290 qs54 q137 q1291) rfl rfl rfl ⟨rfl, kd_X0_isCode⟩ ⟨Nat.le_of_ble_eq_true rfl, Nat.le_of_ble_eq_true rfl⟩) rfl (rest := [.int x2]) (st1 := [.int u1, .int x2]) rfl rfl rfl dX0_findBy_14 ⟨Nat.le_of_ble_eq_true rfl, Nat.le_of_ble_eq_true rfl⟩ (fun H locs hw => ?_)
      refine lv_if_eq (tgt := 33) hx hb dX0_findBy_17 (by decide) (fun c => ?_) (fun c => ?_)
      · have h := qi_t c h
        refine lv_iconst (v := (0:Int32)) hx hb dX0_findBy_33 (by decide) ?_
        refine lv_iadd hx hb dX0_findBy_34 ?_
        obtain ⟨x2_3, e4, h⟩ := qlet_s h
        refine r_nm e4 ?_
        refine lv_istore_n (lv' := [(2, .int x2_3), (0, .ref (K.2.1 0)), (1, .int x1), (3, .int x3)]) hx hb dX0_findBy_35 rfl hl (by decide) rfl (fun ls hl => ?_)
        obtain ⟨x3_5, e6, h⟩ := qlet_s h
        refine lv_iinc (v := x3_5) (lv' := [(3, .int x3_5), (2, .int x2_3), (0, .ref (K.2.1 0)), (1, .int x1)]) (k := 3) hx hb dX0_findBy_36 hl rfl (by rw [e6]; rfl) (by decide) rfl (fun ls hl => ?_)
        refine lv_goto (tgt := 4) hx hb dX0_findBy_39 (by decide) ?_
        exact ih _ _ _ _  h hw (lv_sub hl [2, 3, 1, 0] rfl)
      · have h := qi_f c h
        refine lv_aload_n hx hb dX0_findBy_20 rfl (lv_at hl 0 rfl) ?_
        refine lv_iload_n hx hb dX0_findBy_21 rfl (lv_at hl 3 rfl) ?_
        refine lv_iload_n hx hb dX0_findBy_22 rfl (lv_at hl 1 rfl) ?_
        obtain ⟨u7, g8, h⟩ := qb1_s h
        refine d_V (As := [.int x3, .int x1]) (v0 := some (.int u7)) (w0 := (A, rs)) hG E hw hl (m_X0_finds l hG hC  g8) (qX0 hC) rfl (cwV 2 hts (lw_V q1292 q1294 qs55 q137 q1295) rfl rfl rfl ⟨rfl, kd_X0_finds⟩ ⟨Nat.le_of_ble_eq_true rfl, Nat.le_of_ble_eq_true rfl⟩) rfl (rest := [.int x2]) (st1 := [.int u7, .int x2]) rfl rfl rfl dX0_findBy_23 ⟨Nat.le_of_ble_eq_true rfl, Nat.le_of_ble_eq_true rfl⟩ (fun H locs hw => ?_)
        refine lv_if_eq (tgt := 33) hx hb dX0_findBy_26 (by decide) (fun c => ?_) (fun c => ?_)
        · have h := qi_t c h
          refine lv_iconst (v := (0:Int32)) hx hb dX0_findBy_33 (by decide) ?_
          refine lv_iadd hx hb dX0_findBy_34 ?_
          obtain ⟨x2_9, e10, h⟩ := qlet_s h
          refine r_nm e10 ?_
          refine lv_istore_n (lv' := [(2, .int x2_9), (0, .ref (K.2.1 0)), (1, .int x1), (3, .int x3)]) hx hb dX0_findBy_35 rfl hl (by decide) rfl (fun ls hl => ?_)
          obtain ⟨x3_11, e12, h⟩ := qlet_s h
          refine lv_iinc (v := x3_11) (lv' := [(3, .int x3_11), (2, .int x2_9), (0, .ref (K.2.1 0)), (1, .int x1)]) (k := 3) hx hb dX0_findBy_36 hl rfl (by rw [e12]; rfl) (by decide) rfl (fun ls hl => ?_)
          refine lv_goto (tgt := 4) hx hb dX0_findBy_39 (by decide) ?_
          exact ih _ _ _ _  h hw (lv_sub hl [2, 3, 1, 0] rfl)
        · have h := qi_f c h
          refine lv_iconst (v := (1:Int32)) hx hb dX0_findBy_29 (by decide) ?_
          refine lv_goto (tgt := 34) hx hb dX0_findBy_30 (by decide) ?_
          refine lv_iadd hx hb dX0_findBy_34 ?_
          obtain ⟨x2_13, e14, h⟩ := qlet_s h
          refine r_nm e14 ?_
          refine lv_istore_n (lv' := [(2, .int x2_13), (0, .ref (K.2.1 0)), (1, .int x1), (3, .int x3)]) hx hb dX0_findBy_35 rfl hl (by decide) rfl (fun ls hl => ?_)
          obtain ⟨x3_15, e16, h⟩ := qlet_s h
          refine lv_iinc (v := x3_15) (lv' := [(3, .int x3_15), (2, .int x2_13), (0, .ref (K.2.1 0)), (1, .int x1)]) (k := 3) hx hb dX0_findBy_36 hl rfl (by rw [e16]; rfl) (by decide) rfl (fun ls hl => ?_)
          refine lv_goto (tgt := 4) hx hb dX0_findBy_39 (by decide) ?_
          exact ih _ _ _ _  h hw (lv_sub hl [2, 3, 1, 0] rfl)

def f_X0_findBy (x1 : Int32) (A : QA) : Option (Int32) :=
  f_X0_findBy_4 FU x1 (0:Int32) (0:Int32) A
set_option maxHeartbeats 4000000 in
theorem w_X0_findBy_0 {p : Program} {l : Launch} {e : Env} {s : State} {m : MethodId} {args : Array Value} {below : List Frame} {meth : Method} {c : Code} {K : QK} {G : State → Prop} {rs : QA × QL × QX × QM} {ro : Int32} (hG : QG G) (hC : QCl K) (E : EV K G p s m args meth c cX0_findBy "VaneCourt" 4) (hr : meth.sig.returnType = (some .int)) : ∀ (x1 : Int32) (A : QA) {H : Heap} {locs : List Loc} {ls : Array Slot}, f_X0_findBy x1 A = some ro → WP K (A, rs) H locs → lv_has ls 4 [(0, .ref (K.2.1 0)), (1, .int x1)] → W p l e (qrm 3 84 0 0) s m args below meth c H locs 0 0 (MQ below (QE K (QR (some (.int ro)) (A, rs))) args s 0 0 (qA K)) (F0 m 0 ls []) := by
  have hx := E.1
  have hb := E.2.1
  have hown := E.2.2.1
  have hts := E.2.2.2.2.1
  intro x1 A H locs ls  h hw hl
  rw [f_X0_findBy] at h
  refine lv_iconst (v := (0:Int32)) hx hb dX0_findBy_0 (by decide) ?_
  refine lv_istore_n (lv' := [(2, .int (0:Int32)), (0, .ref (K.2.1 0)), (1, .int x1)]) hx hb dX0_findBy_1 rfl hl (by decide) rfl (fun ls hl => ?_)
  refine lv_iconst (v := (0:Int32)) hx hb dX0_findBy_2 (by decide) ?_
  refine lv_istore_n (lv' := [(3, .int (0:Int32)), (2, .int (0:Int32)), (0, .ref (K.2.1 0)), (1, .int x1)]) hx hb dX0_findBy_3 rfl hl (by decide) rfl (fun ls hl => ?_)
  exact w_X0_findBy_4 hG hC E hr  _ _ _ _ _   h hw (lv_sub hl [2, 3, 1, 0] rfl)

theorem m_X0_findBy (l : Launch) {K : QK} {G : State → Prop} (hG : QG G) (hC : QCl K) {rs : QA × QL × QX × QM} {x1 : Int32} {A : QA} {ro : Int32} (h : f_X0_findBy x1 A = some ro) : MC l K G yX0_findBy (ws_ yX0_findBy cX0_findBy 4 (some .int)) 3 84 0 0 [.ref (K.2.1 0), .int x1] (A, rs) (QR (some (.int ro)) (A, rs)) := by
  refine MC.of (by decide) (Nat.le_of_ble_eq_true rfl) (lv := [(0, .ref (K.2.1 0)), (1, .int x1)]) rfl (fun p e s m below meth c ls E hr hl hw => ?_)
  exact w_X0_findBy_0 hG hC E hr _ _  h hw hl

def f_X0_sure (x1 : Int32) (A : QA) : Option (Int32) :=
  qb1 (f_X0_codes (-1:Int32) A) fun u1 =>
  qb1 (f_X0_isCase x1 A) fun u3 =>
  if u3 = (0:Int32) then (
  some ((-1:Int32))) else (
  if u1 = (0:Int32) then (
  some ((-1:Int32))) else (
  qb1 (f_X0_findBy x1 A) fun u5 =>
  if u5 = u1 then (
  some ((1:Int32))) else (
  if u5 = (0:Int32) then (
  some ((0:Int32))) else (
  some ((-1:Int32))))))
set_option maxHeartbeats 4000000 in
theorem w_X0_sure_0 {p : Program} {l : Launch} {e : Env} {s : State} {m : MethodId} {args : Array Value} {below : List Frame} {meth : Method} {c : Code} {K : QK} {G : State → Prop} {rs : QA × QL × QX × QM} {ro : Int32} (hG : QG G) (hC : QCl K) (E : EV K G p s m args meth c cX0_sure "VaneCourt" 4) (hr : meth.sig.returnType = (some .int)) : ∀ (x1 : Int32) (A : QA) {H : Heap} {locs : List Loc} {ls : Array Slot}, f_X0_sure x1 A = some ro → WP K (A, rs) H locs → lv_has ls 4 [(0, .ref (K.2.1 0)), (1, .int x1)] → W p l e (qrm 4 107 0 0) s m args below meth c H locs 0 0 (MQ below (QE K (QR (some (.int ro)) (A, rs))) args s 0 0 (qA K)) (F0 m 0 ls []) := by
  have hx := E.1
  have hb := E.2.1
  have hown := E.2.2.1
  have hts := E.2.2.2.2.1
  intro x1 A H locs ls  h hw hl
  rw [f_X0_sure] at h
  refine lv_aload_n hx hb dX0_sure_0 rfl (lv_at hl 0 rfl) ?_
  refine lv_iconst (v := (-1:Int32)) hx hb dX0_sure_1 (by decide) ?_
  obtain ⟨u1, g2, h⟩ := qb1_s h
  refine d_V (As := [.int (-1:Int32)]) (v0 := some (.int u1)) (w0 := (A, rs)) hG E hw hl (m_X0_codes l hG hC  g2) (qX0 hC) rfl (cwV 1 hts (lw_V q1300 q1285 q1286 q137 q1287) rfl rfl rfl ⟨rfl, kd_X0_codes⟩ ⟨Nat.le_of_ble_eq_true rfl, Nat.le_of_ble_eq_true rfl⟩) rfl (rest := []) (st1 := [.int u1]) rfl rfl rfl dX0_sure_2 ⟨Nat.le_of_ble_eq_true rfl, Nat.le_of_ble_eq_true rfl⟩ (fun H locs hw => ?_)
  refine lv_istore_n (lv' := [(2, .int u1), (0, .ref (K.2.1 0)), (1, .int x1)]) hx hb dX0_sure_5 rfl hl (by decide) rfl (fun ls hl => ?_)
  refine lv_aload_n hx hb dX0_sure_6 rfl (lv_at hl 1 rfl) ?_
  refine lv_iload_n hx hb dX0_sure_7 rfl (lv_at hl 2 rfl) ?_
  obtain ⟨u3, g4, h⟩ := qb1_s h
  refine d_V (As := [.int x1]) (v0 := some (.int u3)) (w0 := (A, rs)) hG E hw hl (m_X0_isCase l hG hC  g4) (qX0 hC) rfl (cwV 1 hts (lw_V q1077 q1079 qs38 q137 q1080) rfl rfl rfl ⟨rfl, kd_X0_isCase⟩ ⟨Nat.le_of_ble_eq_true rfl, Nat.le_of_ble_eq_true rfl⟩) rfl (rest := []) (st1 := [.int u3]) rfl rfl rfl dX0_sure_8 ⟨Nat.le_of_ble_eq_true rfl, Nat.le_of_ble_eq_true rfl⟩ (fun H locs hw => ?_)
  refine lv_if_eq (tgt := 18) hx hb dX0_sure_11 (by decide) (fun c => ?_) (fun c => ?_)
  · have h := qi_t c h
    refine lv_iconst (v := (-1:Int32)) hx hb dX0_sure_18 (by decide) ?_
    have h := Option.some.inj h
    have h1 := h
    exact d_iret E hr rfl hw h1 rfl dX0_sure_19
  · have h := qi_f c h
    refine lv_iload_n hx hb dX0_sure_14 rfl (lv_at hl 0 rfl) ?_
    refine lv_if_ne (tgt := 20) hx hb dX0_sure_15 (by decide) (fun c => ?_) (fun c => ?_)
    · have h := qi_f c h
      refine lv_aload_n hx hb dX0_sure_20 rfl (lv_at hl 1 rfl) ?_
      refine lv_iload_n hx hb dX0_sure_21 rfl (lv_at hl 2 rfl) ?_
      obtain ⟨u5, g6, h⟩ := qb1_s h
      refine d_V (As := [.int x1]) (v0 := some (.int u5)) (w0 := (A, rs)) hG E hw hl (m_X0_findBy l hG hC  g6) (qX0 hC) rfl (cwV 1 hts (lw_V q1301 q1303 qs56 q137 q1304) rfl rfl rfl ⟨rfl, kd_X0_findBy⟩ ⟨Nat.le_of_ble_eq_true rfl, Nat.le_of_ble_eq_true rfl⟩) rfl (rest := []) (st1 := [.int u5]) rfl rfl rfl dX0_sure_22 ⟨Nat.le_of_ble_eq_true rfl, Nat.le_of_ble_eq_true rfl⟩ (fun H locs hw => ?_)
      refine lv_istore_n (lv' := [(3, .int u5), (2, .int u1), (0, .ref (K.2.1 0)), (1, .int x1)]) hx hb dX0_sure_25 rfl hl (by decide) rfl (fun ls hl => ?_)
      refine lv_iload_n hx hb dX0_sure_26 rfl (lv_at hl 0 rfl) ?_
      refine lv_iload_n hx hb dX0_sure_27 rfl (lv_at hl 1 rfl) ?_
      refine lv_icmp_ne (tgt := 35) hx hb dX0_sure_28 (by decide) (fun c => ?_) (fun c => ?_)
      · have h := qi_f c h
        refine lv_iload_n hx hb dX0_sure_35 rfl (lv_at hl 0 rfl) ?_
        refine lv_if_ne (tgt := 43) hx hb dX0_sure_36 (by decide) (fun c => ?_) (fun c => ?_)
        · have h := qi_f c h
          refine lv_iconst (v := (-1:Int32)) hx hb dX0_sure_43 (by decide) ?_
          have h := Option.some.inj h
          have h1 := h
          exact d_iret E hr rfl hw h1 rfl dX0_sure_44
        · have h := qi_t c h
          refine lv_iconst (v := (0:Int32)) hx hb dX0_sure_39 (by decide) ?_
          refine lv_goto (tgt := 44) hx hb dX0_sure_40 (by decide) ?_
          have h := Option.some.inj h
          have h1 := h
          exact d_iret E hr rfl hw h1 rfl dX0_sure_44
      · have h := qi_t c h
        refine lv_iconst (v := (1:Int32)) hx hb dX0_sure_31 (by decide) ?_
        refine lv_goto (tgt := 44) hx hb dX0_sure_32 (by decide) ?_
        have h := Option.some.inj h
        have h1 := h
        exact d_iret E hr rfl hw h1 rfl dX0_sure_44
    · have h := qi_t c h
      refine lv_iconst (v := (-1:Int32)) hx hb dX0_sure_18 (by decide) ?_
      have h := Option.some.inj h
      have h1 := h
      exact d_iret E hr rfl hw h1 rfl dX0_sure_19

theorem m_X0_sure (l : Launch) {K : QK} {G : State → Prop} (hG : QG G) (hC : QCl K) {rs : QA × QL × QX × QM} {x1 : Int32} {A : QA} {ro : Int32} (h : f_X0_sure x1 A = some ro) : MC l K G yX0_sure (ws_ yX0_sure cX0_sure 4 (some .int)) 4 107 0 0 [.ref (K.2.1 0), .int x1] (A, rs) (QR (some (.int ro)) (A, rs)) := by
  refine MC.of (by decide) (Nat.le_of_ble_eq_true rfl) (lv := [(0, .ref (K.2.1 0)), (1, .int x1)]) rfl (fun p e s m below meth c ls E hr hl hw => ?_)
  exact w_X0_sure_0 hG hC E hr _ _  h hw hl

def f_X0_toBring_13 : Nat → Int32 → Int32 → Int32 → Int32 → QA → Option (Int32)
  | 0, _, _, _, _, _ => none
  | n + 1, x1, x2, x3, x4, A => if (A 100 0) ≤ x4 then (
  some (x2)) else (
  qb1 (f_X0_findBy x4 A) fun u3 =>
  qlet (if 0 ≤ (((2:Int32) * u3) - x1) then (((2:Int32) * u3) - x1) else 0 - (((2:Int32) * u3) - x1)) fun x5_5 =>
  if x5_5 < x3 then (
  qlet (x4 + (1:Int32)) fun x4_7 =>
  f_X0_toBring_13 n x1 x4 x5_5 x4_7 A) else (
  qlet (x4 + (1:Int32)) fun x4_9 =>
  f_X0_toBring_13 n x1 x2 x3 x4_9 A))
set_option maxHeartbeats 4000000 in
theorem w_X0_toBring_13 {p : Program} {l : Launch} {e : Env} {s : State} {m : MethodId} {args : Array Value} {below : List Frame} {meth : Method} {c : Code} {K : QK} {G : State → Prop} {rs : QA × QL × QX × QM} {ro : Int32} (hG : QG G) (hC : QCl K) (E : EV K G p s m args meth c cX0_toBring "VaneCourt" 6) (hr : meth.sig.returnType = (some .int)) : ∀ (n : Nat) (x1 : Int32) (x2 : Int32) (x3 : Int32) (x4 : Int32) (A : QA) {H : Heap} {locs : List Loc} {ls : Array Slot}, f_X0_toBring_13 n x1 x2 x3 x4 A = some ro → WP K (A, rs) H locs → lv_has ls 6 [(0, .ref (K.2.1 0)), (1, .int x1), (2, .int x2), (3, .int x3), (4, .int x4)] → W p l e (qrm 4 107 0 0) s m args below meth c H locs 0 0 (MQ below (QE K (QR (some (.int ro)) (A, rs))) args s 0 0 (qA K)) (F0 m 13 ls []) := by
  have hx := E.1
  have hb := E.2.1
  have hown := E.2.2.1
  have hts := E.2.2.2.2.1
  intro n
  induction n with
  | zero =>
    intro x1 x2 x3 x4 A H locs ls  h hw hl
    cases h
  | succ n ih =>
    intro x1 x2 x3 x4 A H locs ls  h hw hl
    rw [f_X0_toBring_13] at h
    refine lv_iload hx hb dX0_toBring_13 (lv_at hl 4 rfl) ?_
    refine lv_aload_n hx hb dX0_toBring_15 rfl (lv_at hl 0 rfl) ?_
    refine r_getX (v := .ref (K.2.1 1)) E hw hC 0 (by decide) q238 rfl dX0_toBring_16 ?_
    refine r_getS1 (v := .ref (K.2.1 100)) hG E hw hC 0 (by decide) q191 rfl dX0_toBring_19 ?_
    refine lv_iconst (v := (0:Int32)) hx hb dX0_toBring_22 (by decide) ?_
    refine r_iald (j := 0) E hw (qi_100 hC).at (q_lit (k := 0) (n := 7) rfl rfl) (q_clamp (k := 0) rfl) dX0_toBring_23 ?_
    refine lv_icmp_ge (tgt := 63) hx hb dX0_toBring_24 (by decide) (fun c => ?_) (fun c => ?_)
    · have h := qi_t c h
      refine lv_iload_n hx hb dX0_toBring_63 rfl (lv_at hl 2 rfl) ?_
      have h := Option.some.inj h
      have h1 := h
      exact d_iret E hr rfl hw h1 rfl dX0_toBring_64
    · have h := qi_f c h
      refine lv_iconst (v := (2:Int32)) hx hb dX0_toBring_27 (by decide) ?_
      refine lv_aload_n hx hb dX0_toBring_28 rfl (lv_at hl 0 rfl) ?_
      refine lv_iload hx hb dX0_toBring_29 (lv_at hl 4 rfl) ?_
      obtain ⟨u3, g4, h⟩ := qb1_s h
      refine d_V (As := [.int x4]) (v0 := some (.int u3)) (w0 := (A, rs)) hG E hw hl (m_X0_findBy l hG hC  g4) (qX0 hC) rfl (cwV 1 hts (lw_V q1301 q1303 qs56 q137 q1304) rfl rfl rfl ⟨rfl, kd_X0_findBy⟩ ⟨Nat.le_of_ble_eq_true rfl, Nat.le_of_ble_eq_true rfl⟩) rfl (rest := [.int (2:Int32)]) (st1 := [.int u3, .int (2:Int32)]) rfl rfl rfl dX0_toBring_31 ⟨Nat.le_of_ble_eq_true rfl, Nat.le_of_ble_eq_true rfl⟩ (fun H locs hw => ?_)
      refine lv_imul hx hb dX0_toBring_34 ?_
      refine lv_iload_n hx hb dX0_toBring_35 rfl (lv_at hl 1 rfl) ?_
      refine lv_isub hx hb dX0_toBring_36 ?_
      refine va_mabs hx hb (E.2.2.2.2.2.2.2.trans hl.1.symm) hown (hts _ q1309) (hts _ q1310) (hts _ q150) (hts _ q1311) (Nat.le_of_ble_eq_true rfl) (Nat.le_of_ble_eq_true rfl) (Nat.le_refl _) (Nat.le_refl _) dX0_toBring_37 ?_
      obtain ⟨x5_5, e6, h⟩ := qlet_s h
      refine r_nm e6 ?_
      refine lv_istore (lv' := [(5, .int x5_5), (0, .ref (K.2.1 0)), (1, .int x1), (2, .int x2), (3, .int x3), (4, .int x4)]) hx hb dX0_toBring_40 hl (by decide) rfl (fun ls hl => ?_)
      refine lv_iload hx hb dX0_toBring_42 (lv_at hl 0 rfl) ?_
      refine lv_iload_n hx hb dX0_toBring_44 rfl (lv_at hl 4 rfl) ?_
      refine lv_icmp_lt (tgt := 51) hx hb dX0_toBring_45 (by decide) (fun c => ?_) (fun c => ?_)
      · have h := qi_t c h
        refine lv_iload hx hb dX0_toBring_51 (lv_at hl 5 rfl) ?_
        refine lv_istore_n (lv' := [(2, .int x4), (5, .int x5_5), (0, .ref (K.2.1 0)), (1, .int x1), (3, .int x3), (4, .int x4)]) hx hb dX0_toBring_53 rfl hl (by decide) rfl (fun ls hl => ?_)
        refine lv_iload hx hb dX0_toBring_54 (lv_at hl 1 rfl) ?_
        refine lv_istore_n (lv' := [(3, .int x5_5), (2, .int x4), (5, .int x5_5), (0, .ref (K.2.1 0)), (1, .int x1), (4, .int x4)]) hx hb dX0_toBring_56 rfl hl (by decide) rfl (fun ls hl => ?_)
        obtain ⟨x4_7, e8, h⟩ := qlet_s h
        refine lv_iinc (v := x4_7) (lv' := [(4, .int x4_7), (3, .int x5_5), (2, .int x4), (5, .int x5_5), (0, .ref (K.2.1 0)), (1, .int x1)]) (k := 5) hx hb dX0_toBring_57 hl rfl (by rw [e8]; rfl) (by decide) rfl (fun ls hl => ?_)
        refine lv_goto (tgt := 13) hx hb dX0_toBring_60 (by decide) ?_
        exact ih _ _ _ _ _  h hw (lv_sub hl [4, 5, 2, 1, 0] rfl)
      · have h := qi_f c h
        refine lv_goto (tgt := 57) hx hb dX0_toBring_48 (by decide) ?_
        obtain ⟨x4_9, e10, h⟩ := qlet_s h
        refine lv_iinc (v := x4_9) (lv' := [(4, .int x4_9), (5, .int x5_5), (0, .ref (K.2.1 0)), (1, .int x1), (2, .int x2), (3, .int x3)]) (k := 5) hx hb dX0_toBring_57 hl rfl (by rw [e10]; rfl) (by decide) rfl (fun ls hl => ?_)
        refine lv_goto (tgt := 13) hx hb dX0_toBring_60 (by decide) ?_
        exact ih _ _ _ _ _  h hw (lv_sub hl [2, 3, 4, 5, 0] rfl)

def f_X0_toBring (A : QA) : Option (Int32) :=
  qb1 (f_X0_codes (-1:Int32) A) fun u1 =>
  f_X0_toBring_13 FU u1 (-1:Int32) u1 (0:Int32) A
set_option maxHeartbeats 4000000 in
theorem w_X0_toBring_0 {p : Program} {l : Launch} {e : Env} {s : State} {m : MethodId} {args : Array Value} {below : List Frame} {meth : Method} {c : Code} {K : QK} {G : State → Prop} {rs : QA × QL × QX × QM} {ro : Int32} (hG : QG G) (hC : QCl K) (E : EV K G p s m args meth c cX0_toBring "VaneCourt" 6) (hr : meth.sig.returnType = (some .int)) : ∀ (A : QA) {H : Heap} {locs : List Loc} {ls : Array Slot}, f_X0_toBring A = some ro → WP K (A, rs) H locs → lv_has ls 6 [(0, .ref (K.2.1 0))] → W p l e (qrm 4 107 0 0) s m args below meth c H locs 0 0 (MQ below (QE K (QR (some (.int ro)) (A, rs))) args s 0 0 (qA K)) (F0 m 0 ls []) := by
  have hx := E.1
  have hb := E.2.1
  have hown := E.2.2.1
  have hts := E.2.2.2.2.1
  intro A H locs ls  h hw hl
  rw [f_X0_toBring] at h
  refine lv_aload_n hx hb dX0_toBring_0 rfl (lv_at hl 0 rfl) ?_
  refine lv_iconst (v := (-1:Int32)) hx hb dX0_toBring_1 (by decide) ?_
  obtain ⟨u1, g2, h⟩ := qb1_s h
  refine d_V (As := [.int (-1:Int32)]) (v0 := some (.int u1)) (w0 := (A, rs)) hG E hw hl (m_X0_codes l hG hC  g2) (qX0 hC) rfl (cwV 1 hts (lw_V q1300 q1285 q1286 q137 q1287) rfl rfl rfl ⟨rfl, kd_X0_codes⟩ ⟨Nat.le_of_ble_eq_true rfl, Nat.le_of_ble_eq_true rfl⟩) rfl (rest := []) (st1 := [.int u1]) rfl rfl rfl dX0_toBring_2 ⟨Nat.le_of_ble_eq_true rfl, Nat.le_of_ble_eq_true rfl⟩ (fun H locs hw => ?_)
  refine lv_istore_n (lv' := [(1, .int u1), (0, .ref (K.2.1 0))]) hx hb dX0_toBring_5 rfl hl (by decide) rfl (fun ls hl => ?_)
  refine lv_iconst (v := (-1:Int32)) hx hb dX0_toBring_6 (by decide) ?_
  refine lv_istore_n (lv' := [(2, .int (-1:Int32)), (1, .int u1), (0, .ref (K.2.1 0))]) hx hb dX0_toBring_7 rfl hl (by decide) rfl (fun ls hl => ?_)
  refine lv_iload_n hx hb dX0_toBring_8 rfl (lv_at hl 1 rfl) ?_
  refine lv_istore_n (lv' := [(3, .int u1), (2, .int (-1:Int32)), (1, .int u1), (0, .ref (K.2.1 0))]) hx hb dX0_toBring_9 rfl hl (by decide) rfl (fun ls hl => ?_)
  refine lv_iconst (v := (0:Int32)) hx hb dX0_toBring_10 (by decide) ?_
  refine lv_istore (lv' := [(4, .int (0:Int32)), (3, .int u1), (2, .int (-1:Int32)), (1, .int u1), (0, .ref (K.2.1 0))]) hx hb dX0_toBring_11 hl (by decide) rfl (fun ls hl => ?_)
  exact w_X0_toBring_13 hG hC E hr  _ _ _ _ _ _   h hw (lv_sub hl [4, 3, 2, 1, 0] rfl)

theorem m_X0_toBring (l : Launch) {K : QK} {G : State → Prop} (hG : QG G) (hC : QCl K) {rs : QA × QL × QX × QM} {A : QA} {ro : Int32} (h : f_X0_toBring A = some ro) : MC l K G yX0_toBring (ws_ yX0_toBring cX0_toBring 6 (some .int)) 4 107 0 0 [.ref (K.2.1 0)] (A, rs) (QR (some (.int ro)) (A, rs)) := by
  refine MC.of (by decide) (Nat.le_of_ble_eq_true rfl) (lv := [(0, .ref (K.2.1 0))]) rfl (fun p e s m below meth c ls E hr hl hw => ?_)
  exact w_X0_toBring_0 hG hC E hr _  h hw hl

def f_X0_sumOf_5 : Nat → Int32 → Int32 → Int32 → Int32 → QA → Option (Int32)
  | 0, _, _, _, _, _ => none
  | n + 1, x1, x2, x3, x4, A => if (A 100 6) ≤ x4 then (
  some (x3)) else (
  qb1 (f_X0_has x1 x4) fun u1 =>
  if u1 = (0:Int32) then (
  qlet (x3 + (0:Int32)) fun x3_3 =>
  qlet (x4 + (1:Int32)) fun x4_5 =>
  f_X0_sumOf_5 n x1 x2 x3_3 x4_5 A) else (
  qif (qok x4 8) <|
  qif (qok x2 2) <|
  qlet (x3 + (A (140 + x4.toNatClampNeg) x2.toNatClampNeg)) fun x3_9 =>
  qlet (x4 + (1:Int32)) fun x4_11 =>
  f_X0_sumOf_5 n x1 x2 x3_9 x4_11 A))
set_option maxHeartbeats 4000000 in
theorem w_X0_sumOf_5 {p : Program} {l : Launch} {e : Env} {s : State} {m : MethodId} {args : Array Value} {below : List Frame} {meth : Method} {c : Code} {K : QK} {G : State → Prop} {rs : QA × QL × QX × QM} {ro : Int32} (hG : QG G) (hC : QCl K) (E : EV K G p s m args meth c cX0_sumOf "VaneCourt" 5) (hr : meth.sig.returnType = (some .int)) : ∀ (n : Nat) (x1 : Int32) (x2 : Int32) (x3 : Int32) (x4 : Int32) (A : QA) {H : Heap} {locs : List Loc} {ls : Array Slot}, f_X0_sumOf_5 n x1 x2 x3 x4 A = some ro → WP K (A, rs) H locs → lv_has ls 5 [(0, .ref (K.2.1 0)), (1, .int x1), (2, .int x2), (3, .int x3), (4, .int x4)] → W p l e (qrm 2 61 0 0) s m args below meth c H locs 0 0 (MQ below (QE K (QR (some (.int ro)) (A, rs))) args s 0 0 (qA K)) (F0 m 5 ls []) := by
  have hx := E.1
  have hb := E.2.1
  have hown := E.2.2.1
  have hts := E.2.2.2.2.1
  intro n
  induction n with
  | zero =>
    intro x1 x2 x3 x4 A H locs ls  h hw hl
    cases h
  | succ n ih =>
    intro x1 x2 x3 x4 A H locs ls  h hw hl
    rw [f_X0_sumOf_5] at h
    refine lv_iload hx hb dX0_sumOf_5 (lv_at hl 4 rfl) ?_
    refine lv_aload_n hx hb dX0_sumOf_7 rfl (lv_at hl 0 rfl) ?_
    refine r_getX (v := .ref (K.2.1 1)) E hw hC 0 (by decide) q238 rfl dX0_sumOf_8 ?_
    refine r_getS1 (v := .ref (K.2.1 100)) hG E hw hC 0 (by decide) q191 rfl dX0_sumOf_11 ?_
    refine lv_bipush (v := (6:Int32)) hx hb dX0_sumOf_14 (by decide) ?_
    refine r_iald (j := 6) E hw (qi_100 hC).at (q_lit (k := 6) (n := 7) rfl rfl) (q_clamp (k := 6) rfl) dX0_sumOf_16 ?_
    refine lv_icmp_ge (tgt := 54) hx hb dX0_sumOf_17 (by decide) (fun c => ?_) (fun c => ?_)
    · have h := qi_t c h
      refine lv_iload_n hx hb dX0_sumOf_54 rfl (lv_at hl 3 rfl) ?_
      have h := Option.some.inj h
      have h1 := h
      exact d_iret E hr rfl hw h1 rfl dX0_sumOf_55
    · have h := qi_f c h
      refine lv_iload_n hx hb dX0_sumOf_20 rfl (lv_at hl 3 rfl) ?_
      refine lv_iload_n hx hb dX0_sumOf_21 rfl (lv_at hl 1 rfl) ?_
      refine lv_iload hx hb dX0_sumOf_22 (lv_at hl 4 rfl) ?_
      obtain ⟨u1, g2, h⟩ := qb1_s h
      refine d_S (As := [.int x1, .int x4]) (v0 := some (.int u1)) (w0 := (A, rs)) hG E hw hl (m_X0_has l hG hC  g2) (va_cwS 2 hts (lw_S q907 q908 q137 q909) rfl rfl rfl kd_X0_has ⟨Nat.le_of_ble_eq_true rfl, Nat.le_of_ble_eq_true rfl⟩) rfl (rest := [.int x3]) (st1 := [.int u1, .int x3]) rfl rfl rfl dX0_sumOf_24 ⟨Nat.le_of_ble_eq_true rfl, Nat.le_of_ble_eq_true rfl⟩ (fun H locs hw => ?_)
      refine lv_if_eq (tgt := 45) hx hb dX0_sumOf_27 (by decide) (fun c => ?_) (fun c => ?_)
      · have h := qi_t c h
        refine lv_iconst (v := (0:Int32)) hx hb dX0_sumOf_45 (by decide) ?_
        refine lv_iadd hx hb dX0_sumOf_46 ?_
        obtain ⟨x3_3, e4, h⟩ := qlet_s h
        refine r_nm e4 ?_
        refine lv_istore_n (lv' := [(3, .int x3_3), (0, .ref (K.2.1 0)), (1, .int x1), (2, .int x2), (4, .int x4)]) hx hb dX0_sumOf_47 rfl hl (by decide) rfl (fun ls hl => ?_)
        obtain ⟨x4_5, e6, h⟩ := qlet_s h
        refine lv_iinc (v := x4_5) (lv' := [(4, .int x4_5), (3, .int x3_3), (0, .ref (K.2.1 0)), (1, .int x1), (2, .int x2)]) (k := 4) hx hb dX0_sumOf_48 hl rfl (by rw [e6]; rfl) (by decide) rfl (fun ls hl => ?_)
        refine lv_goto (tgt := 5) hx hb dX0_sumOf_51 (by decide) ?_
        exact ih _ _ _ _ _  h hw (lv_sub hl [2, 3, 4, 1, 0] rfl)
      · have h := qi_f c h
        refine lv_aload_n hx hb dX0_sumOf_30 rfl (lv_at hl 0 rfl) ?_
        refine r_getX (v := .ref (K.2.1 1)) E hw hC 0 (by decide) q238 rfl dX0_sumOf_31 ?_
        refine r_getS1 (v := .ref (K.2.1 105)) hG E hw hC 5 (by decide) q201 rfl dX0_sumOf_34 ?_
        refine lv_iload hx hb dX0_sumOf_37 (lv_at hl 4 rfl) ?_
        obtain ⟨z7, h⟩ := qif_s h
        refine r_gald (j := x4.toNatClampNeg) E hw (qg_105 hC).at (qok_in z7) rfl dX0_sumOf_39 ?_
        refine lv_iload_n hx hb dX0_sumOf_40 rfl (lv_at hl 2 rfl) ?_
        obtain ⟨z8, h⟩ := qif_s h
        refine r_iald (j := x2.toNatClampNeg) E hw (qi_f140 hC (k := x4.toNatClampNeg) (qok_lt z7)).at (qok_in z8) rfl dX0_sumOf_41 ?_
        refine lv_goto (tgt := 46) hx hb dX0_sumOf_42 (by decide) ?_
        refine lv_iadd hx hb dX0_sumOf_46 ?_
        obtain ⟨x3_9, e10, h⟩ := qlet_s h
        refine r_nm e10 ?_
        refine lv_istore_n (lv' := [(3, .int x3_9), (0, .ref (K.2.1 0)), (1, .int x1), (2, .int x2), (4, .int x4)]) hx hb dX0_sumOf_47 rfl hl (by decide) rfl (fun ls hl => ?_)
        obtain ⟨x4_11, e12, h⟩ := qlet_s h
        refine lv_iinc (v := x4_11) (lv' := [(4, .int x4_11), (3, .int x3_9), (0, .ref (K.2.1 0)), (1, .int x1), (2, .int x2)]) (k := 4) hx hb dX0_sumOf_48 hl rfl (by rw [e12]; rfl) (by decide) rfl (fun ls hl => ?_)
        refine lv_goto (tgt := 5) hx hb dX0_sumOf_51 (by decide) ?_
        exact ih _ _ _ _ _  h hw (lv_sub hl [2, 3, 4, 1, 0] rfl)

def f_X0_sumOf (x1 : Int32) (x2 : Int32) (A : QA) : Option (Int32) :=
  f_X0_sumOf_5 FU x1 x2 (0:Int32) (0:Int32) A
set_option maxHeartbeats 4000000 in
theorem w_X0_sumOf_0 {p : Program} {l : Launch} {e : Env} {s : State} {m : MethodId} {args : Array Value} {below : List Frame} {meth : Method} {c : Code} {K : QK} {G : State → Prop} {rs : QA × QL × QX × QM} {ro : Int32} (hG : QG G) (hC : QCl K) (E : EV K G p s m args meth c cX0_sumOf "VaneCourt" 5) (hr : meth.sig.returnType = (some .int)) : ∀ (x1 : Int32) (x2 : Int32) (A : QA) {H : Heap} {locs : List Loc} {ls : Array Slot}, f_X0_sumOf x1 x2 A = some ro → WP K (A, rs) H locs → lv_has ls 5 [(0, .ref (K.2.1 0)), (1, .int x1), (2, .int x2)] → W p l e (qrm 2 61 0 0) s m args below meth c H locs 0 0 (MQ below (QE K (QR (some (.int ro)) (A, rs))) args s 0 0 (qA K)) (F0 m 0 ls []) := by
  have hx := E.1
  have hb := E.2.1
  have hown := E.2.2.1
  have hts := E.2.2.2.2.1
  intro x1 x2 A H locs ls  h hw hl
  rw [f_X0_sumOf] at h
  refine lv_iconst (v := (0:Int32)) hx hb dX0_sumOf_0 (by decide) ?_
  refine lv_istore_n (lv' := [(3, .int (0:Int32)), (0, .ref (K.2.1 0)), (1, .int x1), (2, .int x2)]) hx hb dX0_sumOf_1 rfl hl (by decide) rfl (fun ls hl => ?_)
  refine lv_iconst (v := (0:Int32)) hx hb dX0_sumOf_2 (by decide) ?_
  refine lv_istore (lv' := [(4, .int (0:Int32)), (3, .int (0:Int32)), (0, .ref (K.2.1 0)), (1, .int x1), (2, .int x2)]) hx hb dX0_sumOf_3 hl (by decide) rfl (fun ls hl => ?_)
  exact w_X0_sumOf_5 hG hC E hr  _ _ _ _ _ _   h hw (lv_sub hl [2, 3, 4, 1, 0] rfl)

theorem m_X0_sumOf (l : Launch) {K : QK} {G : State → Prop} (hG : QG G) (hC : QCl K) {rs : QA × QL × QX × QM} {x1 : Int32} {x2 : Int32} {A : QA} {ro : Int32} (h : f_X0_sumOf x1 x2 A = some ro) : MC l K G yX0_sumOf (ws_ yX0_sumOf cX0_sumOf 5 (some .int)) 2 61 0 0 [.ref (K.2.1 0), .int x1, .int x2] (A, rs) (QR (some (.int ro)) (A, rs)) := by
  refine MC.of (by decide) (Nat.le_of_ble_eq_true rfl) (lv := [(0, .ref (K.2.1 0)), (1, .int x1), (2, .int x2)]) rfl (fun p e s m below meth c ls E hr hl hw => ?_)
  exact w_X0_sumOf_0 hG hC E hr _ _ _  h hw hl

def f_X0_hired_18 : Nat → Int32 → Int32 → Int32 → Int32 → QA → Option (Int32)
  | 0, _, _, _, _, _ => none
  | n + 1, x1, x2, x3, x4, A => if ((1:Int32) <<< ((A 100 6) &&& 31)) ≤ x4 then (
  if x2 = (0:Int32) then (
  qb1 (f_X0_sumOf x3 (1:Int32) A) fun u3 =>
  some (u3)) else (
  some (x3))) else (
  qb1 (f_X0_sumOf x4 (1:Int32) A) fun u5 =>
  qb1 (f_X0_sumOf x3 (1:Int32) A) fun u7 =>
  qlet (u5 - u7) fun x5_9 =>
  qb1 (f_X0_sumOf x3 (0:Int32) A) fun u11 =>
  qb1 (f_X0_sumOf x4 (0:Int32) A) fun u13 =>
  qlet (u11 - u13) fun x6_15 =>
  qb1 (f_X0_sumOf x4 (0:Int32) A) fun u17 =>
  if x1 < u17 then (
  qlet (x4 + (1:Int32)) fun x4_19 =>
  f_X0_hired_18 n x1 x2 x3 x4_19 A) else (
  if (0:Int32) < x5_9 then (
  qlet (x4 + (1:Int32)) fun x4_21 =>
  f_X0_hired_18 n x1 x2 x4 x4_21 A) else (
  if x5_9 = (0:Int32) then (
  if x6_15 ≤ (0:Int32) then (
  qlet (x4 + (1:Int32)) fun x4_25 =>
  f_X0_hired_18 n x1 x2 x3 x4_25 A) else (
  qlet (x4 + (1:Int32)) fun x4_27 =>
  f_X0_hired_18 n x1 x2 x4 x4_27 A)) else (
  qlet (x4 + (1:Int32)) fun x4_23 =>
  f_X0_hired_18 n x1 x2 x3 x4_23 A))))
set_option maxHeartbeats 4000000 in
theorem w_X0_hired_18 {p : Program} {l : Launch} {e : Env} {s : State} {m : MethodId} {args : Array Value} {below : List Frame} {meth : Method} {c : Code} {K : QK} {G : State → Prop} {rs : QA × QL × QX × QM} {ro : Int32} (hG : QG G) (hC : QCl K) (E : EV K G p s m args meth c cX0_hired "VaneCourt" 7) (hr : meth.sig.returnType = (some .int)) : ∀ (n : Nat) (x1 : Int32) (x2 : Int32) (x3 : Int32) (x4 : Int32) (A : QA) {H : Heap} {locs : List Loc} {ls : Array Slot}, f_X0_hired_18 n x1 x2 x3 x4 A = some ro → WP K (A, rs) H locs → lv_has ls 7 [(0, .ref (K.2.1 0)), (1, .int x1), (2, .int x2), (3, .int x3), (4, .int x4)] → W p l e (qrm 3 85 0 0) s m args below meth c H locs 0 0 (MQ below (QE K (QR (some (.int ro)) (A, rs))) args s 0 0 (qA K)) (F0 m 18 ls []) := by
  have hx := E.1
  have hb := E.2.1
  have hown := E.2.2.1
  have hts := E.2.2.2.2.1
  intro n
  induction n with
  | zero =>
    intro x1 x2 x3 x4 A H locs ls  h hw hl
    cases h
  | succ n ih =>
    intro x1 x2 x3 x4 A H locs ls  h hw hl
    rw [f_X0_hired_18] at h
    refine lv_iload hx hb dX0_hired_18 (lv_at hl 4 rfl) ?_
    refine lv_iconst (v := (1:Int32)) hx hb dX0_hired_20 (by decide) ?_
    refine lv_aload_n hx hb dX0_hired_21 rfl (lv_at hl 0 rfl) ?_
    refine r_getX (v := .ref (K.2.1 1)) E hw hC 0 (by decide) q238 rfl dX0_hired_22 ?_
    refine r_getS1 (v := .ref (K.2.1 100)) hG E hw hC 0 (by decide) q191 rfl dX0_hired_25 ?_
    refine lv_bipush (v := (6:Int32)) hx hb dX0_hired_28 (by decide) ?_
    refine r_iald (j := 6) E hw (qi_100 hC).at (q_lit (k := 6) (n := 7) rfl rfl) (q_clamp (k := 6) rfl) dX0_hired_30 ?_
    refine lv_ishl hx hb dX0_hired_31 ?_
    refine lv_icmp_ge (tgt := 102) hx hb dX0_hired_32 (by decide) (fun c => ?_) (fun c => ?_)
    · have h := qi_t c h
      refine lv_iload_n hx hb dX0_hired_102 rfl (lv_at hl 2 rfl) ?_
      refine lv_if_eq (tgt := 110) hx hb dX0_hired_103 (by decide) (fun c => ?_) (fun c => ?_)
      · have h := qi_t c h
        refine lv_aload_n hx hb dX0_hired_110 rfl (lv_at hl 0 rfl) ?_
        refine lv_iload_n hx hb dX0_hired_111 rfl (lv_at hl 3 rfl) ?_
        refine lv_iconst (v := (1:Int32)) hx hb dX0_hired_112 (by decide) ?_
        obtain ⟨u3, g4, h⟩ := qb1_s h
        refine d_V (As := [.int x3, .int (1:Int32)]) (v0 := some (.int u3)) (w0 := (A, rs)) hG E hw hl (m_X0_sumOf l hG hC  g4) (qX0 hC) rfl (cwV 2 hts (lw_V q1320 q1322 qs57 q137 q1323) rfl rfl rfl ⟨rfl, kd_X0_sumOf⟩ ⟨Nat.le_of_ble_eq_true rfl, Nat.le_of_ble_eq_true rfl⟩) rfl (rest := []) (st1 := [.int u3]) rfl rfl rfl dX0_hired_113 ⟨Nat.le_of_ble_eq_true rfl, Nat.le_of_ble_eq_true rfl⟩ (fun H locs hw => ?_)
        have h := Option.some.inj h
        have h1 := h
        exact d_iret E hr rfl hw h1 rfl dX0_hired_116
      · have h := qi_f c h
        refine lv_iload_n hx hb dX0_hired_106 rfl (lv_at hl 3 rfl) ?_
        refine lv_goto (tgt := 116) hx hb dX0_hired_107 (by decide) ?_
        have h := Option.some.inj h
        have h1 := h
        exact d_iret E hr rfl hw h1 rfl dX0_hired_116
    · have h := qi_f c h
      refine lv_aload_n hx hb dX0_hired_35 rfl (lv_at hl 0 rfl) ?_
      refine lv_iload hx hb dX0_hired_36 (lv_at hl 4 rfl) ?_
      refine lv_iconst (v := (1:Int32)) hx hb dX0_hired_38 (by decide) ?_
      obtain ⟨u5, g6, h⟩ := qb1_s h
      refine d_V (As := [.int x4, .int (1:Int32)]) (v0 := some (.int u5)) (w0 := (A, rs)) hG E hw hl (m_X0_sumOf l hG hC  g6) (qX0 hC) rfl (cwV 2 hts (lw_V q1320 q1322 qs57 q137 q1323) rfl rfl rfl ⟨rfl, kd_X0_sumOf⟩ ⟨Nat.le_of_ble_eq_true rfl, Nat.le_of_ble_eq_true rfl⟩) rfl (rest := []) (st1 := [.int u5]) rfl rfl rfl dX0_hired_39 ⟨Nat.le_of_ble_eq_true rfl, Nat.le_of_ble_eq_true rfl⟩ (fun H locs hw => ?_)
      refine lv_aload_n hx hb dX0_hired_42 rfl (lv_at hl 0 rfl) ?_
      refine lv_iload_n hx hb dX0_hired_43 rfl (lv_at hl 3 rfl) ?_
      refine lv_iconst (v := (1:Int32)) hx hb dX0_hired_44 (by decide) ?_
      obtain ⟨u7, g8, h⟩ := qb1_s h
      refine d_V (As := [.int x3, .int (1:Int32)]) (v0 := some (.int u7)) (w0 := (A, rs)) hG E hw hl (m_X0_sumOf l hG hC  g8) (qX0 hC) rfl (cwV 2 hts (lw_V q1320 q1322 qs57 q137 q1323) rfl rfl rfl ⟨rfl, kd_X0_sumOf⟩ ⟨Nat.le_of_ble_eq_true rfl, Nat.le_of_ble_eq_true rfl⟩) rfl (rest := [.int u5]) (st1 := [.int u7, .int u5]) rfl rfl rfl dX0_hired_45 ⟨Nat.le_of_ble_eq_true rfl, Nat.le_of_ble_eq_true rfl⟩ (fun H locs hw => ?_)
      refine lv_isub hx hb dX0_hired_48 ?_
      obtain ⟨x5_9, e10, h⟩ := qlet_s h
      refine r_nm e10 ?_
      refine lv_istore (lv' := [(5, .int x5_9), (0, .ref (K.2.1 0)), (1, .int x1), (2, .int x2), (3, .int x3), (4, .int x4)]) hx hb dX0_hired_49 hl (by decide) rfl (fun ls hl => ?_)
      refine lv_aload_n hx hb dX0_hired_51 rfl (lv_at hl 1 rfl) ?_
      refine lv_iload_n hx hb dX0_hired_52 rfl (lv_at hl 4 rfl) ?_
      refine lv_iconst (v := (0:Int32)) hx hb dX0_hired_53 (by decide) ?_
      obtain ⟨u11, g12, h⟩ := qb1_s h
      refine d_V (As := [.int x3, .int (0:Int32)]) (v0 := some (.int u11)) (w0 := (A, rs)) hG E hw hl (m_X0_sumOf l hG hC  g12) (qX0 hC) rfl (cwV 2 hts (lw_V q1320 q1322 qs57 q137 q1323) rfl rfl rfl ⟨rfl, kd_X0_sumOf⟩ ⟨Nat.le_of_ble_eq_true rfl, Nat.le_of_ble_eq_true rfl⟩) rfl (rest := []) (st1 := [.int u11]) rfl rfl rfl dX0_hired_54 ⟨Nat.le_of_ble_eq_true rfl, Nat.le_of_ble_eq_true rfl⟩ (fun H locs hw => ?_)
      refine lv_aload_n hx hb dX0_hired_57 rfl (lv_at hl 1 rfl) ?_
      refine lv_iload hx hb dX0_hired_58 (lv_at hl 5 rfl) ?_
      refine lv_iconst (v := (0:Int32)) hx hb dX0_hired_60 (by decide) ?_
      obtain ⟨u13, g14, h⟩ := qb1_s h
      refine d_V (As := [.int x4, .int (0:Int32)]) (v0 := some (.int u13)) (w0 := (A, rs)) hG E hw hl (m_X0_sumOf l hG hC  g14) (qX0 hC) rfl (cwV 2 hts (lw_V q1320 q1322 qs57 q137 q1323) rfl rfl rfl ⟨rfl, kd_X0_sumOf⟩ ⟨Nat.le_of_ble_eq_true rfl, Nat.le_of_ble_eq_true rfl⟩) rfl (rest := [.int u11]) (st1 := [.int u13, .int u11]) rfl rfl rfl dX0_hired_61 ⟨Nat.le_of_ble_eq_true rfl, Nat.le_of_ble_eq_true rfl⟩ (fun H locs hw => ?_)
      refine lv_isub hx hb dX0_hired_64 ?_
      obtain ⟨x6_15, e16, h⟩ := qlet_s h
      refine r_nm e16 ?_
      refine lv_istore (lv' := [(6, .int x6_15), (5, .int x5_9), (0, .ref (K.2.1 0)), (1, .int x1), (2, .int x2), (3, .int x3), (4, .int x4)]) hx hb dX0_hired_65 hl (by decide) rfl (fun ls hl => ?_)
      refine lv_aload_n hx hb dX0_hired_67 rfl (lv_at hl 2 rfl) ?_
      refine lv_iload hx hb dX0_hired_68 (lv_at hl 6 rfl) ?_
      refine lv_iconst (v := (0:Int32)) hx hb dX0_hired_70 (by decide) ?_
      obtain ⟨u17, g18, h⟩ := qb1_s h
      refine d_V (As := [.int x4, .int (0:Int32)]) (v0 := some (.int u17)) (w0 := (A, rs)) hG E hw hl (m_X0_sumOf l hG hC  g18) (qX0 hC) rfl (cwV 2 hts (lw_V q1320 q1322 qs57 q137 q1323) rfl rfl rfl ⟨rfl, kd_X0_sumOf⟩ ⟨Nat.le_of_ble_eq_true rfl, Nat.le_of_ble_eq_true rfl⟩) rfl (rest := []) (st1 := [.int u17]) rfl rfl rfl dX0_hired_71 ⟨Nat.le_of_ble_eq_true rfl, Nat.le_of_ble_eq_true rfl⟩ (fun H locs hw => ?_)
      refine lv_iload_n hx hb dX0_hired_74 rfl (lv_at hl 3 rfl) ?_
      refine lv_icmp_gt (tgt := 96) hx hb dX0_hired_75 (by decide) (fun c => ?_) (fun c => ?_)
      · have h := qi_t c h
        obtain ⟨x4_19, e20, h⟩ := qlet_s h
        refine lv_iinc (v := x4_19) (lv' := [(4, .int x4_19), (6, .int x6_15), (5, .int x5_9), (0, .ref (K.2.1 0)), (1, .int x1), (2, .int x2), (3, .int x3)]) (k := 6) hx hb dX0_hired_96 hl rfl (by rw [e20]; rfl) (by decide) rfl (fun ls hl => ?_)
        refine lv_goto (tgt := 18) hx hb dX0_hired_99 (by decide) ?_
        exact ih _ _ _ _ _  h hw (lv_sub hl [3, 4, 5, 6, 0] rfl)
      · have h := qi_f c h
        refine lv_iload hx hb dX0_hired_78 (lv_at hl 1 rfl) ?_
        refine lv_if_gt (tgt := 93) hx hb dX0_hired_80 (by decide) (fun c => ?_) (fun c => ?_)
        · have h := qi_t c h
          refine lv_iload hx hb dX0_hired_93 (lv_at hl 6 rfl) ?_
          refine lv_istore_n (lv' := [(3, .int x4), (6, .int x6_15), (5, .int x5_9), (0, .ref (K.2.1 0)), (1, .int x1), (2, .int x2), (4, .int x4)]) hx hb dX0_hired_95 rfl hl (by decide) rfl (fun ls hl => ?_)
          obtain ⟨x4_21, e22, h⟩ := qlet_s h
          refine lv_iinc (v := x4_21) (lv' := [(4, .int x4_21), (3, .int x4), (6, .int x6_15), (5, .int x5_9), (0, .ref (K.2.1 0)), (1, .int x1), (2, .int x2)]) (k := 6) hx hb dX0_hired_96 hl rfl (by rw [e22]; rfl) (by decide) rfl (fun ls hl => ?_)
          refine lv_goto (tgt := 18) hx hb dX0_hired_99 (by decide) ?_
          exact ih _ _ _ _ _  h hw (lv_sub hl [4, 5, 6, 1, 0] rfl)
        · have h := qi_f c h
          refine lv_iload hx hb dX0_hired_83 (lv_at hl 1 rfl) ?_
          refine lv_if_ne (tgt := 96) hx hb dX0_hired_85 (by decide) (fun c => ?_) (fun c => ?_)
          · have h := qi_f c h
            obtain ⟨x4_23, e24, h⟩ := qlet_s h
            refine lv_iinc (v := x4_23) (lv' := [(4, .int x4_23), (6, .int x6_15), (5, .int x5_9), (0, .ref (K.2.1 0)), (1, .int x1), (2, .int x2), (3, .int x3)]) (k := 6) hx hb dX0_hired_96 hl rfl (by rw [e24]; rfl) (by decide) rfl (fun ls hl => ?_)
            refine lv_goto (tgt := 18) hx hb dX0_hired_99 (by decide) ?_
            exact ih _ _ _ _ _  h hw (lv_sub hl [3, 4, 5, 6, 0] rfl)
          · have h := qi_t c h
            refine lv_iload hx hb dX0_hired_88 (lv_at hl 0 rfl) ?_
            refine lv_if_le (tgt := 96) hx hb dX0_hired_90 (by decide) (fun c => ?_) (fun c => ?_)
            · have h := qi_t c h
              obtain ⟨x4_25, e26, h⟩ := qlet_s h
              refine lv_iinc (v := x4_25) (lv' := [(4, .int x4_25), (6, .int x6_15), (5, .int x5_9), (0, .ref (K.2.1 0)), (1, .int x1), (2, .int x2), (3, .int x3)]) (k := 6) hx hb dX0_hired_96 hl rfl (by rw [e26]; rfl) (by decide) rfl (fun ls hl => ?_)
              refine lv_goto (tgt := 18) hx hb dX0_hired_99 (by decide) ?_
              exact ih _ _ _ _ _  h hw (lv_sub hl [3, 4, 5, 6, 0] rfl)
            · have h := qi_f c h
              refine lv_iload hx hb dX0_hired_93 (lv_at hl 6 rfl) ?_
              refine lv_istore_n (lv' := [(3, .int x4), (6, .int x6_15), (5, .int x5_9), (0, .ref (K.2.1 0)), (1, .int x1), (2, .int x2), (4, .int x4)]) hx hb dX0_hired_95 rfl hl (by decide) rfl (fun ls hl => ?_)
              obtain ⟨x4_27, e28, h⟩ := qlet_s h
              refine lv_iinc (v := x4_27) (lv' := [(4, .int x4_27), (3, .int x4), (6, .int x6_15), (5, .int x5_9), (0, .ref (K.2.1 0)), (1, .int x1), (2, .int x2)]) (k := 6) hx hb dX0_hired_96 hl rfl (by rw [e28]; rfl) (by decide) rfl (fun ls hl => ?_)
              refine lv_goto (tgt := 18) hx hb dX0_hired_99 (by decide) ?_
              exact ih _ _ _ _ _  h hw (lv_sub hl [4, 5, 6, 1, 0] rfl)

def f_X0_hired (x1 : Int32) (x2 : Int32) (A : QA) : Option (Int32) :=
  qb1 (f_X0_in x1 (0:Int32) (9999:Int32)) fun u1 =>
  if u1 = (0:Int32) then (
  some ((-1:Int32))) else (
  f_X0_hired_18 FU x1 x2 (0:Int32) (1:Int32) A)
set_option maxHeartbeats 4000000 in
theorem w_X0_hired_0 {p : Program} {l : Launch} {e : Env} {s : State} {m : MethodId} {args : Array Value} {below : List Frame} {meth : Method} {c : Code} {K : QK} {G : State → Prop} {rs : QA × QL × QX × QM} {ro : Int32} (hG : QG G) (hC : QCl K) (E : EV K G p s m args meth c cX0_hired "VaneCourt" 7) (hr : meth.sig.returnType = (some .int)) : ∀ (x1 : Int32) (x2 : Int32) (A : QA) {H : Heap} {locs : List Loc} {ls : Array Slot}, f_X0_hired x1 x2 A = some ro → WP K (A, rs) H locs → lv_has ls 7 [(0, .ref (K.2.1 0)), (1, .int x1), (2, .int x2)] → W p l e (qrm 3 85 0 0) s m args below meth c H locs 0 0 (MQ below (QE K (QR (some (.int ro)) (A, rs))) args s 0 0 (qA K)) (F0 m 0 ls []) := by
  have hx := E.1
  have hb := E.2.1
  have hown := E.2.2.1
  have hts := E.2.2.2.2.1
  intro x1 x2 A H locs ls  h hw hl
  rw [f_X0_hired] at h
  refine lv_iload_n hx hb dX0_hired_0 rfl (lv_at hl 1 rfl) ?_
  refine lv_iconst (v := (0:Int32)) hx hb dX0_hired_1 (by decide) ?_
  refine lv_sipush (v := (9999:Int32)) hx hb dX0_hired_2 (by decide) ?_
  obtain ⟨u1, g2, h⟩ := qb1_s h
  refine d_S (As := [.int x1, .int (0:Int32), .int (9999:Int32)]) (v0 := some (.int u1)) (w0 := (A, rs)) hG E hw hl (m_X0_in l hG hC  g2) (va_cwS 3 hts (lw_S q283 q284 q137 q285) rfl rfl rfl kd_X0_in ⟨Nat.le_of_ble_eq_true rfl, Nat.le_of_ble_eq_true rfl⟩) rfl (rest := []) (st1 := [.int u1]) rfl rfl rfl dX0_hired_5 ⟨Nat.le_of_ble_eq_true rfl, Nat.le_of_ble_eq_true rfl⟩ (fun H locs hw => ?_)
  refine lv_if_ne (tgt := 13) hx hb dX0_hired_8 (by decide) (fun c => ?_) (fun c => ?_)
  · have h := qi_f c h
    refine lv_iconst (v := (0:Int32)) hx hb dX0_hired_13 (by decide) ?_
    refine lv_istore_n (lv' := [(3, .int (0:Int32)), (0, .ref (K.2.1 0)), (1, .int x1), (2, .int x2)]) hx hb dX0_hired_14 rfl hl (by decide) rfl (fun ls hl => ?_)
    refine lv_iconst (v := (1:Int32)) hx hb dX0_hired_15 (by decide) ?_
    refine lv_istore (lv' := [(4, .int (1:Int32)), (3, .int (0:Int32)), (0, .ref (K.2.1 0)), (1, .int x1), (2, .int x2)]) hx hb dX0_hired_16 hl (by decide) rfl (fun ls hl => ?_)
    exact w_X0_hired_18 hG hC E hr  _ _ _ _ _ _   h hw (lv_sub hl [2, 3, 4, 1, 0] rfl)
  · have h := qi_t c h
    refine lv_iconst (v := (-1:Int32)) hx hb dX0_hired_11 (by decide) ?_
    have h := Option.some.inj h
    have h1 := h
    exact d_iret E hr rfl hw h1 rfl dX0_hired_12

theorem m_X0_hired (l : Launch) {K : QK} {G : State → Prop} (hG : QG G) (hC : QCl K) {rs : QA × QL × QX × QM} {x1 : Int32} {x2 : Int32} {A : QA} {ro : Int32} (h : f_X0_hired x1 x2 A = some ro) : MC l K G yX0_hired (ws_ yX0_hired cX0_hired 7 (some .int)) 3 85 0 0 [.ref (K.2.1 0), .int x1, .int x2] (A, rs) (QR (some (.int ro)) (A, rs)) := by
  refine MC.of (by decide) (Nat.le_of_ble_eq_true rfl) (lv := [(0, .ref (K.2.1 0)), (1, .int x1), (2, .int x2)]) rfl (fun p e s m below meth c ls E hr hl hw => ?_)
  exact w_X0_hired_0 hG hC E hr _ _ _  h hw hl

def f_X0_about (x1 : Int32) (A : QA) : Option (Int32) :=
  if x1 = (0:Int32) then (
  some ((A 100 0))) else (
  if x1 = (1:Int32) then (
  some ((A 100 1))) else (
  if x1 = (2:Int32) then (
  some ((A 100 2))) else (
  if x1 = (3:Int32) then (
  some ((A 100 3))) else (
  if x1 = (4:Int32) then (
  some ((A 100 4))) else (
  if x1 = (5:Int32) then (
  some ((A 100 5))) else (
  if x1 = (6:Int32) then (
  some ((A 100 6))) else (
  if x1 = (7:Int32) then (
  some ((A 0 3))) else (
  some ((-2:Int32))))))))))
set_option maxHeartbeats 4000000 in
theorem w_X0_about_0 {p : Program} {l : Launch} {e : Env} {s : State} {m : MethodId} {args : Array Value} {below : List Frame} {meth : Method} {c : Code} {K : QK} {G : State → Prop} {rs : QA × QL × QX × QM} {ro : Int32} (hG : QG G) (hC : QCl K) (E : EV K G p s m args meth c cX0_about "VaneCourt" 2) (hr : meth.sig.returnType = (some .int)) : ∀ (x1 : Int32) (A : QA) {H : Heap} {locs : List Loc} {ls : Array Slot}, f_X0_about x1 A = some ro → WP K (A, rs) H locs → lv_has ls 2 [(0, .ref (K.2.1 0)), (1, .int x1)] → W p l e (qrm 1 40 0 0) s m args below meth c H locs 0 0 (MQ below (QE K (QR (some (.int ro)) (A, rs))) args s 0 0 (qA K)) (F0 m 0 ls []) := by
  have hx := E.1
  have hb := E.2.1
  have hown := E.2.2.1
  have hts := E.2.2.2.2.1
  intro x1 A H locs ls  h hw hl
  rw [f_X0_about] at h
  refine lv_iload_n hx hb dX0_about_0 rfl (lv_at hl 1 rfl) ?_
  by_cases c : x1 = (0:Int32)
  · have h := qi_t c h
    refine lv_tableIn (tgt := 48) (off := 47) hx hb dX0_about_1 (by rw [c]; decide) (by rw [c]; decide) (by rw [c]; rfl) (by decide) ?_
    refine lv_aload_n hx hb dX0_about_48 rfl (lv_at hl 0 rfl) ?_
    refine r_getX (v := .ref (K.2.1 1)) E hw hC 0 (by decide) q238 rfl dX0_about_49 ?_
    refine r_getS1 (v := .ref (K.2.1 100)) hG E hw hC 0 (by decide) q191 rfl dX0_about_52 ?_
    refine lv_iconst (v := (0:Int32)) hx hb dX0_about_55 (by decide) ?_
    refine r_iald (j := 0) E hw (qi_100 hC).at (q_lit (k := 0) (n := 7) rfl rfl) (q_clamp (k := 0) rfl) dX0_about_56 ?_
    have h := Option.some.inj h
    have h1 := h
    exact d_iret E hr rfl hw h1 rfl dX0_about_57
  · have h := qi_f c h
    have n0 := qne32 c
    by_cases c : x1 = (1:Int32)
    · have h := qi_t c h
      refine lv_tableIn (tgt := 58) (off := 57) hx hb dX0_about_1 (by rw [c]; decide) (by rw [c]; decide) (by rw [c]; rfl) (by decide) ?_
      refine lv_aload_n hx hb dX0_about_58 rfl (lv_at hl 0 rfl) ?_
      refine r_getX (v := .ref (K.2.1 1)) E hw hC 0 (by decide) q238 rfl dX0_about_59 ?_
      refine r_getS1 (v := .ref (K.2.1 100)) hG E hw hC 0 (by decide) q191 rfl dX0_about_62 ?_
      refine lv_iconst (v := (1:Int32)) hx hb dX0_about_65 (by decide) ?_
      refine r_iald (j := 1) E hw (qi_100 hC).at (q_lit (k := 1) (n := 7) rfl rfl) (q_clamp (k := 1) rfl) dX0_about_66 ?_
      have h := Option.some.inj h
      have h1 := h
      exact d_iret E hr rfl hw h1 rfl dX0_about_67
    · have h := qi_f c h
      have n1 := qne32 c
      by_cases c : x1 = (2:Int32)
      · have h := qi_t c h
        refine lv_tableIn (tgt := 68) (off := 67) hx hb dX0_about_1 (by rw [c]; decide) (by rw [c]; decide) (by rw [c]; rfl) (by decide) ?_
        refine lv_aload_n hx hb dX0_about_68 rfl (lv_at hl 0 rfl) ?_
        refine r_getX (v := .ref (K.2.1 1)) E hw hC 0 (by decide) q238 rfl dX0_about_69 ?_
        refine r_getS1 (v := .ref (K.2.1 100)) hG E hw hC 0 (by decide) q191 rfl dX0_about_72 ?_
        refine lv_iconst (v := (2:Int32)) hx hb dX0_about_75 (by decide) ?_
        refine r_iald (j := 2) E hw (qi_100 hC).at (q_lit (k := 2) (n := 7) rfl rfl) (q_clamp (k := 2) rfl) dX0_about_76 ?_
        have h := Option.some.inj h
        have h1 := h
        exact d_iret E hr rfl hw h1 rfl dX0_about_77
      · have h := qi_f c h
        have n2 := qne32 c
        by_cases c : x1 = (3:Int32)
        · have h := qi_t c h
          refine lv_tableIn (tgt := 78) (off := 77) hx hb dX0_about_1 (by rw [c]; decide) (by rw [c]; decide) (by rw [c]; rfl) (by decide) ?_
          refine lv_aload_n hx hb dX0_about_78 rfl (lv_at hl 0 rfl) ?_
          refine r_getX (v := .ref (K.2.1 1)) E hw hC 0 (by decide) q238 rfl dX0_about_79 ?_
          refine r_getS1 (v := .ref (K.2.1 100)) hG E hw hC 0 (by decide) q191 rfl dX0_about_82 ?_
          refine lv_iconst (v := (3:Int32)) hx hb dX0_about_85 (by decide) ?_
          refine r_iald (j := 3) E hw (qi_100 hC).at (q_lit (k := 3) (n := 7) rfl rfl) (q_clamp (k := 3) rfl) dX0_about_86 ?_
          have h := Option.some.inj h
          have h1 := h
          exact d_iret E hr rfl hw h1 rfl dX0_about_87
        · have h := qi_f c h
          have n3 := qne32 c
          by_cases c : x1 = (4:Int32)
          · have h := qi_t c h
            refine lv_tableIn (tgt := 88) (off := 87) hx hb dX0_about_1 (by rw [c]; decide) (by rw [c]; decide) (by rw [c]; rfl) (by decide) ?_
            refine lv_aload_n hx hb dX0_about_88 rfl (lv_at hl 0 rfl) ?_
            refine r_getX (v := .ref (K.2.1 1)) E hw hC 0 (by decide) q238 rfl dX0_about_89 ?_
            refine r_getS1 (v := .ref (K.2.1 100)) hG E hw hC 0 (by decide) q191 rfl dX0_about_92 ?_
            refine lv_iconst (v := (4:Int32)) hx hb dX0_about_95 (by decide) ?_
            refine r_iald (j := 4) E hw (qi_100 hC).at (q_lit (k := 4) (n := 7) rfl rfl) (q_clamp (k := 4) rfl) dX0_about_96 ?_
            have h := Option.some.inj h
            have h1 := h
            exact d_iret E hr rfl hw h1 rfl dX0_about_97
          · have h := qi_f c h
            have n4 := qne32 c
            by_cases c : x1 = (5:Int32)
            · have h := qi_t c h
              refine lv_tableIn (tgt := 98) (off := 97) hx hb dX0_about_1 (by rw [c]; decide) (by rw [c]; decide) (by rw [c]; rfl) (by decide) ?_
              refine lv_aload_n hx hb dX0_about_98 rfl (lv_at hl 0 rfl) ?_
              refine r_getX (v := .ref (K.2.1 1)) E hw hC 0 (by decide) q238 rfl dX0_about_99 ?_
              refine r_getS1 (v := .ref (K.2.1 100)) hG E hw hC 0 (by decide) q191 rfl dX0_about_102 ?_
              refine lv_iconst (v := (5:Int32)) hx hb dX0_about_105 (by decide) ?_
              refine r_iald (j := 5) E hw (qi_100 hC).at (q_lit (k := 5) (n := 7) rfl rfl) (q_clamp (k := 5) rfl) dX0_about_106 ?_
              have h := Option.some.inj h
              have h1 := h
              exact d_iret E hr rfl hw h1 rfl dX0_about_107
            · have h := qi_f c h
              have n5 := qne32 c
              by_cases c : x1 = (6:Int32)
              · have h := qi_t c h
                refine lv_tableIn (tgt := 108) (off := 107) hx hb dX0_about_1 (by rw [c]; decide) (by rw [c]; decide) (by rw [c]; rfl) (by decide) ?_
                refine lv_aload_n hx hb dX0_about_108 rfl (lv_at hl 0 rfl) ?_
                refine r_getX (v := .ref (K.2.1 1)) E hw hC 0 (by decide) q238 rfl dX0_about_109 ?_
                refine r_getS1 (v := .ref (K.2.1 100)) hG E hw hC 0 (by decide) q191 rfl dX0_about_112 ?_
                refine lv_bipush (v := (6:Int32)) hx hb dX0_about_115 (by decide) ?_
                refine r_iald (j := 6) E hw (qi_100 hC).at (q_lit (k := 6) (n := 7) rfl rfl) (q_clamp (k := 6) rfl) dX0_about_117 ?_
                have h := Option.some.inj h
                have h1 := h
                exact d_iret E hr rfl hw h1 rfl dX0_about_118
              · have h := qi_f c h
                have n6 := qne32 c
                by_cases c : x1 = (7:Int32)
                · have h := qi_t c h
                  refine lv_tableIn (tgt := 119) (off := 118) hx hb dX0_about_1 (by rw [c]; decide) (by rw [c]; decide) (by rw [c]; rfl) (by decide) ?_
                  refine lv_aload_n hx hb dX0_about_119 rfl (lv_at hl 0 rfl) ?_
                  refine r_getX (v := .int (A 0 3)) E hw hC 3 (by decide) q241 rfl dX0_about_120 ?_
                  have h := Option.some.inj h
                  have h1 := h
                  exact d_iret E hr rfl hw h1 rfl dX0_about_123
                · have h := qi_f c h
                  have n7 := qne32 c
                  refine lv_tableOut (tgt := 124) hx hb dX0_about_1 (by have m0 : (x1).toInt ≠ 0 := n0; have m1 : (x1).toInt ≠ 1 := n1; have m2 : (x1).toInt ≠ 2 := n2; have m3 : (x1).toInt ≠ 3 := n3; have m4 : (x1).toInt ≠ 4 := n4; have m5 : (x1).toInt ≠ 5 := n5; have m6 : (x1).toInt ≠ 6 := n6; have m7 : (x1).toInt ≠ 7 := n7; omega) (by decide) ?_
                  refine lv_bipush (v := (-2:Int32)) hx hb dX0_about_124 (by decide) ?_
                  have h := Option.some.inj h
                  have h1 := h
                  exact d_iret E hr rfl hw h1 rfl dX0_about_126

theorem m_X0_about (l : Launch) {K : QK} {G : State → Prop} (hG : QG G) (hC : QCl K) {rs : QA × QL × QX × QM} {x1 : Int32} {A : QA} {ro : Int32} (h : f_X0_about x1 A = some ro) : MC l K G yX0_about (ws_ yX0_about cX0_about 2 (some .int)) 1 40 0 0 [.ref (K.2.1 0), .int x1] (A, rs) (QR (some (.int ro)) (A, rs)) := by
  refine MC.of (by decide) (Nat.le_of_ble_eq_true rfl) (lv := [(0, .ref (K.2.1 0)), (1, .int x1)]) rfl (fun p e s m below meth c ls E hr hl hw => ?_)
  exact w_X0_about_0 hG hC E hr _ _  h hw hl
