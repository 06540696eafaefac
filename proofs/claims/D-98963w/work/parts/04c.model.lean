/-! written by dc.py: X2_clauseOf X2_name X2_nameCase X2_areMost X2_clip X2_two X2_isAsked X2_joined X2_work X2_isGuilty X2_isCalm X2_isFound X2_bits X2_cut X2_says X2_sentenceOf X2_hear X2_anew X2_drawn X2_turnBy X2_pass X2_arePassed X2_hour X2_isPlayed X2_played X2_happens X2_decades X2_ofCase X2_is X2_shown X2_book X2_begin X2_putBack X2_layWinds X2_foretold -/
set_option maxRecDepth 100000
theorem kd_X2_anew : yX2_anew.cls ≠ "java/lang/invoke/MethodHandle" ∧ yX2_anew.cls ≠ "java/lang/invoke/VarHandle" ∧ (parseMethodDescriptor yX2_anew.desc).map (fun d => d.parameters.length) = some 0 := by decide +kernel
theorem kd_X2_appeal : yX2_appeal.cls ≠ "java/lang/invoke/MethodHandle" ∧ yX2_appeal.cls ≠ "java/lang/invoke/VarHandle" ∧ (parseMethodDescriptor yX2_appeal.desc).map (fun d => d.parameters.length) = some 1 := by decide +kernel
theorem kd_X2_areMost : yX2_areMost.cls ≠ "java/lang/invoke/MethodHandle" ∧ yX2_areMost.cls ≠ "java/lang/invoke/VarHandle" ∧ (parseMethodDescriptor yX2_areMost.desc).map (fun d => d.parameters.length) = some 2 := by decide +kernel
theorem kd_X2_arePassed : yX2_arePassed.cls ≠ "java/lang/invoke/MethodHandle" ∧ yX2_arePassed.cls ≠ "java/lang/invoke/VarHandle" ∧ (parseMethodDescriptor yX2_arePassed.desc).map (fun d => d.parameters.length) = some 1 := by decide +kernel
theorem kd_X2_begin : yX2_begin.cls ≠ "java/lang/invoke/MethodHandle" ∧ yX2_begin.cls ≠ "java/lang/invoke/VarHandle" ∧ (parseMethodDescriptor yX2_begin.desc).map (fun d => d.parameters.length) = some 0 := by decide +kernel
theorem kd_X2_bits : yX2_bits.cls ≠ "java/lang/invoke/MethodHandle" ∧ yX2_bits.cls ≠ "java/lang/invoke/VarHandle" ∧ (parseMethodDescriptor yX2_bits.desc).map (fun d => d.parameters.length) = some 1 := by decide +kernel
theorem kd_X2_call : yX2_call.cls ≠ "java/lang/invoke/MethodHandle" ∧ yX2_call.cls ≠ "java/lang/invoke/VarHandle" ∧ (parseMethodDescriptor yX2_call.desc).map (fun d => d.parameters.length) = some 1 := by decide +kernel
theorem kd_X2_clauseOf : yX2_clauseOf.cls ≠ "java/lang/invoke/MethodHandle" ∧ yX2_clauseOf.cls ≠ "java/lang/invoke/VarHandle" ∧ (parseMethodDescriptor yX2_clauseOf.desc).map (fun d => d.parameters.length) = some 3 := by decide +kernel
theorem kd_X2_clip : yX2_clip.cls ≠ "java/lang/invoke/MethodHandle" ∧ yX2_clip.cls ≠ "java/lang/invoke/VarHandle" ∧ (parseMethodDescriptor yX2_clip.desc).map (fun d => d.parameters.length) = some 1 := by decide +kernel
theorem kd_X2_cut : yX2_cut.cls ≠ "java/lang/invoke/MethodHandle" ∧ yX2_cut.cls ≠ "java/lang/invoke/VarHandle" ∧ (parseMethodDescriptor yX2_cut.desc).map (fun d => d.parameters.length) = some 3 := by decide +kernel
theorem kd_X2_delay : yX2_delay.cls ≠ "java/lang/invoke/MethodHandle" ∧ yX2_delay.cls ≠ "java/lang/invoke/VarHandle" ∧ (parseMethodDescriptor yX2_delay.desc).map (fun d => d.parameters.length) = some 0 := by decide +kernel
theorem kd_X2_drawn : yX2_drawn.cls ≠ "java/lang/invoke/MethodHandle" ∧ yX2_drawn.cls ≠ "java/lang/invoke/VarHandle" ∧ (parseMethodDescriptor yX2_drawn.desc).map (fun d => d.parameters.length) = some 1 := by decide +kernel
theorem kd_X2_gust : yX2_gust.cls ≠ "java/lang/invoke/MethodHandle" ∧ yX2_gust.cls ≠ "java/lang/invoke/VarHandle" ∧ (parseMethodDescriptor yX2_gust.desc).map (fun d => d.parameters.length) = some 2 := by decide +kernel
theorem kd_X2_happens : yX2_happens.cls ≠ "java/lang/invoke/MethodHandle" ∧ yX2_happens.cls ≠ "java/lang/invoke/VarHandle" ∧ (parseMethodDescriptor yX2_happens.desc).map (fun d => d.parameters.length) = some 1 := by decide +kernel
theorem kd_X2_hear : yX2_hear.cls ≠ "java/lang/invoke/MethodHandle" ∧ yX2_hear.cls ≠ "java/lang/invoke/VarHandle" ∧ (parseMethodDescriptor yX2_hear.desc).map (fun d => d.parameters.length) = some 0 := by decide +kernel
theorem kd_X2_isAsked : yX2_isAsked.cls ≠ "java/lang/invoke/MethodHandle" ∧ yX2_isAsked.cls ≠ "java/lang/invoke/VarHandle" ∧ (parseMethodDescriptor yX2_isAsked.desc).map (fun d => d.parameters.length) = some 3 := by decide +kernel
theorem kd_X2_isCalm : yX2_isCalm.cls ≠ "java/lang/invoke/MethodHandle" ∧ yX2_isCalm.cls ≠ "java/lang/invoke/VarHandle" ∧ (parseMethodDescriptor yX2_isCalm.desc).map (fun d => d.parameters.length) = some 0 := by decide +kernel
theorem kd_X2_isFound : yX2_isFound.cls ≠ "java/lang/invoke/MethodHandle" ∧ yX2_isFound.cls ≠ "java/lang/invoke/VarHandle" ∧ (parseMethodDescriptor yX2_isFound.desc).map (fun d => d.parameters.length) = some 3 := by decide +kernel
theorem kd_X2_isGuilty : yX2_isGuilty.cls ≠ "java/lang/invoke/MethodHandle" ∧ yX2_isGuilty.cls ≠ "java/lang/invoke/VarHandle" ∧ (parseMethodDescriptor yX2_isGuilty.desc).map (fun d => d.parameters.length) = some 5 := by decide +kernel
theorem kd_X2_isPlayed : yX2_isPlayed.cls ≠ "java/lang/invoke/MethodHandle" ∧ yX2_isPlayed.cls ≠ "java/lang/invoke/VarHandle" ∧ (parseMethodDescriptor yX2_isPlayed.desc).map (fun d => d.parameters.length) = some 1 := by decide +kernel
theorem kd_X2_joined : yX2_joined.cls ≠ "java/lang/invoke/MethodHandle" ∧ yX2_joined.cls ≠ "java/lang/invoke/VarHandle" ∧ (parseMethodDescriptor yX2_joined.desc).map (fun d => d.parameters.length) = some 3 := by decide +kernel
theorem kd_X2_layWinds : yX2_layWinds.cls ≠ "java/lang/invoke/MethodHandle" ∧ yX2_layWinds.cls ≠ "java/lang/invoke/VarHandle" ∧ (parseMethodDescriptor yX2_layWinds.desc).map (fun d => d.parameters.length) = some 1 := by decide +kernel
theorem kd_X2_name : yX2_name.cls ≠ "java/lang/invoke/MethodHandle" ∧ yX2_name.cls ≠ "java/lang/invoke/VarHandle" ∧ (parseMethodDescriptor yX2_name.desc).map (fun d => d.parameters.length) = some 0 := by decide +kernel
theorem kd_X2_nameCase : yX2_nameCase.cls ≠ "java/lang/invoke/MethodHandle" ∧ yX2_nameCase.cls ≠ "java/lang/invoke/VarHandle" ∧ (parseMethodDescriptor yX2_nameCase.desc).map (fun d => d.parameters.length) = some 2 := by decide +kernel
theorem kd_X2_newCase : yX2_newCase.cls ≠ "java/lang/invoke/MethodHandle" ∧ yX2_newCase.cls ≠ "java/lang/invoke/VarHandle" ∧ (parseMethodDescriptor yX2_newCase.desc).map (fun d => d.parameters.length) = some 4 := by decide +kernel
theorem kd_X2_pass : yX2_pass.cls ≠ "java/lang/invoke/MethodHandle" ∧ yX2_pass.cls ≠ "java/lang/invoke/VarHandle" ∧ (parseMethodDescriptor yX2_pass.desc).map (fun d => d.parameters.length) = some 0 := by decide +kernel
theorem kd_X2_putBack : yX2_putBack.cls ≠ "java/lang/invoke/MethodHandle" ∧ yX2_putBack.cls ≠ "java/lang/invoke/VarHandle" ∧ (parseMethodDescriptor yX2_putBack.desc).map (fun d => d.parameters.length) = some 0 := by decide +kernel
theorem kd_X2_says : yX2_says.cls ≠ "java/lang/invoke/MethodHandle" ∧ yX2_says.cls ≠ "java/lang/invoke/VarHandle" ∧ (parseMethodDescriptor yX2_says.desc).map (fun d => d.parameters.length) = some 4 := by decide +kernel
theorem kd_X2_sentenceOf : yX2_sentenceOf.cls ≠ "java/lang/invoke/MethodHandle" ∧ yX2_sentenceOf.cls ≠ "java/lang/invoke/VarHandle" ∧ (parseMethodDescriptor yX2_sentenceOf.desc).map (fun d => d.parameters.length) = some 3 := by decide +kernel
theorem kd_X2_shown : yX2_shown.cls ≠ "java/lang/invoke/MethodHandle" ∧ yX2_shown.cls ≠ "java/lang/invoke/VarHandle" ∧ (parseMethodDescriptor yX2_shown.desc).map (fun d => d.parameters.length) = some 0 := by decide +kernel
theorem kd_X2_turnBy : yX2_turnBy.cls ≠ "java/lang/invoke/MethodHandle" ∧ yX2_turnBy.cls ≠ "java/lang/invoke/VarHandle" ∧ (parseMethodDescriptor yX2_turnBy.desc).map (fun d => d.parameters.length) = some 1 := by decide +kernel
theorem kd_X2_two : yX2_two.cls ≠ "java/lang/invoke/MethodHandle" ∧ yX2_two.cls ≠ "java/lang/invoke/VarHandle" ∧ (parseMethodDescriptor yX2_two.desc).map (fun d => d.parameters.length) = some 3 := by decide +kernel
theorem kd_X2_withdraw : yX2_withdraw.cls ≠ "java/lang/invoke/MethodHandle" ∧ yX2_withdraw.cls ≠ "java/lang/invoke/VarHandle" ∧ (parseMethodDescriptor yX2_withdraw.desc).map (fun d => d.parameters.length) = some 0 := by decide +kernel
theorem kd_X2_work : yX2_work.cls ≠ "java/lang/invoke/MethodHandle" ∧ yX2_work.cls ≠ "java/lang/invoke/VarHandle" ∧ (parseMethodDescriptor yX2_work.desc).map (fun d => d.parameters.length) = some 2 := by decide +kernel
def f_X2_clauseOf_3 : Nat → Int32 → Int32 → Int32 → Int32 → QA → Option (Int32)
  | 0, _, _, _, _, _ => none
  | n + 1, x1, x2, x3, x4, B => if x1 < (0:Int32) then (
  some ((-1:Int32))) else (
  qif (qok ((705:Int32) * x1) 2820) <|
  if (B 1003 ((705:Int32) * x1).toNatClampNeg) ≤ x4 then (
  some ((-1:Int32))) else (
  qlet ((((705:Int32) * x1) + (1:Int32)) + ((4:Int32) * x4)) fun x5_2 =>
  qif (qok x5_2 2820) <|
  if (B 1003 x5_2.toNatClampNeg) = x2 then (
  if x2 = (4:Int32) then (
  qif (qok (x5_2 + (3:Int32)) 2820) <|
  if (B 1003 (x5_2 + (3:Int32)).toNatClampNeg) = x3 then (
  some (x4)) else (
  qlet (x4 + (1:Int32)) fun x4_8 =>
  f_X2_clauseOf_3 n x1 x2 x3 x4_8 B)) else (
  some (x4))) else (
  qlet (x4 + (1:Int32)) fun x4_5 =>
  f_X2_clauseOf_3 n x1 x2 x3 x4_5 B)))
set_option maxHeartbeats 4000000 in
theorem w_X2_clauseOf_3 {p : Program} {l : Launch} {e : Env} {s : State} {m : MethodId} {args : Array Value} {below : List Frame} {meth : Method} {c : Code} {K : QK} {G : State → Prop} {A : QA} {rs : QX × QM} {L : QL} {ro : Int32} (hG : QG G) (hM : QMl K) (E : EV K G p s m args meth c cX2_clauseOf "VaneCourtModel" 6) (hr : meth.sig.returnType = (some .int)) : ∀ (n : Nat) (x1 : Int32) (x2 : Int32) (x3 : Int32) (x4 : Int32) (B : QA) {H : Heap} {locs : List Loc} {ls : Array Slot}, f_X2_clauseOf_3 n x1 x2 x3 x4 B = some ro → WP K (A, B, L, rs) H locs → lv_has ls 6 [(0, .ref (K.2.1 1000)), (1, .int x1), (2, .int x2), (3, .int x3), (4, .int x4)] → W p l e (qrm 1 40 0 0) s m args below meth c H locs 0 0 (MQ below (QE K (QR (some (.int ro)) (A, B, L, rs))) args s 0 0 (qA K)) (F0 m 3 ls []) := by
  have hx := E.1
  have hb := E.2.1
  have hown := E.2.2.1
  have hts := E.2.2.2.2.1
  intro n
  induction n with
  | zero =>
    intro x1 x2 x3 x4 B H locs ls  h hw hl
    cases h
  | succ n ih =>
    intro x1 x2 x3 x4 B H locs ls  h hw hl
    rw [f_X2_clauseOf_3] at h
    refine lv_iload_n hx hb dX2_clauseOf_3 rfl (lv_at hl 1 rfl) ?_
    refine lv_if_lt (tgt := 74) hx hb dX2_clauseOf_4 (by decide) (fun c => ?_) (fun c => ?_)
    · have h := qi_t c h
      refine lv_iconst (v := (-1:Int32)) hx hb dX2_clauseOf_74 (by decide) ?_
      have h := Option.some.inj h
      have h1 := h
      exact d_iret E hr rfl hw h1 rfl dX2_clauseOf_75
    · have h := qi_f c h
      refine lv_iload hx hb dX2_clauseOf_7 (lv_at hl 4 rfl) ?_
      refine lv_aload_n hx hb dX2_clauseOf_9 rfl (lv_at hl 0 rfl) ?_
      refine r_getM (v := .ref (K.2.1 1003)) E hw hM 2 (by decide) q1355 rfl dX2_clauseOf_10 ?_
      refine lv_sipush (v := (705:Int32)) hx hb dX2_clauseOf_13 (by decide) ?_
      refine lv_iload_n hx hb dX2_clauseOf_16 rfl (lv_at hl 1 rfl) ?_
      refine lv_imul hx hb dX2_clauseOf_17 ?_
      obtain ⟨z1, h⟩ := qif_s h
      refine r_iald (j := ((705:Int32) * x1).toNatClampNeg) E hw (qi_1003 hM).at (qok_in z1) rfl dX2_clauseOf_18 ?_
      refine lv_icmp_ge (tgt := 74) hx hb dX2_clauseOf_19 (by decide) (fun c => ?_) (fun c => ?_)
      · have h := qi_t c h
        refine lv_iconst (v := (-1:Int32)) hx hb dX2_clauseOf_74 (by decide) ?_
        have h := Option.some.inj h
        have h1 := h
        exact d_iret E hr rfl hw h1 rfl dX2_clauseOf_75
      · have h := qi_f c h
        refine lv_sipush (v := (705:Int32)) hx hb dX2_clauseOf_22 (by decide) ?_
        refine lv_iload_n hx hb dX2_clauseOf_25 rfl (lv_at hl 1 rfl) ?_
        refine lv_imul hx hb dX2_clauseOf_26 ?_
        refine lv_iconst (v := (1:Int32)) hx hb dX2_clauseOf_27 (by decide) ?_
        refine lv_iadd hx hb dX2_clauseOf_28 ?_
        refine lv_iconst (v := (4:Int32)) hx hb dX2_clauseOf_29 (by decide) ?_
        refine lv_iload hx hb dX2_clauseOf_30 (lv_at hl 4 rfl) ?_
        refine lv_imul hx hb dX2_clauseOf_32 ?_
        refine lv_iadd hx hb dX2_clauseOf_33 ?_
        obtain ⟨x5_2, e3, h⟩ := qlet_s h
        refine r_nm e3 ?_
        refine lv_istore (lv' := [(5, .int x5_2), (0, .ref (K.2.1 1000)), (1, .int x1), (2, .int x2), (3, .int x3), (4, .int x4)]) hx hb dX2_clauseOf_34 hl (by decide) rfl (fun ls hl => ?_)
        refine lv_aload_n hx hb dX2_clauseOf_36 rfl (lv_at hl 1 rfl) ?_
        refine r_getM (v := .ref (K.2.1 1003)) E hw hM 2 (by decide) q1355 rfl dX2_clauseOf_37 ?_
        refine lv_iload hx hb dX2_clauseOf_40 (lv_at hl 0 rfl) ?_
        obtain ⟨z4, h⟩ := qif_s h
        refine r_iald (j := x5_2.toNatClampNeg) E hw (qi_1003 hM).at (qok_in z4) rfl dX2_clauseOf_42 ?_
        refine lv_iload_n hx hb dX2_clauseOf_43 rfl (lv_at hl 3 rfl) ?_
        refine lv_icmp_ne (tgt := 68) hx hb dX2_clauseOf_44 (by decide) (fun c => ?_) (fun c => ?_)
        · have h := qi_f c h
          obtain ⟨x4_5, e6, h⟩ := qlet_s h
          refine lv_iinc (v := x4_5) (lv' := [(4, .int x4_5), (5, .int x5_2), (0, .ref (K.2.1 1000)), (1, .int x1), (2, .int x2), (3, .int x3)]) (k := 5) hx hb dX2_clauseOf_68 hl rfl (by rw [e6]; rfl) (by decide) rfl (fun ls hl => ?_)
          refine lv_goto (tgt := 3) hx hb dX2_clauseOf_71 (by decide) ?_
          exact ih _ _ _ _ _  h hw (lv_sub hl [2, 3, 4, 5, 0] rfl)
        · have h := qi_t c h
          refine lv_iload_n hx hb dX2_clauseOf_47 rfl (lv_at hl 3 rfl) ?_
          refine lv_iconst (v := (4:Int32)) hx hb dX2_clauseOf_48 (by decide) ?_
          refine lv_icmp_ne (tgt := 65) hx hb dX2_clauseOf_49 (by decide) (fun c => ?_) (fun c => ?_)
          · have h := qi_f c h
            refine lv_iload hx hb dX2_clauseOf_65 (lv_at hl 5 rfl) ?_
            have h := Option.some.inj h
            have h1 := h
            exact d_iret E hr rfl hw h1 rfl dX2_clauseOf_67
          · have h := qi_t c h
            refine lv_aload_n hx hb dX2_clauseOf_52 rfl (lv_at hl 1 rfl) ?_
            refine r_getM (v := .ref (K.2.1 1003)) E hw hM 2 (by decide) q1355 rfl dX2_clauseOf_53 ?_
            refine lv_iload hx hb dX2_clauseOf_56 (lv_at hl 0 rfl) ?_
            refine lv_iconst (v := (3:Int32)) hx hb dX2_clauseOf_58 (by decide) ?_
            refine lv_iadd hx hb dX2_clauseOf_59 ?_
            obtain ⟨z7, h⟩ := qif_s h
            refine r_iald (j := (x5_2 + (3:Int32)).toNatClampNeg) E hw (qi_1003 hM).at (qok_in z7) rfl dX2_clauseOf_60 ?_
            refine lv_iload_n hx hb dX2_clauseOf_61 rfl (lv_at hl 4 rfl) ?_
            refine lv_icmp_ne (tgt := 68) hx hb dX2_clauseOf_62 (by decide) (fun c => ?_) (fun c => ?_)
            · have h := qi_f c h
              obtain ⟨x4_8, e9, h⟩ := qlet_s h
              refine lv_iinc (v := x4_8) (lv' := [(4, .int x4_8), (5, .int x5_2), (0, .ref (K.2.1 1000)), (1, .int x1), (2, .int x2), (3, .int x3)]) (k := 5) hx hb dX2_clauseOf_68 hl rfl (by rw [e9]; rfl) (by decide) rfl (fun ls hl => ?_)
              refine lv_goto (tgt := 3) hx hb dX2_clauseOf_71 (by decide) ?_
              exact ih _ _ _ _ _  h hw (lv_sub hl [2, 3, 4, 5, 0] rfl)
            · have h := qi_t c h
              refine lv_iload hx hb dX2_clauseOf_65 (lv_at hl 5 rfl) ?_
              have h := Option.some.inj h
              have h1 := h
              exact d_iret E hr rfl hw h1 rfl dX2_clauseOf_67

def f_X2_clauseOf (x1 : Int32) (x2 : Int32) (x3 : Int32) (B : QA) : Option (Int32) :=
  f_X2_clauseOf_3 FU x1 x2 x3 (0:Int32) B
set_option maxHeartbeats 4000000 in
theorem w_X2_clauseOf_0 {p : Program} {l : Launch} {e : Env} {s : State} {m : MethodId} {args : Array Value} {below : List Frame} {meth : Method} {c : Code} {K : QK} {G : State → Prop} {A : QA} {rs : QX × QM} {L : QL} {ro : Int32} (hG : QG G) (hM : QMl K) (E : EV K G p s m args meth c cX2_clauseOf "VaneCourtModel" 6) (hr : meth.sig.returnType = (some .int)) : ∀ (x1 : Int32) (x2 : Int32) (x3 : Int32) (B : QA) {H : Heap} {locs : List Loc} {ls : Array Slot}, f_X2_clauseOf x1 x2 x3 B = some ro → WP K (A, B, L, rs) H locs → lv_has ls 6 [(0, .ref (K.2.1 1000)), (1, .int x1), (2, .int x2), (3, .int x3)] → W p l e (qrm 1 40 0 0) s m args below meth c H locs 0 0 (MQ below (QE K (QR (some (.int ro)) (A, B, L, rs))) args s 0 0 (qA K)) (F0 m 0 ls []) := by
  have hx := E.1
  have hb := E.2.1
  have hown := E.2.2.1
  have hts := E.2.2.2.2.1
  intro x1 x2 x3 B H locs ls  h hw hl
  rw [f_X2_clauseOf] at h
  refine lv_iconst (v := (0:Int32)) hx hb dX2_clauseOf_0 (by decide) ?_
  refine lv_istore (lv' := [(4, .int (0:Int32)), (0, .ref (K.2.1 1000)), (1, .int x1), (2, .int x2), (3, .int x3)]) hx hb dX2_clauseOf_1 hl (by decide) rfl (fun ls hl => ?_)
  exact w_X2_clauseOf_3 hG hM E hr  _ _ _ _ _ _   h hw (lv_sub hl [1, 2, 3, 4, 0] rfl)

theorem m_X2_clauseOf (l : Launch) {K : QK} {G : State → Prop} (hG : QG G) (hM : QMl K) {A : QA} {rs : QX × QM} {L : QL} {x1 : Int32} {x2 : Int32} {x3 : Int32} {B : QA} {ro : Int32} (h : f_X2_clauseOf x1 x2 x3 B = some ro) : MC l K G yX2_clauseOf (ws_ yX2_clauseOf cX2_clauseOf 6 (some .int)) 1 40 0 0 [.ref (K.2.1 1000), .int x1, .int x2, .int x3] (A, B, L, rs) (QR (some (.int ro)) (A, B, L, rs)) := by
  refine MC.of (by decide) (Nat.le_of_ble_eq_true rfl) (lv := [(0, .ref (K.2.1 1000)), (1, .int x1), (2, .int x2), (3, .int x3)]) rfl (fun p e s m below meth c ls E hr hl hw => ?_)
  exact w_X2_clauseOf_0 hG hM E hr _ _ _ _  h hw hl

def f_X2_name (B : QA) : Option (QA) :=
  qlet (qu B 1007 0 (B 1001 11)) fun B1 =>
  qlet (qu B1 1007 1 (B1 1001 8)) fun B3 =>
  qlet (qu B3 1007 2 (B3 1001 9)) fun B5 =>
  some (B5)
set_option maxHeartbeats 4000000 in
theorem w_X2_name_0 {p : Program} {l : Launch} {e : Env} {s : State} {m : MethodId} {args : Array Value} {below : List Frame} {meth : Method} {c : Code} {K : QK} {G : State → Prop} {A : QA} {rs : QX × QM} {L : QL} {Bo : QA} (hG : QG G) (hM : QMl K) (E : EV K G p s m args meth c cX2_name "VaneCourtModel" 1) (hr : meth.sig.returnType = none) : ∀ (B : QA) {H : Heap} {locs : List Loc} {ls : Array Slot}, f_X2_name B = some Bo → WP K (A, B, L, rs) H locs → lv_has ls 1 [(0, .ref (K.2.1 1000))] → W p l e (qrm 1 40 0 0) s m args below meth c H locs 0 0 (MQ below (QE K (QR none (A, Bo, L, rs))) args s 0 0 (qA K)) (F0 m 0 ls []) := by
  have hx := E.1
  have hb := E.2.1
  have hown := E.2.2.1
  have hts := E.2.2.2.2.1
  intro B H locs ls  h hw hl
  rw [f_X2_name] at h
  refine lv_aload_n hx hb dX2_name_0 rfl (lv_at hl 0 rfl) ?_
  refine r_getM (v := .ref (K.2.1 1007)) E hw hM 25 (by decide) q1378 rfl dX2_name_1 ?_
  refine lv_iconst (v := (0:Int32)) hx hb dX2_name_4 (by decide) ?_
  refine lv_aload_n hx hb dX2_name_5 rfl (lv_at hl 0 rfl) ?_
  refine r_getM (v := .ref (K.2.1 1001)) E hw hM 0 (by decide) q1353 rfl dX2_name_6 ?_
  refine lv_bipush (v := (11:Int32)) hx hb dX2_name_9 (by decide) ?_
  refine r_iald (j := 11) E hw (qi_1001 hM).at (q_lit (k := 11) (n := 3642) rfl rfl) (q_clamp (k := 11) rfl) dX2_name_11 ?_
  obtain ⟨B1, e2, h⟩ := qlet_s h
  refine r_iastB (j := 0) E hw (qi_1007 hM) (q_lit (k := 0) (n := 8) rfl rfl) (q_clamp (k := 0) rfl) dX2_name_12 (fun H locs hw => ?_)
  rw [← e2] at hw
  refine lv_aload_n hx hb dX2_name_13 rfl (lv_at hl 0 rfl) ?_
  refine r_getM (v := .ref (K.2.1 1007)) E hw hM 25 (by decide) q1378 rfl dX2_name_14 ?_
  refine lv_iconst (v := (1:Int32)) hx hb dX2_name_17 (by decide) ?_
  refine lv_aload_n hx hb dX2_name_18 rfl (lv_at hl 0 rfl) ?_
  refine r_getM (v := .ref (K.2.1 1001)) E hw hM 0 (by decide) q1353 rfl dX2_name_19 ?_
  refine lv_bipush (v := (8:Int32)) hx hb dX2_name_22 (by decide) ?_
  refine r_iald (j := 8) E hw (qi_1001 hM).at (q_lit (k := 8) (n := 3642) rfl rfl) (q_clamp (k := 8) rfl) dX2_name_24 ?_
  obtain ⟨B3, e4, h⟩ := qlet_s h
  refine r_iastB (j := 1) E hw (qi_1007 hM) (q_lit (k := 1) (n := 8) rfl rfl) (q_clamp (k := 1) rfl) dX2_name_25 (fun H locs hw => ?_)
  rw [← e4] at hw
  refine lv_aload_n hx hb dX2_name_26 rfl (lv_at hl 0 rfl) ?_
  refine r_getM (v := .ref (K.2.1 1007)) E hw hM 25 (by decide) q1378 rfl dX2_name_27 ?_
  refine lv_iconst (v := (2:Int32)) hx hb dX2_name_30 (by decide) ?_
  refine lv_aload_n hx hb dX2_name_31 rfl (lv_at hl 0 rfl) ?_
  refine r_getM (v := .ref (K.2.1 1001)) E hw hM 0 (by decide) q1353 rfl dX2_name_32 ?_
  refine lv_bipush (v := (9:Int32)) hx hb dX2_name_35 (by decide) ?_
  refine r_iald (j := 9) E hw (qi_1001 hM).at (q_lit (k := 9) (n := 3642) rfl rfl) (q_clamp (k := 9) rfl) dX2_name_37 ?_
  obtain ⟨B5, e6, h⟩ := qlet_s h
  refine r_iastB (j := 2) E hw (qi_1007 hM) (q_lit (k := 2) (n := 8) rfl rfl) (q_clamp (k := 2) rfl) dX2_name_38 (fun H locs hw => ?_)
  rw [← e6] at hw
  have h := Option.some.inj h
  have h1 := h
  exact d_ret E hr hw (by rw [h1]) dX2_name_39

theorem m_X2_name (l : Launch) {K : QK} {G : State → Prop} (hG : QG G) (hM : QMl K) {A : QA} {rs : QX × QM} {L : QL} {B : QA} {Bo : QA} (h : f_X2_name B = some Bo) : MC l K G yX2_name (ws_ yX2_name cX2_name 1 none) 1 40 0 0 [.ref (K.2.1 1000)] (A, B, L, rs) (QR none (A, Bo, L, rs)) := by
  refine MC.of (by decide) (Nat.le_of_ble_eq_true rfl) (lv := [(0, .ref (K.2.1 1000))]) rfl (fun p e s m below meth c ls E hr hl hw => ?_)
  exact w_X2_name_0 hG hM E hr _  h hw hl

def f_X2_nameCase (x1 : Int32) (x2 : Int32) (B : QA) : Option (QA) :=
  qb1 (f_X2_name B) fun B1 =>
  qb1 (f_X2_get x1 (0:Int32) B1) fun u3 =>
  qlet (qu B1 1007 4 u3) fun B5 =>
  qb1 (f_X2_get x1 (1:Int32) B5) fun u7 =>
  qlet (qu B5 1007 5 u7) fun B9 =>
  qlet (qu B9 1007 6 x2) fun B11 =>
  some (B11)
set_option maxHeartbeats 4000000 in
theorem w_X2_nameCase_0 {p : Program} {l : Launch} {e : Env} {s : State} {m : MethodId} {args : Array Value} {below : List Frame} {meth : Method} {c : Code} {K : QK} {G : State → Prop} {A : QA} {rs : QX × QM} {L : QL} {Bo : QA} (hG : QG G) (hM : QMl K) (E : EV K G p s m args meth c cX2_nameCase "VaneCourtModel" 3) (hr : meth.sig.returnType = none) : ∀ (x1 : Int32) (x2 : Int32) (B : QA) {H : Heap} {locs : List Loc} {ls : Array Slot}, f_X2_nameCase x1 x2 B = some Bo → WP K (A, B, L, rs) H locs → lv_has ls 3 [(0, .ref (K.2.1 1000)), (1, .int x1), (2, .int x2)] → W p l e (qrm 2 62 0 0) s m args below meth c H locs 0 0 (MQ below (QE K (QR none (A, Bo, L, rs))) args s 0 0 (qA K)) (F0 m 0 ls []) := by
  have hx := E.1
  have hb := E.2.1
  have hown := E.2.2.1
  have hts := E.2.2.2.2.1
  intro x1 x2 B H locs ls  h hw hl
  rw [f_X2_nameCase] at h
  refine lv_aload_n hx hb dX2_nameCase_0 rfl (lv_at hl 0 rfl) ?_
  obtain ⟨B1, g2, h⟩ := qb1_s h
  refine d_V (As := []) (v0 := none) (w0 := (A, B1, L, rs)) hG E hw hl (m_X2_name l hG hM  g2) (qM0 hM) rfl (cwV 0 hts (lw_V q1775 q1777 qs111 q140 q1778) rfl rfl rfl ⟨rfl, kd_X2_name⟩ ⟨Nat.le_of_ble_eq_true rfl, Nat.le_of_ble_eq_true rfl⟩) rfl (rest := []) (st1 := []) rfl rfl rfl dX2_nameCase_1 ⟨Nat.le_of_ble_eq_true rfl, Nat.le_of_ble_eq_true rfl⟩ (fun H locs hw => ?_)
  refine lv_aload_n hx hb dX2_nameCase_4 rfl (lv_at hl 0 rfl) ?_
  refine r_getM (v := .ref (K.2.1 1007)) E hw hM 25 (by decide) q1378 rfl dX2_nameCase_5 ?_
  refine lv_iconst (v := (4:Int32)) hx hb dX2_nameCase_8 (by decide) ?_
  refine lv_aload_n hx hb dX2_nameCase_9 rfl (lv_at hl 0 rfl) ?_
  refine lv_iload_n hx hb dX2_nameCase_10 rfl (lv_at hl 1 rfl) ?_
  refine lv_iconst (v := (0:Int32)) hx hb dX2_nameCase_11 (by decide) ?_
  obtain ⟨u3, g4, h⟩ := qb1_s h
  refine d_V (As := [.int x1, .int (0:Int32)]) (v0 := some (.int u3)) (w0 := (A, B1, L, rs)) hG E hw hl (m_X2_get l hG hM  g4) (qM0 hM) rfl (cwV 2 hts (lw_V q1699 q1701 qs97 q140 q1702) rfl rfl rfl ⟨rfl, kd_X2_get⟩ ⟨Nat.le_of_ble_eq_true rfl, Nat.le_of_ble_eq_true rfl⟩) rfl (rest := [.int (4:Int32), .ref (K.2.1 1007)]) (st1 := [.int u3, .int (4:Int32), .ref (K.2.1 1007)]) rfl rfl rfl dX2_nameCase_12 ⟨Nat.le_of_ble_eq_true rfl, Nat.le_of_ble_eq_true rfl⟩ (fun H locs hw => ?_)
  obtain ⟨B5, e6, h⟩ := qlet_s h
  refine r_iastB (j := 4) E hw (qi_1007 hM) (q_lit (k := 4) (n := 8) rfl rfl) (q_clamp (k := 4) rfl) dX2_nameCase_15 (fun H locs hw => ?_)
  rw [← e6] at hw
  refine lv_aload_n hx hb dX2_nameCase_16 rfl (lv_at hl 0 rfl) ?_
  refine r_getM (v := .ref (K.2.1 1007)) E hw hM 25 (by decide) q1378 rfl dX2_nameCase_17 ?_
  refine lv_iconst (v := (5:Int32)) hx hb dX2_nameCase_20 (by decide) ?_
  refine lv_aload_n hx hb dX2_nameCase_21 rfl (lv_at hl 0 rfl) ?_
  refine lv_iload_n hx hb dX2_nameCase_22 rfl (lv_at hl 1 rfl) ?_
  refine lv_iconst (v := (1:Int32)) hx hb dX2_nameCase_23 (by decide) ?_
  obtain ⟨u7, g8, h⟩ := qb1_s h
  refine d_V (As := [.int x1, .int (1:Int32)]) (v0 := some (.int u7)) (w0 := (A, B5, L, rs)) hG E hw hl (m_X2_get l hG hM  g8) (qM0 hM) rfl (cwV 2 hts (lw_V q1699 q1701 qs97 q140 q1702) rfl rfl rfl ⟨rfl, kd_X2_get⟩ ⟨Nat.le_of_ble_eq_true rfl, Nat.le_of_ble_eq_true rfl⟩) rfl (rest := [.int (5:Int32), .ref (K.2.1 1007)]) (st1 := [.int u7, .int (5:Int32), .ref (K.2.1 1007)]) rfl rfl rfl dX2_nameCase_24 ⟨Nat.le_of_ble_eq_true rfl, Nat.le_of_ble_eq_true rfl⟩ (fun H locs hw => ?_)
  obtain ⟨B9, e10, h⟩ := qlet_s h
  refine r_iastB (j := 5) E hw (qi_1007 hM) (q_lit (k := 5) (n := 8) rfl rfl) (q_clamp (k := 5) rfl) dX2_nameCase_27 (fun H locs hw => ?_)
  rw [← e10] at hw
  refine lv_aload_n hx hb dX2_nameCase_28 rfl (lv_at hl 0 rfl) ?_
  refine r_getM (v := .ref (K.2.1 1007)) E hw hM 25 (by decide) q1378 rfl dX2_nameCase_29 ?_
  refine lv_bipush (v := (6:Int32)) hx hb dX2_nameCase_32 (by decide) ?_
  refine lv_iload_n hx hb dX2_nameCase_34 rfl (lv_at hl 2 rfl) ?_
  obtain ⟨B11, e12, h⟩ := qlet_s h
  refine r_iastB (j := 6) E hw (qi_1007 hM) (q_lit (k := 6) (n := 8) rfl rfl) (q_clamp (k := 6) rfl) dX2_nameCase_35 (fun H locs hw => ?_)
  rw [← e12] at hw
  have h := Option.some.inj h
  have h1 := h
  exact d_ret E hr hw (by rw [h1]) dX2_nameCase_36

theorem m_X2_nameCase (l : Launch) {K : QK} {G : State → Prop} (hG : QG G) (hM : QMl K) {A : QA} {rs : QX × QM} {L : QL} {x1 : Int32} {x2 : Int32} {B : QA} {Bo : QA} (h : f_X2_nameCase x1 x2 B = some Bo) : MC l K G yX2_nameCase (ws_ yX2_nameCase cX2_nameCase 3 none) 2 62 0 0 [.ref (K.2.1 1000), .int x1, .int x2] (A, B, L, rs) (QR none (A, Bo, L, rs)) := by
  refine MC.of (by decide) (Nat.le_of_ble_eq_true rfl) (lv := [(0, .ref (K.2.1 1000)), (1, .int x1), (2, .int x2)]) rfl (fun p e s m below meth c ls E hr hl hw => ?_)
  exact w_X2_nameCase_0 hG hM E hr _ _ _  h hw hl

def f_X2_areMost_5 : Nat → Int32 → Int32 → Int32 → Int32 → QA → Option (Int32)
  | 0, _, _, _, _, _ => none
  | n + 1, x1, x2, x3, x4, B => if x2 ≤ x4 then (
  if ((2:Int32) * x3) ≤ x2 then (
  some ((0:Int32))) else (
  some ((1:Int32)))) else (
  qif (qok (x1 + x4) 330) <|
  if (B 1009 (x1 + x4).toNatClampNeg) = (0:Int32) then (
  qlet (x3 + (0:Int32)) fun x3_2 =>
  qlet (x4 + (1:Int32)) fun x4_4 =>
  f_X2_areMost_5 n x1 x2 x3_2 x4_4 B) else (
  qlet (x3 + (1:Int32)) fun x3_6 =>
  qlet (x4 + (1:Int32)) fun x4_8 =>
  f_X2_areMost_5 n x1 x2 x3_6 x4_8 B))
set_option maxHeartbeats 4000000 in
theorem w_X2_areMost_5 {p : Program} {l : Launch} {e : Env} {s : State} {m : MethodId} {args : Array Value} {below : List Frame} {meth : Method} {c : Code} {K : QK} {G : State → Prop} {A : QA} {rs : QX × QM} {L : QL} {ro : Int32} (hG : QG G) (hM : QMl K) (E : EV K G p s m args meth c cX2_areMost "VaneCourtModel" 5) (hr : meth.sig.returnType = (some .boolean)) : ∀ (n : Nat) (x1 : Int32) (x2 : Int32) (x3 : Int32) (x4 : Int32) (B : QA) {H : Heap} {locs : List Loc} {ls : Array Slot}, f_X2_areMost_5 n x1 x2 x3 x4 B = some ro → WP K (A, B, L, rs) H locs → lv_has ls 5 [(0, .ref (K.2.1 1000)), (1, .int x1), (2, .int x2), (3, .int x3), (4, .int x4)] → W p l e (qrm 1 40 0 0) s m args below meth c H locs 0 0 (MQ below (QE K (QR (some (.int ro)) (A, B, L, rs))) args s 0 0 (qA K)) (F0 m 5 ls []) := by
  have hx := E.1
  have hb := E.2.1
  have hown := E.2.2.1
  have hts := E.2.2.2.2.1
  intro n
  induction n with
  | zero =>
    intro x1 x2 x3 x4 B H locs ls  h hw hl
    cases h
  | succ n ih =>
    intro x1 x2 x3 x4 B H locs ls  h hw hl
    rw [f_X2_areMost_5] at h
    refine lv_iload hx hb dX2_areMost_5 (lv_at hl 4 rfl) ?_
    refine lv_iload_n hx hb dX2_areMost_7 rfl (lv_at hl 2 rfl) ?_
    refine lv_icmp_ge (tgt := 37) hx hb dX2_areMost_8 (by decide) (fun c => ?_) (fun c => ?_)
    · have h := qi_t c h
      refine lv_iconst (v := (2:Int32)) hx hb dX2_areMost_37 (by decide) ?_
      refine lv_iload_n hx hb dX2_areMost_38 rfl (lv_at hl 3 rfl) ?_
      refine lv_imul hx hb dX2_areMost_39 ?_
      refine lv_iload_n hx hb dX2_areMost_40 rfl (lv_at hl 2 rfl) ?_
      refine lv_icmp_le (tgt := 48) hx hb dX2_areMost_41 (by decide) (fun c => ?_) (fun c => ?_)
      · have h := qi_t c h
        refine lv_iconst (v := (0:Int32)) hx hb dX2_areMost_48 (by decide) ?_
        have h := Option.some.inj h
        have h1 := h
        exact d_iret E hr rfl hw h1 rfl dX2_areMost_49
      · have h := qi_f c h
        refine lv_iconst (v := (1:Int32)) hx hb dX2_areMost_44 (by decide) ?_
        refine lv_goto (tgt := 49) hx hb dX2_areMost_45 (by decide) ?_
        have h := Option.some.inj h
        have h1 := h
        exact d_iret E hr rfl hw h1 rfl dX2_areMost_49
    · have h := qi_f c h
      refine lv_iload_n hx hb dX2_areMost_11 rfl (lv_at hl 3 rfl) ?_
      refine lv_aload_n hx hb dX2_areMost_12 rfl (lv_at hl 0 rfl) ?_
      refine r_getM (v := .ref (K.2.1 1009)) E hw hM 28 (by decide) q1381 rfl dX2_areMost_13 ?_
      refine lv_iload_n hx hb dX2_areMost_16 rfl (lv_at hl 1 rfl) ?_
      refine lv_iload hx hb dX2_areMost_17 (lv_at hl 4 rfl) ?_
      refine lv_iadd hx hb dX2_areMost_19 ?_
      obtain ⟨z1, h⟩ := qif_s h
      refine r_zald (j := (x1 + x4).toNatClampNeg) E hw (qaZ hM) (qok_in z1) rfl dX2_areMost_20 ?_
      refine lv_if_eq (tgt := 28) hx hb dX2_areMost_21 (by decide) (fun c => ?_) (fun c => ?_)
      · have h := qi_t c h
        refine lv_iconst (v := (0:Int32)) hx hb dX2_areMost_28 (by decide) ?_
        refine lv_iadd hx hb dX2_areMost_29 ?_
        obtain ⟨x3_2, e3, h⟩ := qlet_s h
        refine r_nm e3 ?_
        refine lv_istore_n (lv' := [(3, .int x3_2), (0, .ref (K.2.1 1000)), (1, .int x1), (2, .int x2), (4, .int x4)]) hx hb dX2_areMost_30 rfl hl (by decide) rfl (fun ls hl => ?_)
        obtain ⟨x4_4, e5, h⟩ := qlet_s h
        refine lv_iinc (v := x4_4) (lv' := [(4, .int x4_4), (3, .int x3_2), (0, .ref (K.2.1 1000)), (1, .int x1), (2, .int x2)]) (k := 4) hx hb dX2_areMost_31 hl rfl (by rw [e5]; rfl) (by decide) rfl (fun ls hl => ?_)
        refine lv_goto (tgt := 5) hx hb dX2_areMost_34 (by decide) ?_
        exact ih _ _ _ _ _  h hw (lv_sub hl [2, 3, 4, 1, 0] rfl)
      · have h := qi_f c h
        refine lv_iconst (v := (1:Int32)) hx hb dX2_areMost_24 (by decide) ?_
        refine lv_goto (tgt := 29) hx hb dX2_areMost_25 (by decide) ?_
        refine lv_iadd hx hb dX2_areMost_29 ?_
        obtain ⟨x3_6, e7, h⟩ := qlet_s h
        refine r_nm e7 ?_
        refine lv_istore_n (lv' := [(3, .int x3_6), (0, .ref (K.2.1 1000)), (1, .int x1), (2, .int x2), (4, .int x4)]) hx hb dX2_areMost_30 rfl hl (by decide) rfl (fun ls hl => ?_)
        obtain ⟨x4_8, e9, h⟩ := qlet_s h
        refine lv_iinc (v := x4_8) (lv' := [(4, .int x4_8), (3, .int x3_6), (0, .ref (K.2.1 1000)), (1, .int x1), (2, .int x2)]) (k := 4) hx hb dX2_areMost_31 hl rfl (by rw [e9]; rfl) (by decide) rfl (fun ls hl => ?_)
        refine lv_goto (tgt := 5) hx hb dX2_areMost_34 (by decide) ?_
        exact ih _ _ _ _ _  h hw (lv_sub hl [2, 3, 4, 1, 0] rfl)

def f_X2_areMost (x1 : Int32) (x2 : Int32) (B : QA) : Option (Int32) :=
  f_X2_areMost_5 FU x1 x2 (0:Int32) (0:Int32) B
set_option maxHeartbeats 4000000 in
theorem w_X2_areMost_0 {p : Program} {l : Launch} {e : Env} {s : State} {m : MethodId} {args : Array Value} {below : List Frame} {meth : Method} {c : Code} {K : QK} {G : State → Prop} {A : QA} {rs : QX × QM} {L : QL} {ro : Int32} (hG : QG G) (hM : QMl K) (E : EV K G p s m args meth c cX2_areMost "VaneCourtModel" 5) (hr : meth.sig.returnType = (some .boolean)) : ∀ (x1 : Int32) (x2 : Int32) (B : QA) {H : Heap} {locs : List Loc} {ls : Array Slot}, f_X2_areMost x1 x2 B = some ro → WP K (A, B, L, rs) H locs → lv_has ls 5 [(0, .ref (K.2.1 1000)), (1, .int x1), (2, .int x2)] → W p l e (qrm 1 40 0 0) s m args below meth c H locs 0 0 (MQ below (QE K (QR (some (.int ro)) (A, B, L, rs))) args s 0 0 (qA K)) (F0 m 0 ls []) := by
  have hx := E.1
  have hb := E.2.1
  have hown := E.2.2.1
  have hts := E.2.2.2.2.1
  intro x1 x2 B H locs ls  h hw hl
  rw [f_X2_areMost] at h
  refine lv_iconst (v := (0:Int32)) hx hb dX2_areMost_0 (by decide) ?_
  refine lv_istore_n (lv' := [(3, .int (0:Int32)), (0, .ref (K.2.1 1000)), (1, .int x1), (2, .int x2)]) hx hb dX2_areMost_1 rfl hl (by decide) rfl (fun ls hl => ?_)
  refine lv_iconst (v := (0:Int32)) hx hb dX2_areMost_2 (by decide) ?_
  refine lv_istore (lv' := [(4, .int (0:Int32)), (3, .int (0:Int32)), (0, .ref (K.2.1 1000)), (1, .int x1), (2, .int x2)]) hx hb dX2_areMost_3 hl (by decide) rfl (fun ls hl => ?_)
  exact w_X2_areMost_5 hG hM E hr  _ _ _ _ _ _   h hw (lv_sub hl [2, 3, 4, 1, 0] rfl)

theorem m_X2_areMost (l : Launch) {K : QK} {G : State → Prop} (hG : QG G) (hM : QMl K) {A : QA} {rs : QX × QM} {L : QL} {x1 : Int32} {x2 : Int32} {B : QA} {ro : Int32} (h : f_X2_areMost x1 x2 B = some ro) : MC l K G yX2_areMost (ws_ yX2_areMost cX2_areMost 5 (some .boolean)) 1 40 0 0 [.ref (K.2.1 1000), .int x1, .int x2] (A, B, L, rs) (QR (some (.int ro)) (A, B, L, rs)) := by
  refine MC.of (by decide) (Nat.le_of_ble_eq_true rfl) (lv := [(0, .ref (K.2.1 1000)), (1, .int x1), (2, .int x2)]) rfl (fun p e s m below meth c ls E hr hl hw => ?_)
  exact w_X2_areMost_0 hG hM E hr _ _ _  h hw hl

def f_X2_clip (x0 : Int64) : Option (Int64) :=
  if (lg_cmp x0 (1000000:Int64)) ≤ (0:Int32) then (
  if (0:Int32) ≤ (lg_cmp x0 (-1000000:Int64)) then (
  some (x0)) else (
  some ((-1000000:Int64)))) else (
  some ((1000000:Int64)))
set_option maxHeartbeats 4000000 in
theorem w_X2_clip_0 {p : Program} {l : Launch} {e : Env} {s : State} {m : MethodId} {args : Array Value} {below : List Frame} {meth : Method} {c : Code} {K : QK} {G : State → Prop} {A : QA} {rs : QX × QM} {B : QA} {L : QL} {ro : Int64} (hG : QG G) (hM : QMl K) (E : EV K G p s m args meth c cX2_clip "VaneCourtModel" 2) (hr : meth.sig.returnType = (some .long)) : ∀ (x0 : Int64) {H : Heap} {locs : List Loc} {ls : Array Slot}, f_X2_clip x0 = some ro → WP K (A, B, L, rs) H locs → lv_has ls 2 [(0, .long x0)] → W p l e (qrm 1 40 0 0) s m args below meth c H locs 0 0 (MQ below (QE K (QR (some (.long ro)) (A, B, L, rs))) args s 0 0 (qA K)) (F0 m 0 ls []) := by
  have hx := E.1
  have hb := E.2.1
  have hown := E.2.2.1
  have hts := E.2.2.2.2.1
  intro x0 H locs ls  h hw hl
  rw [f_X2_clip] at h
  refine lv_lload_n hx hb dX2_clip_0 rfl (lv_at hl 0 rfl) ?_
  refine lv_ldc2 (v := (1000000:Int64)) hx hb hown (hts _ q1793) dX2_clip_1 ?_
  refine W.lcmp hx hb dX2_clip_4 ?_
  refine lv_if_le (tgt := 14) hx hb dX2_clip_5 (by decide) (fun c => ?_) (fun c => ?_)
  · have h := qi_t c h
    refine lv_lload_n hx hb dX2_clip_14 rfl (lv_at hl 0 rfl) ?_
    refine lv_ldc2 (v := (-1000000:Int64)) hx hb hown (hts _ q1794) dX2_clip_15 ?_
    refine W.lcmp hx hb dX2_clip_18 ?_
    refine lv_if_ge (tgt := 28) hx hb dX2_clip_19 (by decide) (fun c => ?_) (fun c => ?_)
    · have h := qi_t c h
      refine lv_lload_n hx hb dX2_clip_28 rfl (lv_at hl 0 rfl) ?_
      have h := Option.some.inj h
      have h1 := h
      exact d_lret E hr hw h1 rfl dX2_clip_29
    · have h := qi_f c h
      refine lv_ldc2 (v := (-1000000:Int64)) hx hb hown (hts _ q1794) dX2_clip_22 ?_
      refine lv_goto (tgt := 29) hx hb dX2_clip_25 (by decide) ?_
      have h := Option.some.inj h
      have h1 := h
      exact d_lret E hr hw h1 rfl dX2_clip_29
  · have h := qi_f c h
    refine lv_ldc2 (v := (1000000:Int64)) hx hb hown (hts _ q1793) dX2_clip_8 ?_
    refine lv_goto (tgt := 29) hx hb dX2_clip_11 (by decide) ?_
    have h := Option.some.inj h
    have h1 := h
    exact d_lret E hr hw h1 rfl dX2_clip_29

theorem m_X2_clip (l : Launch) {K : QK} {G : State → Prop} (hG : QG G) (hM : QMl K) {A : QA} {rs : QX × QM} {B : QA} {L : QL} {x0 : Int64} {ro : Int64} (h : f_X2_clip x0 = some ro) : MC l K G yX2_clip (ws_ yX2_clip cX2_clip 2 (some .long)) 1 40 0 0 [.long x0] (A, B, L, rs) (QR (some (.long ro)) (A, B, L, rs)) := by
  refine MC.of (by decide) (Nat.le_of_ble_eq_true rfl) (lv := [(0, .long x0)]) rfl (fun p e s m below meth c ls E hr hl hw => ?_)
  exact w_X2_clip_0 hG hM E hr _  h hw hl

def f_X2_two (x0 : Int32) (x1 : Int64) (x3 : Int64) : Option (Int64) :=
  if x0 = (5:Int32) then (
  qb1 (f_X2_clip (x1 + x3)) fun u1 =>
  some (u1)) else (
  if x0 = (6:Int32) then (
  qb1 (f_X2_clip (x1 - x3)) fun u3 =>
  some (u3)) else (
  if x0 = (7:Int32) then (
  qb1 (f_X2_clip (x1 * x3)) fun u5 =>
  some (u5)) else (
  if (lg_cmp x3 (0:Int64)) = (0:Int32) then (
  some ((0:Int64))) else (
  qif (decide (¬ x3 = 0)) <|
  qb1 (f_X2_clip (x1 / x3)) fun u8 =>
  some (u8)))))
set_option maxHeartbeats 4000000 in
theorem w_X2_two_0 {p : Program} {l : Launch} {e : Env} {s : State} {m : MethodId} {args : Array Value} {below : List Frame} {meth : Method} {c : Code} {K : QK} {G : State → Prop} {A : QA} {rs : QX × QM} {B : QA} {L : QL} {ro : Int64} (hG : QG G) (hM : QMl K) (E : EV K G p s m args meth c cX2_two "VaneCourtModel" 5) (hr : meth.sig.returnType = (some .long)) : ∀ (x0 : Int32) (x1 : Int64) (x3 : Int64) {H : Heap} {locs : List Loc} {ls : Array Slot}, f_X2_two x0 x1 x3 = some ro → WP K (A, B, L, rs) H locs → lv_has ls 5 [(0, .int x0), (1, .long x1), (3, .long x3)] → W p l e (qrm 2 61 0 0) s m args below meth c H locs 0 0 (MQ below (QE K (QR (some (.long ro)) (A, B, L, rs))) args s 0 0 (qA K)) (F0 m 0 ls []) := by
  have hx := E.1
  have hb := E.2.1
  have hown := E.2.2.1
  have hts := E.2.2.2.2.1
  intro x0 x1 x3 H locs ls  h hw hl
  rw [f_X2_two] at h
  refine lv_iload_n hx hb dX2_two_0 rfl (lv_at hl 0 rfl) ?_
  by_cases c : x0 = (5:Int32)
  · have h := qi_t c h
    refine lv_tableIn (tgt := 28) (off := 27) hx hb dX2_two_1 (by rw [c]; decide) (by rw [c]; decide) (by rw [c]; rfl) (by decide) ?_
    refine lv_lload_n hx hb dX2_two_28 rfl (lv_at hl 1 rfl) ?_
    refine lv_lload_n hx hb dX2_two_29 rfl (lv_at hl 2 rfl) ?_
    refine lv_ladd hx hb dX2_two_30 ?_
    obtain ⟨u1, g2, h⟩ := qb1_s h
    refine d_S (As := [.long (x1 + x3)]) (v0 := some (.long u1)) (w0 := (A, B, L, rs)) hG E hw hl (m_X2_clip l hG hM  g2) (va_cwS 1 hts (lw_S q1790 q1791 q140 q1792) rfl rfl rfl kd_X2_clip ⟨Nat.le_of_ble_eq_true rfl, Nat.le_of_ble_eq_true rfl⟩) rfl (rest := []) (st1 := [.long u1]) rfl rfl rfl dX2_two_31 ⟨Nat.le_of_ble_eq_true rfl, Nat.le_of_ble_eq_true rfl⟩ (fun H locs hw => ?_)
    have h := Option.some.inj h
    have h1 := h
    exact d_lret E hr hw h1 rfl dX2_two_34
  · have h := qi_f c h
    have n5 := qne32 c
    by_cases c : x0 = (6:Int32)
    · have h := qi_t c h
      refine lv_tableIn (tgt := 35) (off := 34) hx hb dX2_two_1 (by rw [c]; decide) (by rw [c]; decide) (by rw [c]; rfl) (by decide) ?_
      refine lv_lload_n hx hb dX2_two_35 rfl (lv_at hl 1 rfl) ?_
      refine lv_lload_n hx hb dX2_two_36 rfl (lv_at hl 2 rfl) ?_
      refine lv_lsub hx hb dX2_two_37 ?_
      obtain ⟨u3, g4, h⟩ := qb1_s h
      refine d_S (As := [.long (x1 - x3)]) (v0 := some (.long u3)) (w0 := (A, B, L, rs)) hG E hw hl (m_X2_clip l hG hM  g4) (va_cwS 1 hts (lw_S q1790 q1791 q140 q1792) rfl rfl rfl kd_X2_clip ⟨Nat.le_of_ble_eq_true rfl, Nat.le_of_ble_eq_true rfl⟩) rfl (rest := []) (st1 := [.long u3]) rfl rfl rfl dX2_two_38 ⟨Nat.le_of_ble_eq_true rfl, Nat.le_of_ble_eq_true rfl⟩ (fun H locs hw => ?_)
      have h := Option.some.inj h
      have h1 := h
      exact d_lret E hr hw h1 rfl dX2_two_41
    · have h := qi_f c h
      have n6 := qne32 c
      by_cases c : x0 = (7:Int32)
      · have h := qi_t c h
        refine lv_tableIn (tgt := 42) (off := 41) hx hb dX2_two_1 (by rw [c]; decide) (by rw [c]; decide) (by rw [c]; rfl) (by decide) ?_
        refine lv_lload_n hx hb dX2_two_42 rfl (lv_at hl 1 rfl) ?_
        refine lv_lload_n hx hb dX2_two_43 rfl (lv_at hl 2 rfl) ?_
        refine lv_lmul hx hb dX2_two_44 ?_
        obtain ⟨u5, g6, h⟩ := qb1_s h
        refine d_S (As := [.long (x1 * x3)]) (v0 := some (.long u5)) (w0 := (A, B, L, rs)) hG E hw hl (m_X2_clip l hG hM  g6) (va_cwS 1 hts (lw_S q1790 q1791 q140 q1792) rfl rfl rfl kd_X2_clip ⟨Nat.le_of_ble_eq_true rfl, Nat.le_of_ble_eq_true rfl⟩) rfl (rest := []) (st1 := [.long u5]) rfl rfl rfl dX2_two_45 ⟨Nat.le_of_ble_eq_true rfl, Nat.le_of_ble_eq_true rfl⟩ (fun H locs hw => ?_)
        have h := Option.some.inj h
        have h1 := h
        exact d_lret E hr hw h1 rfl dX2_two_48
      · have h := qi_f c h
        have n7 := qne32 c
        refine lv_tableOut (tgt := 49) hx hb dX2_two_1 (by have m5 : (x0).toInt ≠ 5 := n5; have m6 : (x0).toInt ≠ 6 := n6; have m7 : (x0).toInt ≠ 7 := n7; omega) (by decide) ?_
        refine lv_lload_n hx hb dX2_two_49 rfl (lv_at hl 2 rfl) ?_
        refine lv_lconst (v := (0:Int64)) hx hb dX2_two_50 (by decide) ?_
        refine W.lcmp hx hb dX2_two_51 ?_
        refine lv_if_ne (tgt := 59) hx hb dX2_two_52 (by decide) (fun c => ?_) (fun c => ?_)
        · have h := qi_f c h
          refine lv_lload_n hx hb dX2_two_59 rfl (lv_at hl 1 rfl) ?_
          refine lv_lload_n hx hb dX2_two_60 rfl (lv_at hl 2 rfl) ?_
          obtain ⟨z7, h⟩ := qif_s h
          refine lv_ldiv hx hb dX2_two_61 (of_decide_eq_true z7) ?_
          obtain ⟨u8, g9, h⟩ := qb1_s h
          refine d_S (As := [.long (x1 / x3)]) (v0 := some (.long u8)) (w0 := (A, B, L, rs)) hG E hw hl (m_X2_clip l hG hM  g9) (va_cwS 1 hts (lw_S q1790 q1791 q140 q1792) rfl rfl rfl kd_X2_clip ⟨Nat.le_of_ble_eq_true rfl, Nat.le_of_ble_eq_true rfl⟩) rfl (rest := []) (st1 := [.long u8]) rfl rfl rfl dX2_two_62 ⟨Nat.le_of_ble_eq_true rfl, Nat.le_of_ble_eq_true rfl⟩ (fun H locs hw => ?_)
          have h := Option.some.inj h
          have h1 := h
          exact d_lret E hr hw h1 rfl dX2_two_65
        · have h := qi_t c h
          refine lv_lconst (v := (0:Int64)) hx hb dX2_two_55 (by decide) ?_
          refine lv_goto (tgt := 65) hx hb dX2_two_56 (by decide) ?_
          have h := Option.some.inj h
          have h1 := h
          exact d_lret E hr hw h1 rfl dX2_two_65

theorem m_X2_two (l : Launch) {K : QK} {G : State → Prop} (hG : QG G) (hM : QMl K) {A : QA} {rs : QX × QM} {B : QA} {L : QL} {x0 : Int32} {x1 : Int64} {x3 : Int64} {ro : Int64} (h : f_X2_two x0 x1 x3 = some ro) : MC l K G yX2_two (ws_ yX2_two cX2_two 5 (some .long)) 2 61 0 0 [.int x0, .long x1, .long x3] (A, B, L, rs) (QR (some (.long ro)) (A, B, L, rs)) := by
  refine MC.of (by decide) (Nat.le_of_ble_eq_true rfl) (lv := [(0, .int x0), (1, .long x1), (3, .long x3)]) rfl (fun p e s m below meth c ls E hr hl hw => ?_)
  exact w_X2_two_0 hG hM E hr _ _ _  h hw hl

def f_X2_isAsked (x0 : Int32) (x1 : Int64) (x3 : Int64) : Option (Int32) :=
  if x0 = (10:Int32) then (
  if (0:Int32) ≤ (lg_cmp x1 x3) then (
  some ((0:Int32))) else (
  some ((1:Int32)))) else (
  if x0 = (11:Int32) then (
  if (0:Int32) < (lg_cmp x1 x3) then (
  some ((0:Int32))) else (
  some ((1:Int32)))) else (
  if x0 = (12:Int32) then (
  if (lg_cmp x1 x3) ≤ (0:Int32) then (
  some ((0:Int32))) else (
  some ((1:Int32)))) else (
  if x0 = (13:Int32) then (
  if (lg_cmp x1 x3) < (0:Int32) then (
  some ((0:Int32))) else (
  some ((1:Int32)))) else (
  if x0 = (14:Int32) then (
  if (lg_cmp x1 x3) = (0:Int32) then (
  some ((1:Int32))) else (
  some ((0:Int32)))) else (
  if (lg_cmp x1 x3) = (0:Int32) then (
  some ((0:Int32))) else (
  some ((1:Int32))))))))
set_option maxHeartbeats 4000000 in
theorem w_X2_isAsked_0 {p : Program} {l : Launch} {e : Env} {s : State} {m : MethodId} {args : Array Value} {below : List Frame} {meth : Method} {c : Code} {K : QK} {G : State → Prop} {A : QA} {rs : QX × QM} {B : QA} {L : QL} {ro : Int32} (hG : QG G) (hM : QMl K) (E : EV K G p s m args meth c cX2_isAsked "VaneCourtModel" 5) (hr : meth.sig.returnType = (some .boolean)) : ∀ (x0 : Int32) (x1 : Int64) (x3 : Int64) {H : Heap} {locs : List Loc} {ls : Array Slot}, f_X2_isAsked x0 x1 x3 = some ro → WP K (A, B, L, rs) H locs → lv_has ls 5 [(0, .int x0), (1, .long x1), (3, .long x3)] → W p l e (qrm 1 40 0 0) s m args below meth c H locs 0 0 (MQ below (QE K (QR (some (.int ro)) (A, B, L, rs))) args s 0 0 (qA K)) (F0 m 0 ls []) := by
  have hx := E.1
  have hb := E.2.1
  have hown := E.2.2.1
  have hts := E.2.2.2.2.1
  intro x0 x1 x3 H locs ls  h hw hl
  rw [f_X2_isAsked] at h
  refine lv_iload_n hx hb dX2_isAsked_0 rfl (lv_at hl 0 rfl) ?_
  refine lv_bipush (v := (10:Int32)) hx hb dX2_isAsked_1 (by decide) ?_
  refine lv_icmp_ne (tgt := 20) hx hb dX2_isAsked_3 (by decide) (fun c => ?_) (fun c => ?_)
  · have h := qi_f c h
    refine lv_iload_n hx hb dX2_isAsked_20 rfl (lv_at hl 0 rfl) ?_
    refine lv_bipush (v := (11:Int32)) hx hb dX2_isAsked_21 (by decide) ?_
    refine lv_icmp_ne (tgt := 40) hx hb dX2_isAsked_23 (by decide) (fun c => ?_) (fun c => ?_)
    · have h := qi_f c h
      refine lv_iload_n hx hb dX2_isAsked_40 rfl (lv_at hl 0 rfl) ?_
      refine lv_bipush (v := (12:Int32)) hx hb dX2_isAsked_41 (by decide) ?_
      refine lv_icmp_ne (tgt := 60) hx hb dX2_isAsked_43 (by decide) (fun c => ?_) (fun c => ?_)
      · have h := qi_f c h
        refine lv_iload_n hx hb dX2_isAsked_60 rfl (lv_at hl 0 rfl) ?_
        refine lv_bipush (v := (13:Int32)) hx hb dX2_isAsked_61 (by decide) ?_
        refine lv_icmp_ne (tgt := 80) hx hb dX2_isAsked_63 (by decide) (fun c => ?_) (fun c => ?_)
        · have h := qi_f c h
          refine lv_iload_n hx hb dX2_isAsked_80 rfl (lv_at hl 0 rfl) ?_
          refine lv_bipush (v := (14:Int32)) hx hb dX2_isAsked_81 (by decide) ?_
          refine lv_icmp_ne (tgt := 100) hx hb dX2_isAsked_83 (by decide) (fun c => ?_) (fun c => ?_)
          · have h := qi_f c h
            refine lv_lload_n hx hb dX2_isAsked_100 rfl (lv_at hl 1 rfl) ?_
            refine lv_lload_n hx hb dX2_isAsked_101 rfl (lv_at hl 2 rfl) ?_
            refine W.lcmp hx hb dX2_isAsked_102 ?_
            refine lv_if_eq (tgt := 110) hx hb dX2_isAsked_103 (by decide) (fun c => ?_) (fun c => ?_)
            · have h := qi_t c h
              refine lv_iconst (v := (0:Int32)) hx hb dX2_isAsked_110 (by decide) ?_
              have h := Option.some.inj h
              have h1 := h
              exact d_iret E hr rfl hw h1 rfl dX2_isAsked_111
            · have h := qi_f c h
              refine lv_iconst (v := (1:Int32)) hx hb dX2_isAsked_106 (by decide) ?_
              refine lv_goto (tgt := 111) hx hb dX2_isAsked_107 (by decide) ?_
              have h := Option.some.inj h
              have h1 := h
              exact d_iret E hr rfl hw h1 rfl dX2_isAsked_111
          · have h := qi_t c h
            refine lv_lload_n hx hb dX2_isAsked_86 rfl (lv_at hl 1 rfl) ?_
            refine lv_lload_n hx hb dX2_isAsked_87 rfl (lv_at hl 2 rfl) ?_
            refine W.lcmp hx hb dX2_isAsked_88 ?_
            refine lv_if_ne (tgt := 96) hx hb dX2_isAsked_89 (by decide) (fun c => ?_) (fun c => ?_)
            · have h := qi_f c h
              refine lv_iconst (v := (0:Int32)) hx hb dX2_isAsked_96 (by decide) ?_
              refine lv_goto (tgt := 111) hx hb dX2_isAsked_97 (by decide) ?_
              have h := Option.some.inj h
              have h1 := h
              exact d_iret E hr rfl hw h1 rfl dX2_isAsked_111
            · have h := qi_t c h
              refine lv_iconst (v := (1:Int32)) hx hb dX2_isAsked_92 (by decide) ?_
              refine lv_goto (tgt := 111) hx hb dX2_isAsked_93 (by decide) ?_
              have h := Option.some.inj h
              have h1 := h
              exact d_iret E hr rfl hw h1 rfl dX2_isAsked_111
        · have h := qi_t c h
          refine lv_lload_n hx hb dX2_isAsked_66 rfl (lv_at hl 1 rfl) ?_
          refine lv_lload_n hx hb dX2_isAsked_67 rfl (lv_at hl 2 rfl) ?_
          refine W.lcmp hx hb dX2_isAsked_68 ?_
          refine lv_if_lt (tgt := 76) hx hb dX2_isAsked_69 (by decide) (fun c => ?_) (fun c => ?_)
          · have h := qi_t c h
            refine lv_iconst (v := (0:Int32)) hx hb dX2_isAsked_76 (by decide) ?_
            refine lv_goto (tgt := 111) hx hb dX2_isAsked_77 (by decide) ?_
            have h := Option.some.inj h
            have h1 := h
            exact d_iret E hr rfl hw h1 rfl dX2_isAsked_111
          · have h := qi_f c h
            refine lv_iconst (v := (1:Int32)) hx hb dX2_isAsked_72 (by decide) ?_
            refine lv_goto (tgt := 111) hx hb dX2_isAsked_73 (by decide) ?_
            have h := Option.some.inj h
            have h1 := h
            exact d_iret E hr rfl hw h1 rfl dX2_isAsked_111
      · have h := qi_t c h
        refine lv_lload_n hx hb dX2_isAsked_46 rfl (lv_at hl 1 rfl) ?_
        refine lv_lload_n hx hb dX2_isAsked_47 rfl (lv_at hl 2 rfl) ?_
        refine W.lcmp hx hb dX2_isAsked_48 ?_
        refine lv_if_le (tgt := 56) hx hb dX2_isAsked_49 (by decide) (fun c => ?_) (fun c => ?_)
        · have h := qi_t c h
          refine lv_iconst (v := (0:Int32)) hx hb dX2_isAsked_56 (by decide) ?_
          refine lv_goto (tgt := 111) hx hb dX2_isAsked_57 (by decide) ?_
          have h := Option.some.inj h
          have h1 := h
          exact d_iret E hr rfl hw h1 rfl dX2_isAsked_111
        · have h := qi_f c h
          refine lv_iconst (v := (1:Int32)) hx hb dX2_isAsked_52 (by decide) ?_
          refine lv_goto (tgt := 111) hx hb dX2_isAsked_53 (by decide) ?_
          have h := Option.some.inj h
          have h1 := h
          exact d_iret E hr rfl hw h1 rfl dX2_isAsked_111
    · have h := qi_t c h
      refine lv_lload_n hx hb dX2_isAsked_26 rfl (lv_at hl 1 rfl) ?_
      refine lv_lload_n hx hb dX2_isAsked_27 rfl (lv_at hl 2 rfl) ?_
      refine W.lcmp hx hb dX2_isAsked_28 ?_
      refine lv_if_gt (tgt := 36) hx hb dX2_isAsked_29 (by decide) (fun c => ?_) (fun c => ?_)
      · have h := qi_t c h
        refine lv_iconst (v := (0:Int32)) hx hb dX2_isAsked_36 (by decide) ?_
        refine lv_goto (tgt := 111) hx hb dX2_isAsked_37 (by decide) ?_
        have h := Option.some.inj h
        have h1 := h
        exact d_iret E hr rfl hw h1 rfl dX2_isAsked_111
      · have h := qi_f c h
        refine lv_iconst (v := (1:Int32)) hx hb dX2_isAsked_32 (by decide) ?_
        refine lv_goto (tgt := 111) hx hb dX2_isAsked_33 (by decide) ?_
        have h := Option.some.inj h
        have h1 := h
        exact d_iret E hr rfl hw h1 rfl dX2_isAsked_111
  · have h := qi_t c h
    refine lv_lload_n hx hb dX2_isAsked_6 rfl (lv_at hl 1 rfl) ?_
    refine lv_lload_n hx hb dX2_isAsked_7 rfl (lv_at hl 2 rfl) ?_
    refine W.lcmp hx hb dX2_isAsked_8 ?_
    refine lv_if_ge (tgt := 16) hx hb dX2_isAsked_9 (by decide) (fun c => ?_) (fun c => ?_)
    · have h := qi_t c h
      refine lv_iconst (v := (0:Int32)) hx hb dX2_isAsked_16 (by decide) ?_
      refine lv_goto (tgt := 111) hx hb dX2_isAsked_17 (by decide) ?_
      have h := Option.some.inj h
      have h1 := h
      exact d_iret E hr rfl hw h1 rfl dX2_isAsked_111
    · have h := qi_f c h
      refine lv_iconst (v := (1:Int32)) hx hb dX2_isAsked_12 (by decide) ?_
      refine lv_goto (tgt := 111) hx hb dX2_isAsked_13 (by decide) ?_
      have h := Option.some.inj h
      have h1 := h
      exact d_iret E hr rfl hw h1 rfl dX2_isAsked_111

theorem m_X2_isAsked (l : Launch) {K : QK} {G : State → Prop} (hG : QG G) (hM : QMl K) {A : QA} {rs : QX × QM} {B : QA} {L : QL} {x0 : Int32} {x1 : Int64} {x3 : Int64} {ro : Int32} (h : f_X2_isAsked x0 x1 x3 = some ro) : MC l K G yX2_isAsked (ws_ yX2_isAsked cX2_isAsked 5 (some .boolean)) 1 40 0 0 [.int x0, .long x1, .long x3] (A, B, L, rs) (QR (some (.int ro)) (A, B, L, rs)) := by
  refine MC.of (by decide) (Nat.le_of_ble_eq_true rfl) (lv := [(0, .int x0), (1, .long x1), (3, .long x3)]) rfl (fun p e s m below meth c ls E hr hl hw => ?_)
  exact w_X2_isAsked_0 hG hM E hr _ _ _  h hw hl

def f_X2_joined (x0 : Int32) (x1 : Int32) (x2 : Int32) : Option (Int32) :=
  if x0 = (21:Int32) then (
  if x1 = (0:Int32) then (
  some ((0:Int32))) else (
  if x2 = (0:Int32) then (
  some ((0:Int32))) else (
  some ((1:Int32))))) else (
  if x0 = (22:Int32) then (
  if x1 = (0:Int32) then (
  if x2 = (0:Int32) then (
  some ((0:Int32))) else (
  some ((1:Int32)))) else (
  some ((1:Int32)))) else (
  if x1 = (0:Int32) then (
  some ((0:Int32))) else (
  if x2 = (0:Int32) then (
  some ((1:Int32))) else (
  some ((0:Int32))))))
set_option maxHeartbeats 4000000 in
theorem w_X2_joined_0 {p : Program} {l : Launch} {e : Env} {s : State} {m : MethodId} {args : Array Value} {below : List Frame} {meth : Method} {c : Code} {K : QK} {G : State → Prop} {A : QA} {rs : QX × QM} {B : QA} {L : QL} {ro : Int32} (hG : QG G) (hM : QMl K) (E : EV K G p s m args meth c cX2_joined "VaneCourtModel" 3) (hr : meth.sig.returnType = (some .boolean)) : ∀ (x0 : Int32) (x1 : Int32) (x2 : Int32) {H : Heap} {locs : List Loc} {ls : Array Slot}, f_X2_joined x0 x1 x2 = some ro → WP K (A, B, L, rs) H locs → lv_has ls 3 [(0, .int x0), (1, .int x1), (2, .int x2)] → W p l e (qrm 1 40 0 0) s m args below meth c H locs 0 0 (MQ below (QE K (QR (some (.int ro)) (A, B, L, rs))) args s 0 0 (qA K)) (F0 m 0 ls []) := by
  have hx := E.1
  have hb := E.2.1
  have hown := E.2.2.1
  have hts := E.2.2.2.2.1
  intro x0 x1 x2 H locs ls  h hw hl
  rw [f_X2_joined] at h
  refine lv_iload_n hx hb dX2_joined_0 rfl (lv_at hl 0 rfl) ?_
  refine lv_bipush (v := (21:Int32)) hx hb dX2_joined_1 (by decide) ?_
  refine lv_icmp_ne (tgt := 22) hx hb dX2_joined_3 (by decide) (fun c => ?_) (fun c => ?_)
  · have h := qi_f c h
    refine lv_iload_n hx hb dX2_joined_22 rfl (lv_at hl 0 rfl) ?_
    refine lv_bipush (v := (22:Int32)) hx hb dX2_joined_23 (by decide) ?_
    refine lv_icmp_ne (tgt := 44) hx hb dX2_joined_25 (by decide) (fun c => ?_) (fun c => ?_)
    · have h := qi_f c h
      refine lv_iload_n hx hb dX2_joined_44 rfl (lv_at hl 1 rfl) ?_
      refine lv_if_eq (tgt := 56) hx hb dX2_joined_45 (by decide) (fun c => ?_) (fun c => ?_)
      · have h := qi_t c h
        refine lv_iconst (v := (0:Int32)) hx hb dX2_joined_56 (by decide) ?_
        have h := Option.some.inj h
        have h1 := h
        exact d_iret E hr rfl hw h1 rfl dX2_joined_57
      · have h := qi_f c h
        refine lv_iload_n hx hb dX2_joined_48 rfl (lv_at hl 2 rfl) ?_
        refine lv_if_ne (tgt := 56) hx hb dX2_joined_49 (by decide) (fun c => ?_) (fun c => ?_)
        · have h := qi_f c h
          refine lv_iconst (v := (0:Int32)) hx hb dX2_joined_56 (by decide) ?_
          have h := Option.some.inj h
          have h1 := h
          exact d_iret E hr rfl hw h1 rfl dX2_joined_57
        · have h := qi_t c h
          refine lv_iconst (v := (1:Int32)) hx hb dX2_joined_52 (by decide) ?_
          refine lv_goto (tgt := 57) hx hb dX2_joined_53 (by decide) ?_
          have h := Option.some.inj h
          have h1 := h
          exact d_iret E hr rfl hw h1 rfl dX2_joined_57
    · have h := qi_t c h
      refine lv_iload_n hx hb dX2_joined_28 rfl (lv_at hl 1 rfl) ?_
      refine lv_if_ne (tgt := 36) hx hb dX2_joined_29 (by decide) (fun c => ?_) (fun c => ?_)
      · have h := qi_f c h
        refine lv_iconst (v := (1:Int32)) hx hb dX2_joined_36 (by decide) ?_
        refine lv_goto (tgt := 57) hx hb dX2_joined_37 (by decide) ?_
        have h := Option.some.inj h
        have h1 := h
        exact d_iret E hr rfl hw h1 rfl dX2_joined_57
      · have h := qi_t c h
        refine lv_iload_n hx hb dX2_joined_32 rfl (lv_at hl 2 rfl) ?_
        refine lv_if_eq (tgt := 40) hx hb dX2_joined_33 (by decide) (fun c => ?_) (fun c => ?_)
        · have h := qi_t c h
          refine lv_iconst (v := (0:Int32)) hx hb dX2_joined_40 (by decide) ?_
          refine lv_goto (tgt := 57) hx hb dX2_joined_41 (by decide) ?_
          have h := Option.some.inj h
          have h1 := h
          exact d_iret E hr rfl hw h1 rfl dX2_joined_57
        · have h := qi_f c h
          refine lv_iconst (v := (1:Int32)) hx hb dX2_joined_36 (by decide) ?_
          refine lv_goto (tgt := 57) hx hb dX2_joined_37 (by decide) ?_
          have h := Option.some.inj h
          have h1 := h
          exact d_iret E hr rfl hw h1 rfl dX2_joined_57
  · have h := qi_t c h
    refine lv_iload_n hx hb dX2_joined_6 rfl (lv_at hl 1 rfl) ?_
    refine lv_if_eq (tgt := 18) hx hb dX2_joined_7 (by decide) (fun c => ?_) (fun c => ?_)
    · have h := qi_t c h
      refine lv_iconst (v := (0:Int32)) hx hb dX2_joined_18 (by decide) ?_
      refine lv_goto (tgt := 57) hx hb dX2_joined_19 (by decide) ?_
      have h := Option.some.inj h
      have h1 := h
      exact d_iret E hr rfl hw h1 rfl dX2_joined_57
    · have h := qi_f c h
      refine lv_iload_n hx hb dX2_joined_10 rfl (lv_at hl 2 rfl) ?_
      refine lv_if_eq (tgt := 18) hx hb dX2_joined_11 (by decide) (fun c => ?_) (fun c => ?_)
      · have h := qi_t c h
        refine lv_iconst (v := (0:Int32)) hx hb dX2_joined_18 (by decide) ?_
        refine lv_goto (tgt := 57) hx hb dX2_joined_19 (by decide) ?_
        have h := Option.some.inj h
        have h1 := h
        exact d_iret E hr rfl hw h1 rfl dX2_joined_57
      · have h := qi_f c h
        refine lv_iconst (v := (1:Int32)) hx hb dX2_joined_14 (by decide) ?_
        refine lv_goto (tgt := 57) hx hb dX2_joined_15 (by decide) ?_
        have h := Option.some.inj h
        have h1 := h
        exact d_iret E hr rfl hw h1 rfl dX2_joined_57

theorem m_X2_joined (l : Launch) {K : QK} {G : State → Prop} (hG : QG G) (hM : QMl K) {A : QA} {rs : QX × QM} {B : QA} {L : QL} {x0 : Int32} {x1 : Int32} {x2 : Int32} {ro : Int32} (h : f_X2_joined x0 x1 x2 = some ro) : MC l K G yX2_joined (ws_ yX2_joined cX2_joined 3 (some .boolean)) 1 40 0 0 [.int x0, .int x1, .int x2] (A, B, L, rs) (QR (some (.int ro)) (A, B, L, rs)) := by
  refine MC.of (by decide) (Nat.le_of_ble_eq_true rfl) (lv := [(0, .int x0), (1, .int x1), (2, .int x2)]) rfl (fun p e s m below meth c ls E hr hl hw => ?_)
  exact w_X2_joined_0 hG hM E hr _ _ _  h hw hl

def f_X2_work_139 (k38 : (Int32 → Int32 → Int32 → Int32 → Int32 → QA → QL → Option (QA × QL))) (x3 : Int32) (x4 : Int32) (x5 : Int32) (x7 : Int32) (x8 : Int32) (x9 : Int32) (s0 : Int32) (s1 : Int32) (B : QA) (L : QL) : Option (QA × QL) :=
  qlet (s0 - s1) fun x6_62 =>
  if x8 = (2:Int32) then (
  qb1 (f_X2_has (B 1000 26) x9) fun u73 =>
  qif (qok x6_62 330) <|
  qlet (qu B 1009 x6_62.toNatClampNeg (u73 &&& 1)) fun B76 =>
  qlet (x6_62 + (1:Int32)) fun x6_78 =>
  qlet (x7 + (1:Int32)) fun x7_80 =>
  k38 x3 x4 x5 x6_78 x7_80 B76 L) else (
  qb1 (f_X2_areMost x6_62 x9 B) fun u64 =>
  qif (qok x6_62 330) <|
  qlet (qu B 1009 x6_62.toNatClampNeg (u64 &&& 1)) fun B67 =>
  qlet (x6_62 + (1:Int32)) fun x6_69 =>
  qlet (x7 + (1:Int32)) fun x7_71 =>
  k38 x3 x4 x5 x6_69 x7_71 B67 L)
set_option maxHeartbeats 4000000 in
theorem w_X2_work_139 {p : Program} {l : Launch} {e : Env} {s : State} {m : MethodId} {args : Array Value} {below : List Frame} {meth : Method} {c : Code} {K : QK} {G : State → Prop} {A : QA} {rs : QX × QM} {Bo : QA} {Lo : QL} (hG : QG G) (hM : QMl K) (E : EV K G p s m args meth c cX2_work "VaneCourtModel" 10) (hr : meth.sig.returnType = none) {k38 : (Int32 → Int32 → Int32 → Int32 → Int32 → QA → QL → Option (QA × QL))} (hk38 : ∀ (x3 : Int32) (x4 : Int32) (x5 : Int32) (x6 : Int32) (x7 : Int32) (B : QA) (L : QL) {H : Heap} {locs : List Loc} {ls : Array Slot}, k38 x3 x4 x5 x6 x7 B L = some (Bo, Lo) → WP K (A, B, L, rs) H locs → lv_has ls 10 [(0, .ref (K.2.1 1000)), (3, .int x3), (4, .int x4), (5, .int x5), (6, .int x6), (7, .int x7)] → W p l e (qrm 3 85 0 0) s m args below meth c H locs 0 0 (MQ below (QE K (QR none (A, Bo, Lo, rs))) args s 0 0 (qA K)) (F0 m 38 ls [])) : ∀ (x3 : Int32) (x4 : Int32) (x5 : Int32) (x7 : Int32) (x8 : Int32) (x9 : Int32) (s0 : Int32) (s1 : Int32) (B : QA) (L : QL) {H : Heap} {locs : List Loc} {ls : Array Slot}, f_X2_work_139 k38 x3 x4 x5 x7 x8 x9 s0 s1 B L = some (Bo, Lo) → WP K (A, B, L, rs) H locs → lv_has ls 10 [(0, .ref (K.2.1 1000)), (3, .int x3), (4, .int x4), (5, .int x5), (7, .int x7), (8, .int x8), (9, .int x9)] → W p l e (qrm 3 85 0 0) s m args below meth c H locs 0 0 (MQ below (QE K (QR none (A, Bo, Lo, rs))) args s 0 0 (qA K)) (F0 m 139 ls [.int s1, .int s0]) := by
  have hx := E.1
  have hb := E.2.1
  have hown := E.2.2.1
  have hts := E.2.2.2.2.1
  intro x3 x4 x5 x7 x8 x9 s0 s1 B L H locs ls  h hw hl
  rw [f_X2_work_139] at h
  refine lv_isub hx hb dX2_work_139 ?_
  obtain ⟨x6_62, e63, h⟩ := qlet_s h
  refine r_nm e63 ?_
  refine lv_istore (lv' := [(6, .int x6_62), (0, .ref (K.2.1 1000)), (3, .int x3), (4, .int x4), (5, .int x5), (7, .int x7), (8, .int x8), (9, .int x9)]) hx hb dX2_work_140 hl (by decide) rfl (fun ls hl => ?_)
  refine lv_aload_n hx hb dX2_work_142 rfl (lv_at hl 1 rfl) ?_
  refine r_getM (v := .ref (K.2.1 1009)) E hw hM 28 (by decide) q1381 rfl dX2_work_143 ?_
  refine lv_iload hx hb dX2_work_146 (lv_at hl 0 rfl) ?_
  refine lv_iload hx hb dX2_work_148 (lv_at hl 6 rfl) ?_
  refine lv_iconst (v := (2:Int32)) hx hb dX2_work_150 (by decide) ?_
  refine lv_icmp_ne (tgt := 166) hx hb dX2_work_151 (by decide) (fun c => ?_) (fun c => ?_)
  · have h := qi_f c h
    refine lv_aload_n hx hb dX2_work_166 rfl (lv_at hl 1 rfl) ?_
    refine lv_iload hx hb dX2_work_167 (lv_at hl 0 rfl) ?_
    refine lv_iload hx hb dX2_work_169 (lv_at hl 7 rfl) ?_
    obtain ⟨u64, g65, h⟩ := qb1_s h
    refine d_V (As := [.int x6_62, .int x9]) (v0 := some (.int u64)) (w0 := (A, B, L, rs)) hG E hw hl (m_X2_areMost l hG hM  g65) (qM0 hM) rfl (cwV 2 hts (lw_V q1783 q1785 qs113 q140 q1786) rfl rfl rfl ⟨rfl, kd_X2_areMost⟩ ⟨Nat.le_of_ble_eq_true rfl, Nat.le_of_ble_eq_true rfl⟩) rfl (rest := [.int x6_62, .ref (K.2.1 1009)]) (st1 := [.int u64, .int x6_62, .ref (K.2.1 1009)]) rfl rfl rfl dX2_work_171 ⟨Nat.le_of_ble_eq_true rfl, Nat.le_of_ble_eq_true rfl⟩ (fun H locs hw => ?_)
    obtain ⟨z66, h⟩ := qif_s h
    obtain ⟨B67, e68, h⟩ := qlet_s h
    refine r_bastZ (j := x6_62.toNatClampNeg) E hw hM (qok_in z66) rfl dX2_work_174 (fun H locs hw => ?_)
    rw [← e68] at hw
    obtain ⟨x6_69, e70, h⟩ := qlet_s h
    refine lv_iinc (v := x6_69) (lv' := [(6, .int x6_69), (0, .ref (K.2.1 1000)), (3, .int x3), (4, .int x4), (5, .int x5), (7, .int x7), (8, .int x8), (9, .int x9)]) (k := 0) hx hb dX2_work_175 hl rfl (by rw [e70]; rfl) (by decide) rfl (fun ls hl => ?_)
    refine lv_goto (tgt := 365) hx hb dX2_work_178 (by decide) ?_
    obtain ⟨x7_71, e72, h⟩ := qlet_s h
    refine lv_iinc (v := x7_71) (lv' := [(7, .int x7_71), (6, .int x6_69), (0, .ref (K.2.1 1000)), (3, .int x3), (4, .int x4), (5, .int x5), (8, .int x8), (9, .int x9)]) (k := 5) hx hb dX2_work_365 hl rfl (by rw [e72]; rfl) (by decide) rfl (fun ls hl => ?_)
    refine lv_goto (tgt := 38) hx hb dX2_work_368 (by decide) ?_
    exact hk38 _ _ _ _ _ _ _  h hw (lv_sub hl [2, 3, 4, 5, 1, 0] rfl)
  · have h := qi_t c h
    refine lv_aload_n hx hb dX2_work_154 rfl (lv_at hl 1 rfl) ?_
    refine r_getM (v := .int (B 1000 26)) E hw hM 26 (by decide) q1379 rfl dX2_work_155 ?_
    refine lv_iload hx hb dX2_work_158 (lv_at hl 7 rfl) ?_
    obtain ⟨u73, g74, h⟩ := qb1_s h
    refine d_S (As := [.int (B 1000 26), .int x9]) (v0 := some (.int u73)) (w0 := (A, B, L, rs)) hG E hw hl (m_X2_has l hG hM  g74) (va_cwS 2 hts (lw_S q1565 q1566 q140 q1567) rfl rfl rfl kd_X2_has ⟨Nat.le_of_ble_eq_true rfl, Nat.le_of_ble_eq_true rfl⟩) rfl (rest := [.int x6_62, .ref (K.2.1 1009)]) (st1 := [.int u73, .int x6_62, .ref (K.2.1 1009)]) rfl rfl rfl dX2_work_160 ⟨Nat.le_of_ble_eq_true rfl, Nat.le_of_ble_eq_true rfl⟩ (fun H locs hw => ?_)
    refine lv_goto (tgt := 174) hx hb dX2_work_163 (by decide) ?_
    obtain ⟨z75, h⟩ := qif_s h
    obtain ⟨B76, e77, h⟩ := qlet_s h
    refine r_bastZ (j := x6_62.toNatClampNeg) E hw hM (qok_in z75) rfl dX2_work_174 (fun H locs hw => ?_)
    rw [← e77] at hw
    obtain ⟨x6_78, e79, h⟩ := qlet_s h
    refine lv_iinc (v := x6_78) (lv' := [(6, .int x6_78), (0, .ref (K.2.1 1000)), (3, .int x3), (4, .int x4), (5, .int x5), (7, .int x7), (8, .int x8), (9, .int x9)]) (k := 0) hx hb dX2_work_175 hl rfl (by rw [e79]; rfl) (by decide) rfl (fun ls hl => ?_)
    refine lv_goto (tgt := 365) hx hb dX2_work_178 (by decide) ?_
    obtain ⟨x7_80, e81, h⟩ := qlet_s h
    refine lv_iinc (v := x7_80) (lv' := [(7, .int x7_80), (6, .int x6_78), (0, .ref (K.2.1 1000)), (3, .int x3), (4, .int x4), (5, .int x5), (8, .int x8), (9, .int x9)]) (k := 5) hx hb dX2_work_365 hl rfl (by rw [e81]; rfl) (by decide) rfl (fun ls hl => ?_)
    refine lv_goto (tgt := 38) hx hb dX2_work_368 (by decide) ?_
    exact hk38 _ _ _ _ _ _ _  h hw (lv_sub hl [2, 3, 4, 5, 1, 0] rfl)

def f_X2_work_38 : Nat → Int32 → Int32 → Int32 → Int32 → Int32 → QA → QL → Option (QA × QL)
  | 0, _, _, _, _, _, _, _ => none
  | n + 1, x3, x4, x5, x6, x7, B, L => qif (qok (x3 + (2:Int32)) 2820) <|
  if (B 1003 (x3 + (2:Int32)).toNatClampNeg) ≤ x7 then (
  some (B, L)) else (
  qif (qok (x4 + ((2:Int32) * x7)) 2820) <|
  qlet (B 1003 (x4 + ((2:Int32) * x7)).toNatClampNeg) fun x8_10 =>
  qif (qok ((x4 + ((2:Int32) * x7)) + (1:Int32)) 2820) <|
  qlet (B 1003 ((x4 + ((2:Int32) * x7)) + (1:Int32)).toNatClampNeg) fun x9_13 =>
  if (1:Int32) < x8_10 then (
  if (3:Int32) < x8_10 then (
  if x8_10 = (4:Int32) then (
  qif (qok (x5 - (1:Int32)) 330) <|
  qlet (qu L 1008 (x5 - (1:Int32)).toNatClampNeg (-(L 1008 (x5 - (1:Int32)).toNatClampNeg))) fun L58 =>
  qlet (x7 + (1:Int32)) fun x7_60 =>
  f_X2_work_38 n x3 x4 x5 x6 x7_60 B L58) else (
  if (10:Int32) ≤ x8_10 then (
  if (20:Int32) ≤ x8_10 then (
  if x8_10 = (20:Int32) then (
  qif (qok (x6 - (1:Int32)) 330) <|
  if (B 1009 (x6 - (1:Int32)).toNatClampNeg) = (0:Int32) then (
  qlet (qu B 1009 (x6 - (1:Int32)).toNatClampNeg ((1:Int32) &&& 1)) fun B30 =>
  qlet (x7 + (1:Int32)) fun x7_32 =>
  f_X2_work_38 n x3 x4 x5 x6 x7_32 B30 L) else (
  qlet (qu B 1009 (x6 - (1:Int32)).toNatClampNeg ((0:Int32) &&& 1)) fun B26 =>
  qlet (x7 + (1:Int32)) fun x7_28 =>
  f_X2_work_38 n x3 x4 x5 x6 x7_28 B26 L)) else (
  qlet (x6 + (-1:Int32)) fun x6_15 =>
  qif (qok (x6_15 - (1:Int32)) 330) <|
  qif (qok x6_15 330) <|
  qb1 (f_X2_joined x8_10 (B 1009 (x6_15 - (1:Int32)).toNatClampNeg) (B 1009 x6_15.toNatClampNeg)) fun u19 =>
  qlet (qu B 1009 (x6_15 - (1:Int32)).toNatClampNeg (u19 &&& 1)) fun B21 =>
  qlet (x7 + (1:Int32)) fun x7_23 =>
  f_X2_work_38 n x3 x4 x5 x6_15 x7_23 B21 L)) else (
  qlet (x5 + (-2:Int32)) fun x5_34 =>
  qif (qok x5_34 330) <|
  qif (qok (x5_34 + (1:Int32)) 330) <|
  qb1 (f_X2_isAsked x8_10 (L 1008 x5_34.toNatClampNeg) (L 1008 (x5_34 + (1:Int32)).toNatClampNeg)) fun u38 =>
  qif (qok x6 330) <|
  qlet (qu B 1009 x6.toNatClampNeg (u38 &&& 1)) fun B41 =>
  qlet (x6 + (1:Int32)) fun x6_43 =>
  qlet (x7 + (1:Int32)) fun x7_45 =>
  f_X2_work_38 n x3 x4 x5_34 x6_43 x7_45 B41 L)) else (
  qlet (x5 + (-1:Int32)) fun x5_47 =>
  qif (qok (x5_47 - (1:Int32)) 330) <|
  qif (qok x5_47 330) <|
  qb1 (f_X2_two x8_10 (L 1008 (x5_47 - (1:Int32)).toNatClampNeg) (L 1008 x5_47.toNatClampNeg)) fun u51 =>
  qlet (qu L 1008 (x5_47 - (1:Int32)).toNatClampNeg u51) fun L53 =>
  qlet (x7 + (1:Int32)) fun x7_55 =>
  f_X2_work_38 n x3 x4 x5_47 x6 x7_55 B L53))) else (
  if x8_10 = (3:Int32) then (
  f_X2_work_139 (fun x3' x4' x5' x6' x7' B' L' => f_X2_work_38 n x3' x4' x5' x6' x7' B' L') x3 x4 x5 x7 x8_10 x9_13 x6 x9_13 B L) else (
  f_X2_work_139 (fun x3' x4' x5' x6' x7' B' L' => f_X2_work_38 n x3' x4' x5' x6' x7' B' L') x3 x4 x5 x7 x8_10 x9_13 x6 (0:Int32) B L))) else (
  if x8_10 = (0:Int32) then (
  qif (qok x5 330) <|
  qlet (qu L 1008 x5.toNatClampNeg (x9_13).toInt64) fun L91 =>
  qlet (x5 + (1:Int32)) fun x5_93 =>
  qlet (x7 + (1:Int32)) fun x7_95 =>
  f_X2_work_38 n x3 x4 x5_93 x6 x7_95 B L91) else (
  qif (qok x9_13 8) <|
  qif (qok x5 330) <|
  qlet (qu L 1008 x5.toNatClampNeg ((B 1007 x9_13.toNatClampNeg)).toInt64) fun L84 =>
  qlet (x5 + (1:Int32)) fun x5_86 =>
  qlet (x7 + (1:Int32)) fun x7_88 =>
  f_X2_work_38 n x3 x4 x5_86 x6 x7_88 B L84)))
set_option maxHeartbeats 4000000 in
theorem w_X2_work_38 {p : Program} {l : Launch} {e : Env} {s : State} {m : MethodId} {args : Array Value} {below : List Frame} {meth : Method} {c : Code} {K : QK} {G : State → Prop} {A : QA} {rs : QX × QM} {Bo : QA} {Lo : QL} (hG : QG G) (hM : QMl K) (E : EV K G p s m args meth c cX2_work "VaneCourtModel" 10) (hr : meth.sig.returnType = none) : ∀ (n : Nat) (x3 : Int32) (x4 : Int32) (x5 : Int32) (x6 : Int32) (x7 : Int32) (B : QA) (L : QL) {H : Heap} {locs : List Loc} {ls : Array Slot}, f_X2_work_38 n x3 x4 x5 x6 x7 B L = some (Bo, Lo) → WP K (A, B, L, rs) H locs → lv_has ls 10 [(0, .ref (K.2.1 1000)), (3, .int x3), (4, .int x4), (5, .int x5), (6, .int x6), (7, .int x7)] → W p l e (qrm 3 85 0 0) s m args below meth c H locs 0 0 (MQ below (QE K (QR none (A, Bo, Lo, rs))) args s 0 0 (qA K)) (F0 m 38 ls []) := by
  have hx := E.1
  have hb := E.2.1
  have hown := E.2.2.1
  have hts := E.2.2.2.2.1
  intro n
  induction n with
  | zero =>
    intro x3 x4 x5 x6 x7 B L H locs ls  h hw hl
    cases h
  | succ n ih =>
    intro x3 x4 x5 x6 x7 B L H locs ls  h hw hl
    rw [f_X2_work_38] at h
    refine lv_iload hx hb dX2_work_38 (lv_at hl 5 rfl) ?_
    refine lv_aload_n hx hb dX2_work_40 rfl (lv_at hl 0 rfl) ?_
    refine r_getM (v := .ref (K.2.1 1003)) E hw hM 2 (by decide) q1355 rfl dX2_work_41 ?_
    refine lv_iload_n hx hb dX2_work_44 rfl (lv_at hl 1 rfl) ?_
    refine lv_iconst (v := (2:Int32)) hx hb dX2_work_45 (by decide) ?_
    refine lv_iadd hx hb dX2_work_46 ?_
    obtain ⟨z8, h⟩ := qif_s h
    refine r_iald (j := (x3 + (2:Int32)).toNatClampNeg) E hw (qi_1003 hM).at (qok_in z8) rfl dX2_work_47 ?_
    refine lv_icmp_ge (tgt := 371) hx hb dX2_work_48 (by decide) (fun c => ?_) (fun c => ?_)
    · have h := qi_t c h
      have h := Option.some.inj h
      obtain ⟨h1, h2⟩ := Prod.mk.inj h
      exact d_ret E hr hw (by rw [h1, h2]) dX2_work_371
    · have h := qi_f c h
      refine lv_aload_n hx hb dX2_work_51 rfl (lv_at hl 0 rfl) ?_
      refine r_getM (v := .ref (K.2.1 1003)) E hw hM 2 (by decide) q1355 rfl dX2_work_52 ?_
      refine lv_iload hx hb dX2_work_55 (lv_at hl 2 rfl) ?_
      refine lv_iconst (v := (2:Int32)) hx hb dX2_work_57 (by decide) ?_
      refine lv_iload hx hb dX2_work_58 (lv_at hl 5 rfl) ?_
      refine lv_imul hx hb dX2_work_60 ?_
      refine lv_iadd hx hb dX2_work_61 ?_
      obtain ⟨z9, h⟩ := qif_s h
      refine r_iald (j := (x4 + ((2:Int32) * x7)).toNatClampNeg) E hw (qi_1003 hM).at (qok_in z9) rfl dX2_work_62 ?_
      obtain ⟨x8_10, e11, h⟩ := qlet_s h
      refine r_nm e11 ?_
      refine lv_istore (lv' := [(8, .int x8_10), (0, .ref (K.2.1 1000)), (3, .int x3), (4, .int x4), (5, .int x5), (6, .int x6), (7, .int x7)]) hx hb dX2_work_63 hl (by decide) rfl (fun ls hl => ?_)
      refine lv_aload_n hx hb dX2_work_65 rfl (lv_at hl 1 rfl) ?_
      refine r_getM (v := .ref (K.2.1 1003)) E hw hM 2 (by decide) q1355 rfl dX2_work_66 ?_
      refine lv_iload hx hb dX2_work_69 (lv_at hl 3 rfl) ?_
      refine lv_iconst (v := (2:Int32)) hx hb dX2_work_71 (by decide) ?_
      refine lv_iload hx hb dX2_work_72 (lv_at hl 6 rfl) ?_
      refine lv_imul hx hb dX2_work_74 ?_
      refine lv_iadd hx hb dX2_work_75 ?_
      refine lv_iconst (v := (1:Int32)) hx hb dX2_work_76 (by decide) ?_
      refine lv_iadd hx hb dX2_work_77 ?_
      obtain ⟨z12, h⟩ := qif_s h
      refine r_iald (j := ((x4 + ((2:Int32) * x7)) + (1:Int32)).toNatClampNeg) E hw (qi_1003 hM).at (qok_in z12) rfl dX2_work_78 ?_
      obtain ⟨x9_13, e14, h⟩ := qlet_s h
      refine r_nm e14 ?_
      refine lv_istore (lv' := [(9, .int x9_13), (8, .int x8_10), (0, .ref (K.2.1 1000)), (3, .int x3), (4, .int x4), (5, .int x5), (6, .int x6), (7, .int x7)]) hx hb dX2_work_79 hl (by decide) rfl (fun ls hl => ?_)
      refine lv_iload hx hb dX2_work_81 (lv_at hl 1 rfl) ?_
      refine lv_iconst (v := (1:Int32)) hx hb dX2_work_83 (by decide) ?_
      refine lv_icmp_gt (tgt := 119) hx hb dX2_work_84 (by decide) (fun c => ?_) (fun c => ?_)
      · have h := qi_t c h
        refine lv_iload hx hb dX2_work_119 (lv_at hl 1 rfl) ?_
        refine lv_iconst (v := (3:Int32)) hx hb dX2_work_121 (by decide) ?_
        refine lv_icmp_gt (tgt := 181) hx hb dX2_work_122 (by decide) (fun c => ?_) (fun c => ?_)
        · have h := qi_t c h
          refine lv_iload hx hb dX2_work_181 (lv_at hl 1 rfl) ?_
          refine lv_iconst (v := (4:Int32)) hx hb dX2_work_183 (by decide) ?_
          refine lv_icmp_ne (tgt := 209) hx hb dX2_work_184 (by decide) (fun c => ?_) (fun c => ?_)
          · have h := qi_f c h
            refine lv_iload hx hb dX2_work_209 (lv_at hl 1 rfl) ?_
            refine lv_bipush (v := (10:Int32)) hx hb dX2_work_211 (by decide) ?_
            refine lv_icmp_ge (tgt := 252) hx hb dX2_work_213 (by decide) (fun c => ?_) (fun c => ?_)
            · have h := qi_t c h
              refine lv_iload hx hb dX2_work_252 (lv_at hl 1 rfl) ?_
              refine lv_bipush (v := (20:Int32)) hx hb dX2_work_254 (by decide) ?_
              refine lv_icmp_ge (tgt := 296) hx hb dX2_work_256 (by decide) (fun c => ?_) (fun c => ?_)
              · have h := qi_t c h
                refine lv_iload hx hb dX2_work_296 (lv_at hl 1 rfl) ?_
                refine lv_bipush (v := (20:Int32)) hx hb dX2_work_298 (by decide) ?_
                refine lv_icmp_ne (tgt := 332) hx hb dX2_work_300 (by decide) (fun c => ?_) (fun c => ?_)
                · have h := qi_f c h
                  obtain ⟨x6_15, e16, h⟩ := qlet_s h
                  refine lv_iinc (v := x6_15) (lv' := [(6, .int x6_15), (9, .int x9_13), (8, .int x8_10), (0, .ref (K.2.1 1000)), (3, .int x3), (4, .int x4), (5, .int x5), (7, .int x7)]) (k := 6) hx hb dX2_work_332 hl rfl (by rw [e16]; rfl) (by decide) rfl (fun ls hl => ?_)
                  refine lv_aload_n hx hb dX2_work_335 rfl (lv_at hl 3 rfl) ?_
                  refine r_getM (v := .ref (K.2.1 1009)) E hw hM 28 (by decide) q1381 rfl dX2_work_336 ?_
                  refine lv_iload hx hb dX2_work_339 (lv_at hl 0 rfl) ?_
                  refine lv_iconst (v := (1:Int32)) hx hb dX2_work_341 (by decide) ?_
                  refine lv_isub hx hb dX2_work_342 ?_
                  refine lv_iload hx hb dX2_work_343 (lv_at hl 2 rfl) ?_
                  refine lv_aload_n hx hb dX2_work_345 rfl (lv_at hl 3 rfl) ?_
                  refine r_getM (v := .ref (K.2.1 1009)) E hw hM 28 (by decide) q1381 rfl dX2_work_346 ?_
                  refine lv_iload hx hb dX2_work_349 (lv_at hl 0 rfl) ?_
                  refine lv_iconst (v := (1:Int32)) hx hb dX2_work_351 (by decide) ?_
                  refine lv_isub hx hb dX2_work_352 ?_
                  obtain ⟨z17, h⟩ := qif_s h
                  refine r_zald (j := (x6_15 - (1:Int32)).toNatClampNeg) E hw (qaZ hM) (qok_in z17) rfl dX2_work_353 ?_
                  refine lv_aload_n hx hb dX2_work_354 rfl (lv_at hl 3 rfl) ?_
                  refine r_getM (v := .ref (K.2.1 1009)) E hw hM 28 (by decide) q1381 rfl dX2_work_355 ?_
                  refine lv_iload hx hb dX2_work_358 (lv_at hl 0 rfl) ?_
                  obtain ⟨z18, h⟩ := qif_s h
                  refine r_zald (j := x6_15.toNatClampNeg) E hw (qaZ hM) (qok_in z18) rfl dX2_work_360 ?_
                  obtain ⟨u19, g20, h⟩ := qb1_s h
                  refine d_S (As := [.int x8_10, .int (B 1009 (x6_15 - (1:Int32)).toNatClampNeg), .int (B 1009 x6_15.toNatClampNeg)]) (v0 := some (.int u19)) (w0 := (A, B, L, rs)) hG E hw hl (m_X2_joined l hG hM  g20) (va_cwS 3 hts (lw_S q1798 q1799 q140 q1800) rfl rfl rfl kd_X2_joined ⟨Nat.le_of_ble_eq_true rfl, Nat.le_of_ble_eq_true rfl⟩) rfl (rest := [.int (x6_15 - (1:Int32)), .ref (K.2.1 1009)]) (st1 := [.int u19, .int (x6_15 - (1:Int32)), .ref (K.2.1 1009)]) rfl rfl rfl dX2_work_361 ⟨Nat.le_of_ble_eq_true rfl, Nat.le_of_ble_eq_true rfl⟩ (fun H locs hw => ?_)
                  obtain ⟨B21, e22, h⟩ := qlet_s h
                  refine r_bastZ (j := (x6_15 - (1:Int32)).toNatClampNeg) E hw hM (qok_in z17) rfl dX2_work_364 (fun H locs hw => ?_)
                  rw [← e22] at hw
                  obtain ⟨x7_23, e24, h⟩ := qlet_s h
                  refine lv_iinc (v := x7_23) (lv' := [(7, .int x7_23), (6, .int x6_15), (9, .int x9_13), (8, .int x8_10), (0, .ref (K.2.1 1000)), (3, .int x3), (4, .int x4), (5, .int x5)]) (k := 7) hx hb dX2_work_365 hl rfl (by rw [e24]; rfl) (by decide) rfl (fun ls hl => ?_)
                  refine lv_goto (tgt := 38) hx hb dX2_work_368 (by decide) ?_
                  exact ih _ _ _ _ _ _ _  h hw (lv_sub hl [4, 5, 6, 7, 1, 0] rfl)
                · have h := qi_t c h
                  refine lv_aload_n hx hb dX2_work_303 rfl (lv_at hl 2 rfl) ?_
                  refine r_getM (v := .ref (K.2.1 1009)) E hw hM 28 (by decide) q1381 rfl dX2_work_304 ?_
                  refine lv_iload hx hb dX2_work_307 (lv_at hl 6 rfl) ?_
                  refine lv_iconst (v := (1:Int32)) hx hb dX2_work_309 (by decide) ?_
                  refine lv_isub hx hb dX2_work_310 ?_
                  refine lv_aload_n hx hb dX2_work_311 rfl (lv_at hl 2 rfl) ?_
                  refine r_getM (v := .ref (K.2.1 1009)) E hw hM 28 (by decide) q1381 rfl dX2_work_312 ?_
                  refine lv_iload hx hb dX2_work_315 (lv_at hl 6 rfl) ?_
                  refine lv_iconst (v := (1:Int32)) hx hb dX2_work_317 (by decide) ?_
                  refine lv_isub hx hb dX2_work_318 ?_
                  obtain ⟨z25, h⟩ := qif_s h
                  refine r_zald (j := (x6 - (1:Int32)).toNatClampNeg) E hw (qaZ hM) (qok_in z25) rfl dX2_work_319 ?_
                  refine lv_if_ne (tgt := 327) hx hb dX2_work_320 (by decide) (fun c => ?_) (fun c => ?_)
                  · have h := qi_f c h
                    refine lv_iconst (v := (0:Int32)) hx hb dX2_work_327 (by decide) ?_
                    obtain ⟨B26, e27, h⟩ := qlet_s h
                    refine r_bastZ (j := (x6 - (1:Int32)).toNatClampNeg) E hw hM (qok_in z25) rfl dX2_work_328 (fun H locs hw => ?_)
                    rw [← e27] at hw
                    refine lv_goto (tgt := 365) hx hb dX2_work_329 (by decide) ?_
                    obtain ⟨x7_28, e29, h⟩ := qlet_s h
                    refine lv_iinc (v := x7_28) (lv' := [(7, .int x7_28), (9, .int x9_13), (8, .int x8_10), (0, .ref (K.2.1 1000)), (3, .int x3), (4, .int x4), (5, .int x5), (6, .int x6)]) (k := 7) hx hb dX2_work_365 hl rfl (by rw [e29]; rfl) (by decide) rfl (fun ls hl => ?_)
                    refine lv_goto (tgt := 38) hx hb dX2_work_368 (by decide) ?_
                    exact ih _ _ _ _ _ _ _  h hw (lv_sub hl [3, 4, 5, 6, 7, 0] rfl)
                  · have h := qi_t c h
                    refine lv_iconst (v := (1:Int32)) hx hb dX2_work_323 (by decide) ?_
                    refine lv_goto (tgt := 328) hx hb dX2_work_324 (by decide) ?_
                    obtain ⟨B30, e31, h⟩ := qlet_s h
                    refine r_bastZ (j := (x6 - (1:Int32)).toNatClampNeg) E hw hM (qok_in z25) rfl dX2_work_328 (fun H locs hw => ?_)
                    rw [← e31] at hw
                    refine lv_goto (tgt := 365) hx hb dX2_work_329 (by decide) ?_
                    obtain ⟨x7_32, e33, h⟩ := qlet_s h
                    refine lv_iinc (v := x7_32) (lv' := [(7, .int x7_32), (9, .int x9_13), (8, .int x8_10), (0, .ref (K.2.1 1000)), (3, .int x3), (4, .int x4), (5, .int x5), (6, .int x6)]) (k := 7) hx hb dX2_work_365 hl rfl (by rw [e33]; rfl) (by decide) rfl (fun ls hl => ?_)
                    refine lv_goto (tgt := 38) hx hb dX2_work_368 (by decide) ?_
                    exact ih _ _ _ _ _ _ _  h hw (lv_sub hl [3, 4, 5, 6, 7, 0] rfl)
              · have h := qi_f c h
                obtain ⟨x5_34, e35, h⟩ := qlet_s h
                refine lv_iinc (v := x5_34) (lv' := [(5, .int x5_34), (9, .int x9_13), (8, .int x8_10), (0, .ref (K.2.1 1000)), (3, .int x3), (4, .int x4), (6, .int x6), (7, .int x7)]) (k := 5) hx hb dX2_work_259 hl rfl (by rw [e35]; rfl) (by decide) rfl (fun ls hl => ?_)
                refine lv_aload_n hx hb dX2_work_262 rfl (lv_at hl 3 rfl) ?_
                refine r_getM (v := .ref (K.2.1 1009)) E hw hM 28 (by decide) q1381 rfl dX2_work_263 ?_
                refine lv_iload hx hb dX2_work_266 (lv_at hl 6 rfl) ?_
                refine lv_iload hx hb dX2_work_268 (lv_at hl 2 rfl) ?_
                refine lv_aload_n hx hb dX2_work_270 rfl (lv_at hl 3 rfl) ?_
                refine r_getM (v := .ref (K.2.1 1008)) E hw hM 27 (by decide) q1380 rfl dX2_work_271 ?_
                refine lv_iload hx hb dX2_work_274 (lv_at hl 0 rfl) ?_
                obtain ⟨z36, h⟩ := qif_s h
                refine r_lald (j := x5_34.toNatClampNeg) E hw (qaL hM) (qok_in z36) rfl dX2_work_276 ?_
                refine lv_aload_n hx hb dX2_work_277 rfl (lv_at hl 3 rfl) ?_
                refine r_getM (v := .ref (K.2.1 1008)) E hw hM 27 (by decide) q1380 rfl dX2_work_278 ?_
                refine lv_iload hx hb dX2_work_281 (lv_at hl 0 rfl) ?_
                refine lv_iconst (v := (1:Int32)) hx hb dX2_work_283 (by decide) ?_
                refine lv_iadd hx hb dX2_work_284 ?_
                obtain ⟨z37, h⟩ := qif_s h
                refine r_lald (j := (x5_34 + (1:Int32)).toNatClampNeg) E hw (qaL hM) (qok_in z37) rfl dX2_work_285 ?_
                obtain ⟨u38, g39, h⟩ := qb1_s h
                refine d_S (As := [.int x8_10, .long (L 1008 x5_34.toNatClampNeg), .long (L 1008 (x5_34 + (1:Int32)).toNatClampNeg)]) (v0 := some (.int u38)) (w0 := (A, B, L, rs)) hG E hw hl (m_X2_isAsked l hG hM  g39) (va_cwS 3 hts (lw_S q1795 q1796 q140 q1797) rfl rfl rfl kd_X2_isAsked ⟨Nat.le_of_ble_eq_true rfl, Nat.le_of_ble_eq_true rfl⟩) rfl (rest := [.int x6, .ref (K.2.1 1009)]) (st1 := [.int u38, .int x6, .ref (K.2.1 1009)]) rfl rfl rfl dX2_work_286 ⟨Nat.le_of_ble_eq_true rfl, Nat.le_of_ble_eq_true rfl⟩ (fun H locs hw => ?_)
                obtain ⟨z40, h⟩ := qif_s h
                obtain ⟨B41, e42, h⟩ := qlet_s h
                refine r_bastZ (j := x6.toNatClampNeg) E hw hM (qok_in z40) rfl dX2_work_289 (fun H locs hw => ?_)
                rw [← e42] at hw
                obtain ⟨x6_43, e44, h⟩ := qlet_s h
                refine lv_iinc (v := x6_43) (lv' := [(6, .int x6_43), (5, .int x5_34), (9, .int x9_13), (8, .int x8_10), (0, .ref (K.2.1 1000)), (3, .int x3), (4, .int x4), (7, .int x7)]) (k := 6) hx hb dX2_work_290 hl rfl (by rw [e44]; rfl) (by decide) rfl (fun ls hl => ?_)
                refine lv_goto (tgt := 365) hx hb dX2_work_293 (by decide) ?_
                obtain ⟨x7_45, e46, h⟩ := qlet_s h
                refine lv_iinc (v := x7_45) (lv' := [(7, .int x7_45), (6, .int x6_43), (5, .int x5_34), (9, .int x9_13), (8, .int x8_10), (0, .ref (K.2.1 1000)), (3, .int x3), (4, .int x4)]) (k := 7) hx hb dX2_work_365 hl rfl (by rw [e46]; rfl) (by decide) rfl (fun ls hl => ?_)
                refine lv_goto (tgt := 38) hx hb dX2_work_368 (by decide) ?_
                exact ih _ _ _ _ _ _ _  h hw (lv_sub hl [5, 6, 7, 2, 1, 0] rfl)
            · have h := qi_f c h
              obtain ⟨x5_47, e48, h⟩ := qlet_s h
              refine lv_iinc (v := x5_47) (lv' := [(5, .int x5_47), (9, .int x9_13), (8, .int x8_10), (0, .ref (K.2.1 1000)), (3, .int x3), (4, .int x4), (6, .int x6), (7, .int x7)]) (k := 5) hx hb dX2_work_216 hl rfl (by rw [e48]; rfl) (by decide) rfl (fun ls hl => ?_)
              refine lv_aload_n hx hb dX2_work_219 rfl (lv_at hl 3 rfl) ?_
              refine r_getM (v := .ref (K.2.1 1008)) E hw hM 27 (by decide) q1380 rfl dX2_work_220 ?_
              refine lv_iload hx hb dX2_work_223 (lv_at hl 0 rfl) ?_
              refine lv_iconst (v := (1:Int32)) hx hb dX2_work_225 (by decide) ?_
              refine lv_isub hx hb dX2_work_226 ?_
              refine lv_iload hx hb dX2_work_227 (lv_at hl 2 rfl) ?_
              refine lv_aload_n hx hb dX2_work_229 rfl (lv_at hl 3 rfl) ?_
              refine r_getM (v := .ref (K.2.1 1008)) E hw hM 27 (by decide) q1380 rfl dX2_work_230 ?_
              refine lv_iload hx hb dX2_work_233 (lv_at hl 0 rfl) ?_
              refine lv_iconst (v := (1:Int32)) hx hb dX2_work_235 (by decide) ?_
              refine lv_isub hx hb dX2_work_236 ?_
              obtain ⟨z49, h⟩ := qif_s h
              refine r_lald (j := (x5_47 - (1:Int32)).toNatClampNeg) E hw (qaL hM) (qok_in z49) rfl dX2_work_237 ?_
              refine lv_aload_n hx hb dX2_work_238 rfl (lv_at hl 3 rfl) ?_
              refine r_getM (v := .ref (K.2.1 1008)) E hw hM 27 (by decide) q1380 rfl dX2_work_239 ?_
              refine lv_iload hx hb dX2_work_242 (lv_at hl 0 rfl) ?_
              obtain ⟨z50, h⟩ := qif_s h
              refine r_lald (j := x5_47.toNatClampNeg) E hw (qaL hM) (qok_in z50) rfl dX2_work_244 ?_
              obtain ⟨u51, g52, h⟩ := qb1_s h
              refine d_S (As := [.int x8_10, .long (L 1008 (x5_47 - (1:Int32)).toNatClampNeg), .long (L 1008 x5_47.toNatClampNeg)]) (v0 := some (.long u51)) (w0 := (A, B, L, rs)) hG E hw hl (m_X2_two l hG hM  g52) (va_cwS 3 hts (lw_S q1787 q1788 q140 q1789) rfl rfl rfl kd_X2_two ⟨Nat.le_of_ble_eq_true rfl, Nat.le_of_ble_eq_true rfl⟩) rfl (rest := [.int (x5_47 - (1:Int32)), .ref (K.2.1 1008)]) (st1 := [.long u51, .int (x5_47 - (1:Int32)), .ref (K.2.1 1008)]) rfl rfl rfl dX2_work_245 ⟨Nat.le_of_ble_eq_true rfl, Nat.le_of_ble_eq_true rfl⟩ (fun H locs hw => ?_)
              obtain ⟨L53, e54, h⟩ := qlet_s h
              refine r_lastL (j := (x5_47 - (1:Int32)).toNatClampNeg) E hw hM (qok_in z49) rfl dX2_work_248 (fun H locs hw => ?_)
              rw [← e54] at hw
              refine lv_goto (tgt := 365) hx hb dX2_work_249 (by decide) ?_
              obtain ⟨x7_55, e56, h⟩ := qlet_s h
              refine lv_iinc (v := x7_55) (lv' := [(7, .int x7_55), (5, .int x5_47), (9, .int x9_13), (8, .int x8_10), (0, .ref (K.2.1 1000)), (3, .int x3), (4, .int x4), (6, .int x6)]) (k := 7) hx hb dX2_work_365 hl rfl (by rw [e56]; rfl) (by decide) rfl (fun ls hl => ?_)
              refine lv_goto (tgt := 38) hx hb dX2_work_368 (by decide) ?_
              exact ih _ _ _ _ _ _ _  h hw (lv_sub hl [4, 5, 6, 1, 7, 0] rfl)
          · have h := qi_t c h
            refine lv_aload_n hx hb dX2_work_187 rfl (lv_at hl 2 rfl) ?_
            refine r_getM (v := .ref (K.2.1 1008)) E hw hM 27 (by decide) q1380 rfl dX2_work_188 ?_
            refine lv_iload hx hb dX2_work_191 (lv_at hl 5 rfl) ?_
            refine lv_iconst (v := (1:Int32)) hx hb dX2_work_193 (by decide) ?_
            refine lv_isub hx hb dX2_work_194 ?_
            refine lv_aload_n hx hb dX2_work_195 rfl (lv_at hl 2 rfl) ?_
            refine r_getM (v := .ref (K.2.1 1008)) E hw hM 27 (by decide) q1380 rfl dX2_work_196 ?_
            refine lv_iload hx hb dX2_work_199 (lv_at hl 5 rfl) ?_
            refine lv_iconst (v := (1:Int32)) hx hb dX2_work_201 (by decide) ?_
            refine lv_isub hx hb dX2_work_202 ?_
            obtain ⟨z57, h⟩ := qif_s h
            refine r_lald (j := (x5 - (1:Int32)).toNatClampNeg) E hw (qaL hM) (qok_in z57) rfl dX2_work_203 ?_
            refine lv_lneg hx hb dX2_work_204 ?_
            obtain ⟨L58, e59, h⟩ := qlet_s h
            refine r_lastL (j := (x5 - (1:Int32)).toNatClampNeg) E hw hM (qok_in z57) rfl dX2_work_205 (fun H locs hw => ?_)
            rw [← e59] at hw
            refine lv_goto (tgt := 365) hx hb dX2_work_206 (by decide) ?_
            obtain ⟨x7_60, e61, h⟩ := qlet_s h
            refine lv_iinc (v := x7_60) (lv' := [(7, .int x7_60), (9, .int x9_13), (8, .int x8_10), (0, .ref (K.2.1 1000)), (3, .int x3), (4, .int x4), (5, .int x5), (6, .int x6)]) (k := 7) hx hb dX2_work_365 hl rfl (by rw [e61]; rfl) (by decide) rfl (fun ls hl => ?_)
            refine lv_goto (tgt := 38) hx hb dX2_work_368 (by decide) ?_
            exact ih _ _ _ _ _ _ _  h hw (lv_sub hl [3, 4, 5, 6, 7, 0] rfl)
        · have h := qi_f c h
          refine lv_iload hx hb dX2_work_125 (lv_at hl 6 rfl) ?_
          refine lv_iload hx hb dX2_work_127 (lv_at hl 1 rfl) ?_
          refine lv_iconst (v := (3:Int32)) hx hb dX2_work_129 (by decide) ?_
          refine lv_icmp_ne (tgt := 138) hx hb dX2_work_130 (by decide) (fun c => ?_) (fun c => ?_)
          · have h := qi_f c h
            refine lv_iconst (v := (0:Int32)) hx hb dX2_work_138 (by decide) ?_
            exact w_X2_work_139 hG hM E hr ih _ _ _ _ _ _ _ _ _ _   h hw (lv_sub hl [2, 3, 4, 5, 7, 1, 0] rfl)
          · have h := qi_t c h
            refine lv_iload hx hb dX2_work_133 (lv_at hl 0 rfl) ?_
            refine lv_goto (tgt := 139) hx hb dX2_work_135 (by decide) ?_
            exact w_X2_work_139 hG hM E hr ih _ _ _ _ _ _ _ _ _ _   h hw (lv_sub hl [2, 3, 4, 5, 7, 1, 0] rfl)
      · have h := qi_f c h
        refine lv_aload_n hx hb dX2_work_87 rfl (lv_at hl 2 rfl) ?_
        refine r_getM (v := .ref (K.2.1 1008)) E hw hM 27 (by decide) q1380 rfl dX2_work_88 ?_
        refine lv_iload hx hb dX2_work_91 (lv_at hl 5 rfl) ?_
        refine lv_iload hx hb dX2_work_93 (lv_at hl 1 rfl) ?_
        refine lv_if_ne (tgt := 104) hx hb dX2_work_95 (by decide) (fun c => ?_) (fun c => ?_)
        · have h := qi_f c h
          refine lv_aload_n hx hb dX2_work_104 rfl (lv_at hl 2 rfl) ?_
          refine r_getM (v := .ref (K.2.1 1007)) E hw hM 25 (by decide) q1378 rfl dX2_work_105 ?_
          refine lv_iload hx hb dX2_work_108 (lv_at hl 0 rfl) ?_
          obtain ⟨z82, h⟩ := qif_s h
          refine r_iald (j := x9_13.toNatClampNeg) E hw (qi_1007 hM).at (qok_in z82) rfl dX2_work_110 ?_
          refine lv_i2l hx hb dX2_work_111 rfl ?_
          obtain ⟨z83, h⟩ := qif_s h
          obtain ⟨L84, e85, h⟩ := qlet_s h
          refine r_lastL (j := x5.toNatClampNeg) E hw hM (qok_in z83) rfl dX2_work_112 (fun H locs hw => ?_)
          rw [← e85] at hw
          obtain ⟨x5_86, e87, h⟩ := qlet_s h
          refine lv_iinc (v := x5_86) (lv' := [(5, .int x5_86), (9, .int x9_13), (8, .int x8_10), (0, .ref (K.2.1 1000)), (3, .int x3), (4, .int x4), (6, .int x6), (7, .int x7)]) (k := 5) hx hb dX2_work_113 hl rfl (by rw [e87]; rfl) (by decide) rfl (fun ls hl => ?_)
          refine lv_goto (tgt := 365) hx hb dX2_work_116 (by decide) ?_
          obtain ⟨x7_88, e89, h⟩ := qlet_s h
          refine lv_iinc (v := x7_88) (lv' := [(7, .int x7_88), (5, .int x5_86), (9, .int x9_13), (8, .int x8_10), (0, .ref (K.2.1 1000)), (3, .int x3), (4, .int x4), (6, .int x6)]) (k := 7) hx hb dX2_work_365 hl rfl (by rw [e89]; rfl) (by decide) rfl (fun ls hl => ?_)
          refine lv_goto (tgt := 38) hx hb dX2_work_368 (by decide) ?_
          exact ih _ _ _ _ _ _ _  h hw (lv_sub hl [4, 5, 6, 1, 7, 0] rfl)
        · have h := qi_t c h
          refine lv_iload hx hb dX2_work_98 (lv_at hl 0 rfl) ?_
          refine lv_i2l hx hb dX2_work_100 rfl ?_
          refine lv_goto (tgt := 112) hx hb dX2_work_101 (by decide) ?_
          obtain ⟨z90, h⟩ := qif_s h
          obtain ⟨L91, e92, h⟩ := qlet_s h
          refine r_lastL (j := x5.toNatClampNeg) E hw hM (qok_in z90) rfl dX2_work_112 (fun H locs hw => ?_)
          rw [← e92] at hw
          obtain ⟨x5_93, e94, h⟩ := qlet_s h
          refine lv_iinc (v := x5_93) (lv' := [(5, .int x5_93), (9, .int x9_13), (8, .int x8_10), (0, .ref (K.2.1 1000)), (3, .int x3), (4, .int x4), (6, .int x6), (7, .int x7)]) (k := 5) hx hb dX2_work_113 hl rfl (by rw [e94]; rfl) (by decide) rfl (fun ls hl => ?_)
          refine lv_goto (tgt := 365) hx hb dX2_work_116 (by decide) ?_
          obtain ⟨x7_95, e96, h⟩ := qlet_s h
          refine lv_iinc (v := x7_95) (lv' := [(7, .int x7_95), (5, .int x5_93), (9, .int x9_13), (8, .int x8_10), (0, .ref (K.2.1 1000)), (3, .int x3), (4, .int x4), (6, .int x6)]) (k := 7) hx hb dX2_work_365 hl rfl (by rw [e96]; rfl) (by decide) rfl (fun ls hl => ?_)
          refine lv_goto (tgt := 38) hx hb dX2_work_368 (by decide) ?_
          exact ih _ _ _ _ _ _ _  h hw (lv_sub hl [4, 5, 6, 1, 7, 0] rfl)

def f_X2_work (x1 : Int32) (x2 : Int32) (B : QA) (L : QL) : Option (QA × QL) :=
  qlet ((((705:Int32) * x1) + (1:Int32)) + ((4:Int32) * x2)) fun x3_1 =>
  qlet (((705:Int32) * x1) + (97:Int32)) fun x4_3 =>
  qif (qok (x3_1 + (1:Int32)) 2820) <|
  qlet (B 1003 (x3_1 + (1:Int32)).toNatClampNeg) fun x7_6 =>
  f_X2_work_38 FU x3_1 x4_3 (0:Int32) (0:Int32) x7_6 B L
set_option maxHeartbeats 4000000 in
theorem w_X2_work_0 {p : Program} {l : Launch} {e : Env} {s : State} {m : MethodId} {args : Array Value} {below : List Frame} {meth : Method} {c : Code} {K : QK} {G : State → Prop} {A : QA} {rs : QX × QM} {Bo : QA} {Lo : QL} (hG : QG G) (hM : QMl K) (E : EV K G p s m args meth c cX2_work "VaneCourtModel" 10) (hr : meth.sig.returnType = none) : ∀ (x1 : Int32) (x2 : Int32) (B : QA) (L : QL) {H : Heap} {locs : List Loc} {ls : Array Slot}, f_X2_work x1 x2 B L = some (Bo, Lo) → WP K (A, B, L, rs) H locs → lv_has ls 10 [(0, .ref (K.2.1 1000)), (1, .int x1), (2, .int x2)] → W p l e (qrm 3 85 0 0) s m args below meth c H locs 0 0 (MQ below (QE K (QR none (A, Bo, Lo, rs))) args s 0 0 (qA K)) (F0 m 0 ls []) := by
  have hx := E.1
  have hb := E.2.1
  have hown := E.2.2.1
  have hts := E.2.2.2.2.1
  intro x1 x2 B L H locs ls  h hw hl
  rw [f_X2_work] at h
  refine lv_sipush (v := (705:Int32)) hx hb dX2_work_0 (by decide) ?_
  refine lv_iload_n hx hb dX2_work_3 rfl (lv_at hl 1 rfl) ?_
  refine lv_imul hx hb dX2_work_4 ?_
  refine lv_iconst (v := (1:Int32)) hx hb dX2_work_5 (by decide) ?_
  refine lv_iadd hx hb dX2_work_6 ?_
  refine lv_iconst (v := (4:Int32)) hx hb dX2_work_7 (by decide) ?_
  refine lv_iload_n hx hb dX2_work_8 rfl (lv_at hl 2 rfl) ?_
  refine lv_imul hx hb dX2_work_9 ?_
  refine lv_iadd hx hb dX2_work_10 ?_
  obtain ⟨x3_1, e2, h⟩ := qlet_s h
  refine r_nm e2 ?_
  refine lv_istore_n (lv' := [(3, .int x3_1), (0, .ref (K.2.1 1000)), (1, .int x1), (2, .int x2)]) hx hb dX2_work_11 rfl hl (by decide) rfl (fun ls hl => ?_)
  refine lv_sipush (v := (705:Int32)) hx hb dX2_work_12 (by decide) ?_
  refine lv_iload_n hx hb dX2_work_15 rfl (lv_at hl 2 rfl) ?_
  refine lv_imul hx hb dX2_work_16 ?_
  refine lv_bipush (v := (97:Int32)) hx hb dX2_work_17 (by decide) ?_
  refine lv_iadd hx hb dX2_work_19 ?_
  obtain ⟨x4_3, e4, h⟩ := qlet_s h
  refine r_nm e4 ?_
  refine lv_istore (lv' := [(4, .int x4_3), (3, .int x3_1), (0, .ref (K.2.1 1000)), (1, .int x1), (2, .int x2)]) hx hb dX2_work_20 hl (by decide) rfl (fun ls hl => ?_)
  refine lv_iconst (v := (0:Int32)) hx hb dX2_work_22 (by decide) ?_
  refine lv_istore (lv' := [(5, .int (0:Int32)), (4, .int x4_3), (3, .int x3_1), (0, .ref (K.2.1 1000)), (1, .int x1), (2, .int x2)]) hx hb dX2_work_23 hl (by decide) rfl (fun ls hl => ?_)
  refine lv_iconst (v := (0:Int32)) hx hb dX2_work_25 (by decide) ?_
  refine lv_istore (lv' := [(6, .int (0:Int32)), (5, .int (0:Int32)), (4, .int x4_3), (3, .int x3_1), (0, .ref (K.2.1 1000)), (1, .int x1), (2, .int x2)]) hx hb dX2_work_26 hl (by decide) rfl (fun ls hl => ?_)
  refine lv_aload_n hx hb dX2_work_28 rfl (lv_at hl 4 rfl) ?_
  refine r_getM (v := .ref (K.2.1 1003)) E hw hM 2 (by decide) q1355 rfl dX2_work_29 ?_
  refine lv_iload_n hx hb dX2_work_32 rfl (lv_at hl 3 rfl) ?_
  refine lv_iconst (v := (1:Int32)) hx hb dX2_work_33 (by decide) ?_
  refine lv_iadd hx hb dX2_work_34 ?_
  obtain ⟨z5, h⟩ := qif_s h
  refine r_iald (j := (x3_1 + (1:Int32)).toNatClampNeg) E hw (qi_1003 hM).at (qok_in z5) rfl dX2_work_35 ?_
  obtain ⟨x7_6, e7, h⟩ := qlet_s h
  refine r_nm e7 ?_
  refine lv_istore (lv' := [(7, .int x7_6), (6, .int (0:Int32)), (5, .int (0:Int32)), (4, .int x4_3), (3, .int x3_1), (0, .ref (K.2.1 1000)), (1, .int x1), (2, .int x2)]) hx hb dX2_work_36 hl (by decide) rfl (fun ls hl => ?_)
  exact w_X2_work_38 hG hM E hr  _ _ _ _ _ _ _ _   h hw (lv_sub hl [5, 4, 3, 2, 1, 0] rfl)

theorem m_X2_work (l : Launch) {K : QK} {G : State → Prop} (hG : QG G) (hM : QMl K) {A : QA} {rs : QX × QM} {x1 : Int32} {x2 : Int32} {B : QA} {L : QL} {Bo : QA} {Lo : QL} (h : f_X2_work x1 x2 B L = some (Bo, Lo)) : MC l K G yX2_work (ws_ yX2_work cX2_work 10 none) 3 85 0 0 [.ref (K.2.1 1000), .int x1, .int x2] (A, B, L, rs) (QR none (A, Bo, Lo, rs)) := by
  refine MC.of (by decide) (Nat.le_of_ble_eq_true rfl) (lv := [(0, .ref (K.2.1 1000)), (1, .int x1), (2, .int x2)]) rfl (fun p e s m below meth c ls E hr hl hw => ?_)
  exact w_X2_work_0 hG hM E hr _ _ _ _  h hw hl

def f_X2_isGuilty (x1 : Int32) (x2 : Int32) (x3 : Int32) (x4 : Int32) (x5 : Int32) (B : QA) (L : QL) : Option (Int32 × QA × QL) :=
  qb1 (f_X2_clauseOf x1 (4:Int32) x2 B) fun u1 =>
  if (0:Int32) ≤ u1 then (
  qb1 (f_X2_nameCase x3 x4 B) fun B3 =>
  qlet (qu B3 1007 1 x2) fun B5 =>
  qlet (qu B5 1000 26 x5) fun B7 =>
  qb2 (f_X2_work x1 u1 B7 L) fun B9 L10 =>
  qif (qbo (B9 1009 0)) <|
  some ((B9 1009 0), B9, L10)) else (
  qb1 (f_X2_get x3 (1:Int32) B) fun u13 =>
  if u13 ≤ x2 then (
  some ((0:Int32), B, L)) else (
  qb1 (f_X2_has x5 (0:Int32)) fun u15 =>
  if u15 = (0:Int32) then (
  some ((0:Int32), B, L)) else (
  some ((1:Int32), B, L))))
set_option maxHeartbeats 4000000 in
theorem w_X2_isGuilty_0 {p : Program} {l : Launch} {e : Env} {s : State} {m : MethodId} {args : Array Value} {below : List Frame} {meth : Method} {c : Code} {K : QK} {G : State → Prop} {A : QA} {rs : QX × QM} {ro : Int32} {Bo : QA} {Lo : QL} (hG : QG G) (hM : QMl K) (E : EV K G p s m args meth c cX2_isGuilty "VaneCourtModel" 7) (hr : meth.sig.returnType = (some .boolean)) : ∀ (x1 : Int32) (x2 : Int32) (x3 : Int32) (x4 : Int32) (x5 : Int32) (B : QA) (L : QL) {H : Heap} {locs : List Loc} {ls : Array Slot}, f_X2_isGuilty x1 x2 x3 x4 x5 B L = some (ro, Bo, Lo) → WP K (A, B, L, rs) H locs → lv_has ls 7 [(0, .ref (K.2.1 1000)), (1, .int x1), (2, .int x2), (3, .int x3), (4, .int x4), (5, .int x5)] → W p l e (qrm 4 114 0 0) s m args below meth c H locs 0 0 (MQ below (QE K (QR (some (.int ro)) (A, Bo, Lo, rs))) args s 0 0 (qA K)) (F0 m 0 ls []) := by
  have hx := E.1
  have hb := E.2.1
  have hown := E.2.2.1
  have hts := E.2.2.2.2.1
  intro x1 x2 x3 x4 x5 B L H locs ls  h hw hl
  rw [f_X2_isGuilty] at h
  refine lv_aload_n hx hb dX2_isGuilty_0 rfl (lv_at hl 0 rfl) ?_
  refine lv_iload_n hx hb dX2_isGuilty_1 rfl (lv_at hl 1 rfl) ?_
  refine lv_iconst (v := (4:Int32)) hx hb dX2_isGuilty_2 (by decide) ?_
  refine lv_iload_n hx hb dX2_isGuilty_3 rfl (lv_at hl 2 rfl) ?_
  obtain ⟨u1, g2, h⟩ := qb1_s h
  refine d_V (As := [.int x1, .int (4:Int32), .int x2]) (v0 := some (.int u1)) (w0 := (A, B, L, rs)) hG E hw hl (m_X2_clauseOf l hG hM  g2) (qM0 hM) rfl (cwV 3 hts (lw_V q1767 q1769 qs109 q140 q1770) rfl rfl rfl ⟨rfl, kd_X2_clauseOf⟩ ⟨Nat.le_of_ble_eq_true rfl, Nat.le_of_ble_eq_true rfl⟩) rfl (rest := []) (st1 := [.int u1]) rfl rfl rfl dX2_isGuilty_4 ⟨Nat.le_of_ble_eq_true rfl, Nat.le_of_ble_eq_true rfl⟩ (fun H locs hw => ?_)
  refine lv_istore (lv' := [(6, .int u1), (0, .ref (K.2.1 1000)), (1, .int x1), (2, .int x2), (3, .int x3), (4, .int x4), (5, .int x5)]) hx hb dX2_isGuilty_7 hl (by decide) rfl (fun ls hl => ?_)
  refine lv_iload hx hb dX2_isGuilty_9 (lv_at hl 0 rfl) ?_
  refine lv_if_ge (tgt := 39) hx hb dX2_isGuilty_11 (by decide) (fun c => ?_) (fun c => ?_)
  · have h := qi_t c h
    refine lv_aload_n hx hb dX2_isGuilty_39 rfl (lv_at hl 1 rfl) ?_
    refine lv_iload_n hx hb dX2_isGuilty_40 rfl (lv_at hl 4 rfl) ?_
    refine lv_iload hx hb dX2_isGuilty_41 (lv_at hl 5 rfl) ?_
    obtain ⟨B3, g4, h⟩ := qb1_s h
    refine d_V (As := [.int x3, .int x4]) (v0 := none) (w0 := (A, B3, L, rs)) hG E hw hl (m_X2_nameCase l hG hM  g4) (qM0 hM) rfl (cwV 2 hts (lw_V q1771 q1773 qs110 q140 q1774) rfl rfl rfl ⟨rfl, kd_X2_nameCase⟩ ⟨Nat.le_of_ble_eq_true rfl, Nat.le_of_ble_eq_true rfl⟩) rfl (rest := []) (st1 := []) rfl rfl rfl dX2_isGuilty_43 ⟨Nat.le_of_ble_eq_true rfl, Nat.le_of_ble_eq_true rfl⟩ (fun H locs hw => ?_)
    refine lv_aload_n hx hb dX2_isGuilty_46 rfl (lv_at hl 1 rfl) ?_
    refine r_getM (v := .ref (K.2.1 1007)) E hw hM 25 (by decide) q1378 rfl dX2_isGuilty_47 ?_
    refine lv_iconst (v := (1:Int32)) hx hb dX2_isGuilty_50 (by decide) ?_
    refine lv_iload_n hx hb dX2_isGuilty_51 rfl (lv_at hl 3 rfl) ?_
    obtain ⟨B5, e6, h⟩ := qlet_s h
    refine r_iastB (j := 1) E hw (qi_1007 hM) (q_lit (k := 1) (n := 8) rfl rfl) (q_clamp (k := 1) rfl) dX2_isGuilty_52 (fun H locs hw => ?_)
    rw [← e6] at hw
    refine lv_aload_n hx hb dX2_isGuilty_53 rfl (lv_at hl 1 rfl) ?_
    refine lv_iload hx hb dX2_isGuilty_54 (lv_at hl 6 rfl) ?_
    obtain ⟨B7, e8, h⟩ := qlet_s h
    refine r_putM E hw hM 26 (by decide) q1379 rfl rfl rfl (fun _ _ => rfl) dX2_isGuilty_56 (fun H locs hw => ?_)
    rw [← e8] at hw
    refine lv_aload_n hx hb dX2_isGuilty_59 rfl (lv_at hl 1 rfl) ?_
    refine lv_iload_n hx hb dX2_isGuilty_60 rfl (lv_at hl 2 rfl) ?_
    refine lv_iload hx hb dX2_isGuilty_61 (lv_at hl 0 rfl) ?_
    obtain ⟨B9, L10, g11, h⟩ := qb2_s h
    refine d_V (As := [.int x1, .int u1]) (v0 := none) (w0 := (A, B9, L10, rs)) hG E hw hl (m_X2_work l hG hM  g11) (qM0 hM) rfl (cwV 2 hts (lw_V q1779 q1781 qs112 q140 q1782) rfl rfl rfl ⟨rfl, kd_X2_work⟩ ⟨Nat.le_of_ble_eq_true rfl, Nat.le_of_ble_eq_true rfl⟩) rfl (rest := []) (st1 := []) rfl rfl rfl dX2_isGuilty_63 ⟨Nat.le_of_ble_eq_true rfl, Nat.le_of_ble_eq_true rfl⟩ (fun H locs hw => ?_)
    refine lv_aload_n hx hb dX2_isGuilty_66 rfl (lv_at hl 1 rfl) ?_
    refine r_getM (v := .ref (K.2.1 1009)) E hw hM 28 (by decide) q1381 rfl dX2_isGuilty_67 ?_
    refine lv_iconst (v := (0:Int32)) hx hb dX2_isGuilty_70 (by decide) ?_
    refine r_zald (j := 0) E hw (qaZ hM) (q_lit (k := 0) (n := 330) rfl rfl) (q_clamp (k := 0) rfl) dX2_isGuilty_71 ?_
    obtain ⟨z12, h⟩ := qif_s h
    have h := Option.some.inj h
    obtain ⟨h1, h2⟩ := Prod.mk.inj h
    obtain ⟨h2, h3⟩ := Prod.mk.inj h2
    exact d_iret E hr (qbo_n z12) hw h1 (by rw [h2, h3]) dX2_isGuilty_72
  · have h := qi_f c h
    refine lv_aload_n hx hb dX2_isGuilty_14 rfl (lv_at hl 1 rfl) ?_
    refine lv_iload_n hx hb dX2_isGuilty_15 rfl (lv_at hl 4 rfl) ?_
    refine lv_iconst (v := (1:Int32)) hx hb dX2_isGuilty_16 (by decide) ?_
    obtain ⟨u13, g14, h⟩ := qb1_s h
    refine d_V (As := [.int x3, .int (1:Int32)]) (v0 := some (.int u13)) (w0 := (A, B, L, rs)) hG E hw hl (m_X2_get l hG hM  g14) (qM0 hM) rfl (cwV 2 hts (lw_V q1699 q1701 qs97 q140 q1702) rfl rfl rfl ⟨rfl, kd_X2_get⟩ ⟨Nat.le_of_ble_eq_true rfl, Nat.le_of_ble_eq_true rfl⟩) rfl (rest := []) (st1 := [.int u13]) rfl rfl rfl dX2_isGuilty_17 ⟨Nat.le_of_ble_eq_true rfl, Nat.le_of_ble_eq_true rfl⟩ (fun H locs hw => ?_)
    refine lv_iload_n hx hb dX2_isGuilty_20 rfl (lv_at hl 3 rfl) ?_
    refine lv_icmp_le (tgt := 37) hx hb dX2_isGuilty_21 (by decide) (fun c => ?_) (fun c => ?_)
    · have h := qi_t c h
      refine lv_iconst (v := (0:Int32)) hx hb dX2_isGuilty_37 (by decide) ?_
      have h := Option.some.inj h
      obtain ⟨h1, h2⟩ := Prod.mk.inj h
      obtain ⟨h2, h3⟩ := Prod.mk.inj h2
      exact d_iret E hr rfl hw h1 (by rw [h2, h3]) dX2_isGuilty_38
    · have h := qi_f c h
      refine lv_iload hx hb dX2_isGuilty_24 (lv_at hl 6 rfl) ?_
      refine lv_iconst (v := (0:Int32)) hx hb dX2_isGuilty_26 (by decide) ?_
      obtain ⟨u15, g16, h⟩ := qb1_s h
      refine d_S (As := [.int x5, .int (0:Int32)]) (v0 := some (.int u15)) (w0 := (A, B, L, rs)) hG E hw hl (m_X2_has l hG hM  g16) (va_cwS 2 hts (lw_S q1565 q1566 q140 q1567) rfl rfl rfl kd_X2_has ⟨Nat.le_of_ble_eq_true rfl, Nat.le_of_ble_eq_true rfl⟩) rfl (rest := []) (st1 := [.int u15]) rfl rfl rfl dX2_isGuilty_27 ⟨Nat.le_of_ble_eq_true rfl, Nat.le_of_ble_eq_true rfl⟩ (fun H locs hw => ?_)
      refine lv_if_eq (tgt := 37) hx hb dX2_isGuilty_30 (by decide) (fun c => ?_) (fun c => ?_)
      · have h := qi_t c h
        refine lv_iconst (v := (0:Int32)) hx hb dX2_isGuilty_37 (by decide) ?_
        have h := Option.some.inj h
        obtain ⟨h1, h2⟩ := Prod.mk.inj h
        obtain ⟨h2, h3⟩ := Prod.mk.inj h2
        exact d_iret E hr rfl hw h1 (by rw [h2, h3]) dX2_isGuilty_38
      · have h := qi_f c h
        refine lv_iconst (v := (1:Int32)) hx hb dX2_isGuilty_33 (by decide) ?_
        refine lv_goto (tgt := 38) hx hb dX2_isGuilty_34 (by decide) ?_
        have h := Option.some.inj h
        obtain ⟨h1, h2⟩ := Prod.mk.inj h
        obtain ⟨h2, h3⟩ := Prod.mk.inj h2
        exact d_iret E hr rfl hw h1 (by rw [h2, h3]) dX2_isGuilty_38

theorem m_X2_isGuilty (l : Launch) {K : QK} {G : State → Prop} (hG : QG G) (hM : QMl K) {A : QA} {rs : QX × QM} {x1 : Int32} {x2 : Int32} {x3 : Int32} {x4 : Int32} {x5 : Int32} {B : QA} {L : QL} {ro : Int32} {Bo : QA} {Lo : QL} (h : f_X2_isGuilty x1 x2 x3 x4 x5 B L = some (ro, Bo, Lo)) : MC l K G yX2_isGuilty (ws_ yX2_isGuilty cX2_isGuilty 7 (some .boolean)) 4 114 0 0 [.ref (K.2.1 1000), .int x1, .int x2, .int x3, .int x4, .int x5] (A, B, L, rs) (QR (some (.int ro)) (A, Bo, Lo, rs)) := by
  refine MC.of (by decide) (Nat.le_of_ble_eq_true rfl) (lv := [(0, .ref (K.2.1 1000)), (1, .int x1), (2, .int x2), (3, .int x3), (4, .int x4), (5, .int x5)]) rfl (fun p e s m below meth c ls E hr hl hw => ?_)
  exact w_X2_isGuilty_0 hG hM E hr _ _ _ _ _ _ _  h hw hl

def f_X2_isCalm (B : QA) : Option (Int32) :=
  if (B 1001 9) = (0:Int32) then (
  some ((1:Int32))) else (
  if (B 1001 10) = (1:Int32) then (
  some ((1:Int32))) else (
  some ((0:Int32))))
set_option maxHeartbeats 4000000 in
theorem w_X2_isCalm_0 {p : Program} {l : Launch} {e : Env} {s : State} {m : MethodId} {args : Array Value} {below : List Frame} {meth : Method} {c : Code} {K : QK} {G : State → Prop} {A : QA} {rs : QX × QM} {L : QL} {ro : Int32} (hG : QG G) (hM : QMl K) (E : EV K G p s m args meth c cX2_isCalm "VaneCourtModel" 1) (hr : meth.sig.returnType = (some .boolean)) : ∀ (B : QA) {H : Heap} {locs : List Loc} {ls : Array Slot}, f_X2_isCalm B = some ro → WP K (A, B, L, rs) H locs → lv_has ls 1 [(0, .ref (K.2.1 1000))] → W p l e (qrm 1 40 0 0) s m args below meth c H locs 0 0 (MQ below (QE K (QR (some (.int ro)) (A, B, L, rs))) args s 0 0 (qA K)) (F0 m 0 ls []) := by
  have hx := E.1
  have hb := E.2.1
  have hown := E.2.2.1
  have hts := E.2.2.2.2.1
  intro B H locs ls  h hw hl
  rw [f_X2_isCalm] at h
  refine lv_aload_n hx hb dX2_isCalm_0 rfl (lv_at hl 0 rfl) ?_
  refine r_getM (v := .ref (K.2.1 1001)) E hw hM 0 (by decide) q1353 rfl dX2_isCalm_1 ?_
  refine lv_bipush (v := (9:Int32)) hx hb dX2_isCalm_4 (by decide) ?_
  refine r_iald (j := 9) E hw (qi_1001 hM).at (q_lit (k := 9) (n := 3642) rfl rfl) (q_clamp (k := 9) rfl) dX2_isCalm_6 ?_
  refine lv_if_eq (tgt := 21) hx hb dX2_isCalm_7 (by decide) (fun c => ?_) (fun c => ?_)
  · have h := qi_t c h
    refine lv_iconst (v := (1:Int32)) hx hb dX2_isCalm_21 (by decide) ?_
    refine lv_goto (tgt := 26) hx hb dX2_isCalm_22 (by decide) ?_
    have h := Option.some.inj h
    have h1 := h
    exact d_iret E hr rfl hw h1 rfl dX2_isCalm_26
  · have h := qi_f c h
    refine lv_aload_n hx hb dX2_isCalm_10 rfl (lv_at hl 0 rfl) ?_
    refine r_getM (v := .ref (K.2.1 1001)) E hw hM 0 (by decide) q1353 rfl dX2_isCalm_11 ?_
    refine lv_bipush (v := (10:Int32)) hx hb dX2_isCalm_14 (by decide) ?_
    refine r_iald (j := 10) E hw (qi_1001 hM).at (q_lit (k := 10) (n := 3642) rfl rfl) (q_clamp (k := 10) rfl) dX2_isCalm_16 ?_
    refine lv_iconst (v := (1:Int32)) hx hb dX2_isCalm_17 (by decide) ?_
    refine lv_icmp_ne (tgt := 25) hx hb dX2_isCalm_18 (by decide) (fun c => ?_) (fun c => ?_)
    · have h := qi_f c h
      refine lv_iconst (v := (0:Int32)) hx hb dX2_isCalm_25 (by decide) ?_
      have h := Option.some.inj h
      have h1 := h
      exact d_iret E hr rfl hw h1 rfl dX2_isCalm_26
    · have h := qi_t c h
      refine lv_iconst (v := (1:Int32)) hx hb dX2_isCalm_21 (by decide) ?_
      refine lv_goto (tgt := 26) hx hb dX2_isCalm_22 (by decide) ?_
      have h := Option.some.inj h
      have h1 := h
      exact d_iret E hr rfl hw h1 rfl dX2_isCalm_26

theorem m_X2_isCalm (l : Launch) {K : QK} {G : State → Prop} (hG : QG G) (hM : QMl K) {A : QA} {rs : QX × QM} {L : QL} {B : QA} {ro : Int32} (h : f_X2_isCalm B = some ro) : MC l K G yX2_isCalm (ws_ yX2_isCalm cX2_isCalm 1 (some .boolean)) 1 40 0 0 [.ref (K.2.1 1000)] (A, B, L, rs) (QR (some (.int ro)) (A, B, L, rs)) := by
  refine MC.of (by decide) (Nat.le_of_ble_eq_true rfl) (lv := [(0, .ref (K.2.1 1000))]) rfl (fun p e s m below meth c ls E hr hl hw => ?_)
  exact w_X2_isCalm_0 hG hM E hr _  h hw hl

def f_X2_isFound_6 : Nat → Int32 → Int32 → Int32 → Int32 → Int32 → QA → QL → Option (Int32 × QA × QL)
  | 0, _, _, _, _, _, _, _ => none
  | n + 1, x1, x2, x3, x4, x5, B, L => if (4:Int32) ≤ x5 then (
  if x4 = (0:Int32) then (
  some ((0:Int32), B, L)) else (
  qb1 (f_X2_isCalm B) fun u1 =>
  if u1 = (0:Int32) then (
  some ((1:Int32), B, L)) else (
  some ((0:Int32), B, L)))) else (
  qb1 (f_X2_has x3 x5) fun u3 =>
  if u3 = (0:Int32) then (
  qlet (x5 + (1:Int32)) fun x5_5 =>
  f_X2_isFound_6 n x1 x2 x3 x4 x5_5 B L) else (
  qb1 (f_X2_get x1 (3:Int32) B) fun u7 =>
  qb3 (f_X2_isGuilty (B 1001 2) x5 x1 x2 u7 B L) fun u9 B10 L11 =>
  if u9 = (0:Int32) then (
  qlet (x5 + (1:Int32)) fun x5_13 =>
  f_X2_isFound_6 n x1 x2 x3 x4 x5_13 B10 L11) else (
  qlet (x5 + (1:Int32)) fun x5_15 =>
  f_X2_isFound_6 n x1 x2 x3 (1:Int32) x5_15 B10 L11)))
set_option maxHeartbeats 4000000 in
theorem w_X2_isFound_6 {p : Program} {l : Launch} {e : Env} {s : State} {m : MethodId} {args : Array Value} {below : List Frame} {meth : Method} {c : Code} {K : QK} {G : State → Prop} {A : QA} {rs : QX × QM} {ro : Int32} {Bo : QA} {Lo : QL} (hG : QG G) (hM : QMl K) (E : EV K G p s m args meth c cX2_isFound "VaneCourtModel" 6) (hr : meth.sig.returnType = (some .boolean)) : ∀ (n : Nat) (x1 : Int32) (x2 : Int32) (x3 : Int32) (x4 : Int32) (x5 : Int32) (B : QA) (L : QL) {H : Heap} {locs : List Loc} {ls : Array Slot}, f_X2_isFound_6 n x1 x2 x3 x4 x5 B L = some (ro, Bo, Lo) → WP K (A, B, L, rs) H locs → lv_has ls 6 [(0, .ref (K.2.1 1000)), (1, .int x1), (2, .int x2), (3, .int x3), (4, .int x4), (5, .int x5)] → W p l e (qrm 5 140 0 0) s m args below meth c H locs 0 0 (MQ below (QE K (QR (some (.int ro)) (A, Bo, Lo, rs))) args s 0 0 (qA K)) (F0 m 6 ls []) := by
  have hx := E.1
  have hb := E.2.1
  have hown := E.2.2.1
  have hts := E.2.2.2.2.1
  intro n
  induction n with
  | zero =>
    intro x1 x2 x3 x4 x5 B L H locs ls  h hw hl
    cases h
  | succ n ih =>
    intro x1 x2 x3 x4 x5 B L H locs ls  h hw hl
    rw [f_X2_isFound_6] at h
    refine lv_iload hx hb dX2_isFound_6 (lv_at hl 5 rfl) ?_
    refine lv_iconst (v := (4:Int32)) hx hb dX2_isFound_8 (by decide) ?_
    refine lv_icmp_ge (tgt := 53) hx hb dX2_isFound_9 (by decide) (fun c => ?_) (fun c => ?_)
    · have h := qi_t c h
      refine lv_iload hx hb dX2_isFound_53 (lv_at hl 4 rfl) ?_
      refine lv_if_eq (tgt := 69) hx hb dX2_isFound_55 (by decide) (fun c => ?_) (fun c => ?_)
      · have h := qi_t c h
        refine lv_iconst (v := (0:Int32)) hx hb dX2_isFound_69 (by decide) ?_
        have h := Option.some.inj h
        obtain ⟨h1, h2⟩ := Prod.mk.inj h
        obtain ⟨h2, h3⟩ := Prod.mk.inj h2
        exact d_iret E hr rfl hw h1 (by rw [h2, h3]) dX2_isFound_70
      · have h := qi_f c h
        refine lv_aload_n hx hb dX2_isFound_58 rfl (lv_at hl 0 rfl) ?_
        obtain ⟨u1, g2, h⟩ := qb1_s h
        refine d_V (As := []) (v0 := some (.int u1)) (w0 := (A, B, L, rs)) hG E hw hl (m_X2_isCalm l hG hM  g2) (qM0 hM) rfl (cwV 0 hts (lw_V q1801 q1803 qs114 q140 q1804) rfl rfl rfl ⟨rfl, kd_X2_isCalm⟩ ⟨Nat.le_of_ble_eq_true rfl, Nat.le_of_ble_eq_true rfl⟩) rfl (rest := []) (st1 := [.int u1]) rfl rfl rfl dX2_isFound_59 ⟨Nat.le_of_ble_eq_true rfl, Nat.le_of_ble_eq_true rfl⟩ (fun H locs hw => ?_)
        refine lv_if_ne (tgt := 69) hx hb dX2_isFound_62 (by decide) (fun c => ?_) (fun c => ?_)
        · have h := qi_f c h
          refine lv_iconst (v := (0:Int32)) hx hb dX2_isFound_69 (by decide) ?_
          have h := Option.some.inj h
          obtain ⟨h1, h2⟩ := Prod.mk.inj h
          obtain ⟨h2, h3⟩ := Prod.mk.inj h2
          exact d_iret E hr rfl hw h1 (by rw [h2, h3]) dX2_isFound_70
        · have h := qi_t c h
          refine lv_iconst (v := (1:Int32)) hx hb dX2_isFound_65 (by decide) ?_
          refine lv_goto (tgt := 70) hx hb dX2_isFound_66 (by decide) ?_
          have h := Option.some.inj h
          obtain ⟨h1, h2⟩ := Prod.mk.inj h
          obtain ⟨h2, h3⟩ := Prod.mk.inj h2
          exact d_iret E hr rfl hw h1 (by rw [h2, h3]) dX2_isFound_70
    · have h := qi_f c h
      refine lv_iload_n hx hb dX2_isFound_12 rfl (lv_at hl 3 rfl) ?_
      refine lv_iload hx hb dX2_isFound_13 (lv_at hl 5 rfl) ?_
      obtain ⟨u3, g4, h⟩ := qb1_s h
      refine d_S (As := [.int x3, .int x5]) (v0 := some (.int u3)) (w0 := (A, B, L, rs)) hG E hw hl (m_X2_has l hG hM  g4) (va_cwS 2 hts (lw_S q1565 q1566 q140 q1567) rfl rfl rfl kd_X2_has ⟨Nat.le_of_ble_eq_true rfl, Nat.le_of_ble_eq_true rfl⟩) rfl (rest := []) (st1 := [.int u3]) rfl rfl rfl dX2_isFound_15 ⟨Nat.le_of_ble_eq_true rfl, Nat.le_of_ble_eq_true rfl⟩ (fun H locs hw => ?_)
      refine lv_if_eq (tgt := 47) hx hb dX2_isFound_18 (by decide) (fun c => ?_) (fun c => ?_)
      · have h := qi_t c h
        obtain ⟨x5_5, e6, h⟩ := qlet_s h
        refine lv_iinc (v := x5_5) (lv' := [(5, .int x5_5), (0, .ref (K.2.1 1000)), (1, .int x1), (2, .int x2), (3, .int x3), (4, .int x4)]) (k := 5) hx hb dX2_isFound_47 hl rfl (by rw [e6]; rfl) (by decide) rfl (fun ls hl => ?_)
        refine lv_goto (tgt := 6) hx hb dX2_isFound_50 (by decide) ?_
        exact ih _ _ _ _ _ _ _  h hw (lv_sub hl [1, 2, 3, 4, 5, 0] rfl)
      · have h := qi_f c h
        refine lv_aload_n hx hb dX2_isFound_21 rfl (lv_at hl 0 rfl) ?_
        refine lv_aload_n hx hb dX2_isFound_22 rfl (lv_at hl 0 rfl) ?_
        refine r_getM (v := .ref (K.2.1 1001)) E hw hM 0 (by decide) q1353 rfl dX2_isFound_23 ?_
        refine lv_iconst (v := (2:Int32)) hx hb dX2_isFound_26 (by decide) ?_
        refine r_iald (j := 2) E hw (qi_1001 hM).at (q_lit (k := 2) (n := 3642) rfl rfl) (q_clamp (k := 2) rfl) dX2_isFound_27 ?_
        refine lv_iload hx hb dX2_isFound_28 (lv_at hl 5 rfl) ?_
        refine lv_iload_n hx hb dX2_isFound_30 rfl (lv_at hl 1 rfl) ?_
        refine lv_iload_n hx hb dX2_isFound_31 rfl (lv_at hl 2 rfl) ?_
        refine lv_aload_n hx hb dX2_isFound_32 rfl (lv_at hl 0 rfl) ?_
        refine lv_iload_n hx hb dX2_isFound_33 rfl (lv_at hl 1 rfl) ?_
        refine lv_iconst (v := (3:Int32)) hx hb dX2_isFound_34 (by decide) ?_
        obtain ⟨u7, g8, h⟩ := qb1_s h
        refine d_V (As := [.int x1, .int (3:Int32)]) (v0 := some (.int u7)) (w0 := (A, B, L, rs)) hG E hw hl (m_X2_get l hG hM  g8) (qM0 hM) rfl (cwV 2 hts (lw_V q1699 q1701 qs97 q140 q1702) rfl rfl rfl ⟨rfl, kd_X2_get⟩ ⟨Nat.le_of_ble_eq_true rfl, Nat.le_of_ble_eq_true rfl⟩) rfl (rest := [.int x2, .int x1, .int x5, .int (B 1001 2), .ref (K.2.1 1000)]) (st1 := [.int u7, .int x2, .int x1, .int x5, .int (B 1001 2), .ref (K.2.1 1000)]) rfl rfl rfl dX2_isFound_35 ⟨Nat.le_of_ble_eq_true rfl, Nat.le_of_ble_eq_true rfl⟩ (fun H locs hw => ?_)
        obtain ⟨u9, B10, L11, g12, h⟩ := qb3_s h
        refine d_V (As := [.int (B 1001 2), .int x5, .int x1, .int x2, .int u7]) (v0 := some (.int u9)) (w0 := (A, B10, L11, rs)) hG E hw hl (m_X2_isGuilty l hG hM  g12) (qM0 hM) rfl (cwV 5 hts (lw_V q1763 q1765 qs108 q140 q1766) rfl rfl rfl ⟨rfl, kd_X2_isGuilty⟩ ⟨Nat.le_of_ble_eq_true rfl, Nat.le_of_ble_eq_true rfl⟩) rfl (rest := []) (st1 := [.int u9]) rfl rfl rfl dX2_isFound_38 ⟨Nat.le_of_ble_eq_true rfl, Nat.le_of_ble_eq_true rfl⟩ (fun H locs hw => ?_)
        refine lv_if_eq (tgt := 47) hx hb dX2_isFound_41 (by decide) (fun c => ?_) (fun c => ?_)
        · have h := qi_t c h
          obtain ⟨x5_13, e14, h⟩ := qlet_s h
          refine lv_iinc (v := x5_13) (lv' := [(5, .int x5_13), (0, .ref (K.2.1 1000)), (1, .int x1), (2, .int x2), (3, .int x3), (4, .int x4)]) (k := 5) hx hb dX2_isFound_47 hl rfl (by rw [e14]; rfl) (by decide) rfl (fun ls hl => ?_)
          refine lv_goto (tgt := 6) hx hb dX2_isFound_50 (by decide) ?_
          exact ih _ _ _ _ _ _ _  h hw (lv_sub hl [1, 2, 3, 4, 5, 0] rfl)
        · have h := qi_f c h
          refine lv_iconst (v := (1:Int32)) hx hb dX2_isFound_44 (by decide) ?_
          refine lv_istore (lv' := [(4, .int (1:Int32)), (0, .ref (K.2.1 1000)), (1, .int x1), (2, .int x2), (3, .int x3), (5, .int x5)]) hx hb dX2_isFound_45 hl (by decide) rfl (fun ls hl => ?_)
          obtain ⟨x5_15, e16, h⟩ := qlet_s h
          refine lv_iinc (v := x5_15) (lv' := [(5, .int x5_15), (4, .int (1:Int32)), (0, .ref (K.2.1 1000)), (1, .int x1), (2, .int x2), (3, .int x3)]) (k := 5) hx hb dX2_isFound_47 hl rfl (by rw [e16]; rfl) (by decide) rfl (fun ls hl => ?_)
          refine lv_goto (tgt := 6) hx hb dX2_isFound_50 (by decide) ?_
          exact ih _ _ _ _ _ _ _  h hw (lv_sub hl [2, 3, 4, 5, 1, 0] rfl)

def f_X2_isFound (x1 : Int32) (x2 : Int32) (x3 : Int32) (B : QA) (L : QL) : Option (Int32 × QA × QL) :=
  f_X2_isFound_6 FU x1 x2 x3 (0:Int32) (0:Int32) B L
set_option maxHeartbeats 4000000 in
theorem w_X2_isFound_0 {p : Program} {l : Launch} {e : Env} {s : State} {m : MethodId} {args : Array Value} {below : List Frame} {meth : Method} {c : Code} {K : QK} {G : State → Prop} {A : QA} {rs : QX × QM} {ro : Int32} {Bo : QA} {Lo : QL} (hG : QG G) (hM : QMl K) (E : EV K G p s m args meth c cX2_isFound "VaneCourtModel" 6) (hr : meth.sig.returnType = (some .boolean)) : ∀ (x1 : Int32) (x2 : Int32) (x3 : Int32) (B : QA) (L : QL) {H : Heap} {locs : List Loc} {ls : Array Slot}, f_X2_isFound x1 x2 x3 B L = some (ro, Bo, Lo) → WP K (A, B, L, rs) H locs → lv_has ls 6 [(0, .ref (K.2.1 1000)), (1, .int x1), (2, .int x2), (3, .int x3)] → W p l e (qrm 5 140 0 0) s m args below meth c H locs 0 0 (MQ below (QE K (QR (some (.int ro)) (A, Bo, Lo, rs))) args s 0 0 (qA K)) (F0 m 0 ls []) := by
  have hx := E.1
  have hb := E.2.1
  have hown := E.2.2.1
  have hts := E.2.2.2.2.1
  intro x1 x2 x3 B L H locs ls  h hw hl
  rw [f_X2_isFound] at h
  refine lv_iconst (v := (0:Int32)) hx hb dX2_isFound_0 (by decide) ?_
  refine lv_istore (lv' := [(4, .int (0:Int32)), (0, .ref (K.2.1 1000)), (1, .int x1), (2, .int x2), (3, .int x3)]) hx hb dX2_isFound_1 hl (by decide) rfl (fun ls hl => ?_)
  refine lv_iconst (v := (0:Int32)) hx hb dX2_isFound_3 (by decide) ?_
  refine lv_istore (lv' := [(5, .int (0:Int32)), (4, .int (0:Int32)), (0, .ref (K.2.1 1000)), (1, .int x1), (2, .int x2), (3, .int x3)]) hx hb dX2_isFound_4 hl (by decide) rfl (fun ls hl => ?_)
  exact w_X2_isFound_6 hG hM E hr  _ _ _ _ _ _ _ _   h hw (lv_sub hl [2, 3, 4, 5, 1, 0] rfl)

theorem m_X2_isFound (l : Launch) {K : QK} {G : State → Prop} (hG : QG G) (hM : QMl K) {A : QA} {rs : QX × QM} {x1 : Int32} {x2 : Int32} {x3 : Int32} {B : QA} {L : QL} {ro : Int32} {Bo : QA} {Lo : QL} (h : f_X2_isFound x1 x2 x3 B L = some (ro, Bo, Lo)) : MC l K G yX2_isFound (ws_ yX2_isFound cX2_isFound 6 (some .boolean)) 5 140 0 0 [.ref (K.2.1 1000), .int x1, .int x2, .int x3] (A, B, L, rs) (QR (some (.int ro)) (A, Bo, Lo, rs)) := by
  refine MC.of (by decide) (Nat.le_of_ble_eq_true rfl) (lv := [(0, .ref (K.2.1 1000)), (1, .int x1), (2, .int x2), (3, .int x3)]) rfl (fun p e s m below meth c ls E hr hl hw => ?_)
  exact w_X2_isFound_0 hG hM E hr _ _ _ _ _  h hw hl

def f_X2_bits_4 : Nat → Int32 → Int32 → Int32 → Option (Int32)
  | 0, _, _, _ => none
  | n + 1, x0, x1, x2 => if (8:Int32) ≤ x2 then (
  some (x1)) else (
  qlet (x1 + ((x0 >>> (x2 &&& 31)) &&& (1:Int32))) fun x1_1 =>
  qlet (x2 + (1:Int32)) fun x2_3 =>
  f_X2_bits_4 n x0 x1_1 x2_3)
set_option maxHeartbeats 4000000 in
theorem w_X2_bits_4 {p : Program} {l : Launch} {e : Env} {s : State} {m : MethodId} {args : Array Value} {below : List Frame} {meth : Method} {c : Code} {K : QK} {G : State → Prop} {A : QA} {rs : QX × QM} {B : QA} {L : QL} {ro : Int32} (hG : QG G) (hM : QMl K) (E : EV K G p s m args meth c cX2_bits "VaneCourtModel" 3) (hr : meth.sig.returnType = (some .int)) : ∀ (n : Nat) (x0 : Int32) (x1 : Int32) (x2 : Int32) {H : Heap} {locs : List Loc} {ls : Array Slot}, f_X2_bits_4 n x0 x1 x2 = some ro → WP K (A, B, L, rs) H locs → lv_has ls 3 [(0, .int x0), (1, .int x1), (2, .int x2)] → W p l e (qrm 1 40 0 0) s m args below meth c H locs 0 0 (MQ below (QE K (QR (some (.int ro)) (A, B, L, rs))) args s 0 0 (qA K)) (F0 m 4 ls []) := by
  have hx := E.1
  have hb := E.2.1
  have hown := E.2.2.1
  have hts := E.2.2.2.2.1
  intro n
  induction n with
  | zero =>
    intro x0 x1 x2 H locs ls  h hw hl
    cases h
  | succ n ih =>
    intro x0 x1 x2 H locs ls  h hw hl
    rw [f_X2_bits_4] at h
    refine lv_iload_n hx hb dX2_bits_4 rfl (lv_at hl 2 rfl) ?_
    refine lv_bipush (v := (8:Int32)) hx hb dX2_bits_5 (by decide) ?_
    refine lv_icmp_ge (tgt := 24) hx hb dX2_bits_7 (by decide) (fun c => ?_) (fun c => ?_)
    · have h := qi_t c h
      refine lv_iload_n hx hb dX2_bits_24 rfl (lv_at hl 1 rfl) ?_
      have h := Option.some.inj h
      have h1 := h
      exact d_iret E hr rfl hw h1 rfl dX2_bits_25
    · have h := qi_f c h
      refine lv_iload_n hx hb dX2_bits_10 rfl (lv_at hl 1 rfl) ?_
      refine lv_iload_n hx hb dX2_bits_11 rfl (lv_at hl 0 rfl) ?_
      refine lv_iload_n hx hb dX2_bits_12 rfl (lv_at hl 2 rfl) ?_
      refine lv_ishr hx hb dX2_bits_13 ?_
      refine lv_iconst (v := (1:Int32)) hx hb dX2_bits_14 (by decide) ?_
      refine lv_iand hx hb dX2_bits_15 ?_
      refine lv_iadd hx hb dX2_bits_16 ?_
      obtain ⟨x1_1, e2, h⟩ := qlet_s h
      refine r_nm e2 ?_
      refine lv_istore_n (lv' := [(1, .int x1_1), (0, .int x0), (2, .int x2)]) hx hb dX2_bits_17 rfl hl (by decide) rfl (fun ls hl => ?_)
      obtain ⟨x2_3, e4, h⟩ := qlet_s h
      refine lv_iinc (v := x2_3) (lv' := [(2, .int x2_3), (1, .int x1_1), (0, .int x0)]) (k := 2) hx hb dX2_bits_18 hl rfl (by rw [e4]; rfl) (by decide) rfl (fun ls hl => ?_)
      refine lv_goto (tgt := 4) hx hb dX2_bits_21 (by decide) ?_
      exact ih _ _ _  h hw (lv_sub hl [2, 1, 0] rfl)

def f_X2_bits (x0 : Int32) : Option (Int32) :=
  f_X2_bits_4 FU x0 (0:Int32) (0:Int32)
set_option maxHeartbeats 4000000 in
theorem w_X2_bits_0 {p : Program} {l : Launch} {e : Env} {s : State} {m : MethodId} {args : Array Value} {below : List Frame} {meth : Method} {c : Code} {K : QK} {G : State → Prop} {A : QA} {rs : QX × QM} {B : QA} {L : QL} {ro : Int32} (hG : QG G) (hM : QMl K) (E : EV K G p s m args meth c cX2_bits "VaneCourtModel" 3) (hr : meth.sig.returnType = (some .int)) : ∀ (x0 : Int32) {H : Heap} {locs : List Loc} {ls : Array Slot}, f_X2_bits x0 = some ro → WP K (A, B, L, rs) H locs → lv_has ls 3 [(0, .int x0)] → W p l e (qrm 1 40 0 0) s m args below meth c H locs 0 0 (MQ below (QE K (QR (some (.int ro)) (A, B, L, rs))) args s 0 0 (qA K)) (F0 m 0 ls []) := by
  have hx := E.1
  have hb := E.2.1
  have hown := E.2.2.1
  have hts := E.2.2.2.2.1
  intro x0 H locs ls  h hw hl
  rw [f_X2_bits] at h
  refine lv_iconst (v := (0:Int32)) hx hb dX2_bits_0 (by decide) ?_
  refine lv_istore_n (lv' := [(1, .int (0:Int32)), (0, .int x0)]) hx hb dX2_bits_1 rfl hl (by decide) rfl (fun ls hl => ?_)
  refine lv_iconst (v := (0:Int32)) hx hb dX2_bits_2 (by decide) ?_
  refine lv_istore_n (lv' := [(2, .int (0:Int32)), (1, .int (0:Int32)), (0, .int x0)]) hx hb dX2_bits_3 rfl hl (by decide) rfl (fun ls hl => ?_)
  exact w_X2_bits_4 hG hM E hr  _ _ _ _   h hw (lv_sub hl [2, 1, 0] rfl)

theorem m_X2_bits (l : Launch) {K : QK} {G : State → Prop} (hG : QG G) (hM : QMl K) {A : QA} {rs : QX × QM} {B : QA} {L : QL} {x0 : Int32} {ro : Int32} (h : f_X2_bits x0 = some ro) : MC l K G yX2_bits (ws_ yX2_bits cX2_bits 3 (some .int)) 1 40 0 0 [.int x0] (A, B, L, rs) (QR (some (.int ro)) (A, B, L, rs)) := by
  refine MC.of (by decide) (Nat.le_of_ble_eq_true rfl) (lv := [(0, .int x0)]) rfl (fun p e s m below meth c ls E hr hl hw => ?_)
  exact w_X2_bits_0 hG hM E hr _  h hw hl

def f_X2_cut (x0 : Int64) (x2 : Int32) (x3 : Int32) : Option (Int32) :=
  if (0:Int32) ≤ (lg_cmp x0 (x2).toInt64) then (
  if (lg_cmp x0 (x3).toInt64) ≤ (0:Int32) then (
  some ((x0).toInt32)) else (
  some (x3))) else (
  some (x2))
set_option maxHeartbeats 4000000 in
theorem w_X2_cut_0 {p : Program} {l : Launch} {e : Env} {s : State} {m : MethodId} {args : Array Value} {below : List Frame} {meth : Method} {c : Code} {K : QK} {G : State → Prop} {A : QA} {rs : QX × QM} {B : QA} {L : QL} {ro : Int32} (hG : QG G) (hM : QMl K) (E : EV K G p s m args meth c cX2_cut "VaneCourtModel" 4) (hr : meth.sig.returnType = (some .int)) : ∀ (x0 : Int64) (x2 : Int32) (x3 : Int32) {H : Heap} {locs : List Loc} {ls : Array Slot}, f_X2_cut x0 x2 x3 = some ro → WP K (A, B, L, rs) H locs → lv_has ls 4 [(0, .long x0), (2, .int x2), (3, .int x3)] → W p l e (qrm 1 40 0 0) s m args below meth c H locs 0 0 (MQ below (QE K (QR (some (.int ro)) (A, B, L, rs))) args s 0 0 (qA K)) (F0 m 0 ls []) := by
  have hx := E.1
  have hb := E.2.1
  have hown := E.2.2.1
  have hts := E.2.2.2.2.1
  intro x0 x2 x3 H locs ls  h hw hl
  rw [f_X2_cut] at h
  refine lv_lload_n hx hb dX2_cut_0 rfl (lv_at hl 0 rfl) ?_
  refine lv_iload_n hx hb dX2_cut_1 rfl (lv_at hl 1 rfl) ?_
  refine lv_i2l hx hb dX2_cut_2 rfl ?_
  refine W.lcmp hx hb dX2_cut_3 ?_
  refine lv_if_ge (tgt := 11) hx hb dX2_cut_4 (by decide) (fun c => ?_) (fun c => ?_)
  · have h := qi_t c h
    refine lv_lload_n hx hb dX2_cut_11 rfl (lv_at hl 0 rfl) ?_
    refine lv_iload_n hx hb dX2_cut_12 rfl (lv_at hl 2 rfl) ?_
    refine lv_i2l hx hb dX2_cut_13 rfl ?_
    refine W.lcmp hx hb dX2_cut_14 ?_
    refine lv_if_le (tgt := 22) hx hb dX2_cut_15 (by decide) (fun c => ?_) (fun c => ?_)
    · have h := qi_t c h
      refine lv_lload_n hx hb dX2_cut_22 rfl (lv_at hl 0 rfl) ?_
      refine lv_l2i hx hb dX2_cut_23 rfl ?_
      have h := Option.some.inj h
      have h1 := h
      exact d_iret E hr rfl hw h1 rfl dX2_cut_24
    · have h := qi_f c h
      refine lv_iload_n hx hb dX2_cut_18 rfl (lv_at hl 2 rfl) ?_
      refine lv_goto (tgt := 24) hx hb dX2_cut_19 (by decide) ?_
      have h := Option.some.inj h
      have h1 := h
      exact d_iret E hr rfl hw h1 rfl dX2_cut_24
  · have h := qi_f c h
    refine lv_iload_n hx hb dX2_cut_7 rfl (lv_at hl 1 rfl) ?_
    refine lv_goto (tgt := 24) hx hb dX2_cut_8 (by decide) ?_
    have h := Option.some.inj h
    have h1 := h
    exact d_iret E hr rfl hw h1 rfl dX2_cut_24

theorem m_X2_cut (l : Launch) {K : QK} {G : State → Prop} (hG : QG G) (hM : QMl K) {A : QA} {rs : QX × QM} {B : QA} {L : QL} {x0 : Int64} {x2 : Int32} {x3 : Int32} {ro : Int32} (h : f_X2_cut x0 x2 x3 = some ro) : MC l K G yX2_cut (ws_ yX2_cut cX2_cut 4 (some .int)) 1 40 0 0 [.long x0, .int x2, .int x3] (A, B, L, rs) (QR (some (.int ro)) (A, B, L, rs)) := by
  refine MC.of (by decide) (Nat.le_of_ble_eq_true rfl) (lv := [(0, .long x0), (2, .int x2), (3, .int x3)]) rfl (fun p e s m below meth c ls E hr hl hw => ?_)
  exact w_X2_cut_0 hG hM E hr _ _ _  h hw hl

def f_X2_says (x1 : Int32) (x2 : Int32) (x3 : Int32) (x4 : Int32) (B : QA) (L : QL) : Option (Int32 × QA × QL) :=
  qb1 (f_X2_clauseOf (B 1001 2) x1 (0:Int32) B) fun u1 =>
  if (0:Int32) ≤ u1 then (
  qb2 (f_X2_work (B 1001 2) u1 B L) fun B3 L4 =>
  qb1 (f_X2_cut (L4 1008 0) x3 x4) fun u6 =>
  some (u6, B3, L4)) else (
  some (x2, B, L))
set_option maxHeartbeats 4000000 in
theorem w_X2_says_0 {p : Program} {l : Launch} {e : Env} {s : State} {m : MethodId} {args : Array Value} {below : List Frame} {meth : Method} {c : Code} {K : QK} {G : State → Prop} {A : QA} {rs : QX × QM} {ro : Int32} {Bo : QA} {Lo : QL} (hG : QG G) (hM : QMl K) (E : EV K G p s m args meth c cX2_says "VaneCourtModel" 6) (hr : meth.sig.returnType = (some .int)) : ∀ (x1 : Int32) (x2 : Int32) (x3 : Int32) (x4 : Int32) (B : QA) (L : QL) {H : Heap} {locs : List Loc} {ls : Array Slot}, f_X2_says x1 x2 x3 x4 B L = some (ro, Bo, Lo) → WP K (A, B, L, rs) H locs → lv_has ls 6 [(0, .ref (K.2.1 1000)), (1, .int x1), (2, .int x2), (3, .int x3), (4, .int x4)] → W p l e (qrm 4 114 0 0) s m args below meth c H locs 0 0 (MQ below (QE K (QR (some (.int ro)) (A, Bo, Lo, rs))) args s 0 0 (qA K)) (F0 m 0 ls []) := by
  have hx := E.1
  have hb := E.2.1
  have hown := E.2.2.1
  have hts := E.2.2.2.2.1
  intro x1 x2 x3 x4 B L H locs ls  h hw hl
  rw [f_X2_says] at h
  refine lv_aload_n hx hb dX2_says_0 rfl (lv_at hl 0 rfl) ?_
  refine lv_aload_n hx hb dX2_says_1 rfl (lv_at hl 0 rfl) ?_
  refine r_getM (v := .ref (K.2.1 1001)) E hw hM 0 (by decide) q1353 rfl dX2_says_2 ?_
  refine lv_iconst (v := (2:Int32)) hx hb dX2_says_5 (by decide) ?_
  refine r_iald (j := 2) E hw (qi_1001 hM).at (q_lit (k := 2) (n := 3642) rfl rfl) (q_clamp (k := 2) rfl) dX2_says_6 ?_
  refine lv_iload_n hx hb dX2_says_7 rfl (lv_at hl 1 rfl) ?_
  refine lv_iconst (v := (0:Int32)) hx hb dX2_says_8 (by decide) ?_
  obtain ⟨u1, g2, h⟩ := qb1_s h
  refine d_V (As := [.int (B 1001 2), .int x1, .int (0:Int32)]) (v0 := some (.int u1)) (w0 := (A, B, L, rs)) hG E hw hl (m_X2_clauseOf l hG hM  g2) (qM0 hM) rfl (cwV 3 hts (lw_V q1767 q1769 qs109 q140 q1770) rfl rfl rfl ⟨rfl, kd_X2_clauseOf⟩ ⟨Nat.le_of_ble_eq_true rfl, Nat.le_of_ble_eq_true rfl⟩) rfl (rest := []) (st1 := [.int u1]) rfl rfl rfl dX2_says_9 ⟨Nat.le_of_ble_eq_true rfl, Nat.le_of_ble_eq_true rfl⟩ (fun H locs hw => ?_)
  refine lv_istore (lv' := [(5, .int u1), (0, .ref (K.2.1 1000)), (1, .int x1), (2, .int x2), (3, .int x3), (4, .int x4)]) hx hb dX2_says_12 hl (by decide) rfl (fun ls hl => ?_)
  refine lv_iload hx hb dX2_says_14 (lv_at hl 0 rfl) ?_
  refine lv_if_ge (tgt := 21) hx hb dX2_says_16 (by decide) (fun c => ?_) (fun c => ?_)
  · have h := qi_t c h
    refine lv_aload_n hx hb dX2_says_21 rfl (lv_at hl 1 rfl) ?_
    refine lv_aload_n hx hb dX2_says_22 rfl (lv_at hl 1 rfl) ?_
    refine r_getM (v := .ref (K.2.1 1001)) E hw hM 0 (by decide) q1353 rfl dX2_says_23 ?_
    refine lv_iconst (v := (2:Int32)) hx hb dX2_says_26 (by decide) ?_
    refine r_iald (j := 2) E hw (qi_1001 hM).at (q_lit (k := 2) (n := 3642) rfl rfl) (q_clamp (k := 2) rfl) dX2_says_27 ?_
    refine lv_iload hx hb dX2_says_28 (lv_at hl 0 rfl) ?_
    obtain ⟨B3, L4, g5, h⟩ := qb2_s h
    refine d_V (As := [.int (B 1001 2), .int u1]) (v0 := none) (w0 := (A, B3, L4, rs)) hG E hw hl (m_X2_work l hG hM  g5) (qM0 hM) rfl (cwV 2 hts (lw_V q1779 q1781 qs112 q140 q1782) rfl rfl rfl ⟨rfl, kd_X2_work⟩ ⟨Nat.le_of_ble_eq_true rfl, Nat.le_of_ble_eq_true rfl⟩) rfl (rest := []) (st1 := []) rfl rfl rfl dX2_says_30 ⟨Nat.le_of_ble_eq_true rfl, Nat.le_of_ble_eq_true rfl⟩ (fun H locs hw => ?_)
    refine lv_aload_n hx hb dX2_says_33 rfl (lv_at hl 1 rfl) ?_
    refine r_getM (v := .ref (K.2.1 1008)) E hw hM 27 (by decide) q1380 rfl dX2_says_34 ?_
    refine lv_iconst (v := (0:Int32)) hx hb dX2_says_37 (by decide) ?_
    refine r_lald (j := 0) E hw (qaL hM) (q_lit (k := 0) (n := 330) rfl rfl) (q_clamp (k := 0) rfl) dX2_says_38 ?_
    refine lv_iload_n hx hb dX2_says_39 rfl (lv_at hl 4 rfl) ?_
    refine lv_iload hx hb dX2_says_40 (lv_at hl 5 rfl) ?_
    obtain ⟨u6, g7, h⟩ := qb1_s h
    refine d_S (As := [.long (L4 1008 0), .int x3, .int x4]) (v0 := some (.int u6)) (w0 := (A, B3, L4, rs)) hG E hw hl (m_X2_cut l hG hM  g7) (va_cwS 3 hts (lw_S q1816 q1817 q140 q1818) rfl rfl rfl kd_X2_cut ⟨Nat.le_of_ble_eq_true rfl, Nat.le_of_ble_eq_true rfl⟩) rfl (rest := []) (st1 := [.int u6]) rfl rfl rfl dX2_says_42 ⟨Nat.le_of_ble_eq_true rfl, Nat.le_of_ble_eq_true rfl⟩ (fun H locs hw => ?_)
    have h := Option.some.inj h
    obtain ⟨h1, h2⟩ := Prod.mk.inj h
    obtain ⟨h2, h3⟩ := Prod.mk.inj h2
    exact d_iret E hr rfl hw h1 (by rw [h2, h3]) dX2_says_45
  · have h := qi_f c h
    refine lv_iload_n hx hb dX2_says_19 rfl (lv_at hl 3 rfl) ?_
    have h := Option.some.inj h
    obtain ⟨h1, h2⟩ := Prod.mk.inj h
    obtain ⟨h2, h3⟩ := Prod.mk.inj h2
    exact d_iret E hr rfl hw h1 (by rw [h2, h3]) dX2_says_20

theorem m_X2_says (l : Launch) {K : QK} {G : State → Prop} (hG : QG G) (hM : QMl K) {A : QA} {rs : QX × QM} {x1 : Int32} {x2 : Int32} {x3 : Int32} {x4 : Int32} {B : QA} {L : QL} {ro : Int32} {Bo : QA} {Lo : QL} (h : f_X2_says x1 x2 x3 x4 B L = some (ro, Bo, Lo)) : MC l K G yX2_says (ws_ yX2_says cX2_says 6 (some .int)) 4 114 0 0 [.ref (K.2.1 1000), .int x1, .int x2, .int x3, .int x4] (A, B, L, rs) (QR (some (.int ro)) (A, Bo, Lo, rs)) := by
  refine MC.of (by decide) (Nat.le_of_ble_eq_true rfl) (lv := [(0, .ref (K.2.1 1000)), (1, .int x1), (2, .int x2), (3, .int x3), (4, .int x4)]) rfl (fun p e s m below meth c ls E hr hl hw => ?_)
  exact w_X2_says_0 hG hM E hr _ _ _ _ _ _  h hw hl

def f_X2_sentenceOf (x1 : Int32) (x2 : Int32) (x3 : Int32) (B : QA) (L : QL) : Option (Int32 × QA × QL) :=
  qb1 (f_X2_nameCase x1 x2 B) fun B1 =>
  qb1 (f_X2_bits x3) fun u3 =>
  qlet (qu B1 1007 7 u3) fun B5 =>
  qb1 (f_X2_get x1 (1:Int32) B5) fun u7 =>
  qlet (u7 * x2) fun x4_9 =>
  qb3 (f_X2_says (3:Int32) x4_9 (0:Int32) (999:Int32) B5 L) fun u11 B12 L13 =>
  some (u11, B12, L13)
set_option maxHeartbeats 4000000 in
theorem w_X2_sentenceOf_0 {p : Program} {l : Launch} {e : Env} {s : State} {m : MethodId} {args : Array Value} {below : List Frame} {meth : Method} {c : Code} {K : QK} {G : State → Prop} {A : QA} {rs : QX × QM} {ro : Int32} {Bo : QA} {Lo : QL} (hG : QG G) (hM : QMl K) (E : EV K G p s m args meth c cX2_sentenceOf "VaneCourtModel" 5) (hr : meth.sig.returnType = (some .int)) : ∀ (x1 : Int32) (x2 : Int32) (x3 : Int32) (B : QA) (L : QL) {H : Heap} {locs : List Loc} {ls : Array Slot}, f_X2_sentenceOf x1 x2 x3 B L = some (ro, Bo, Lo) → WP K (A, B, L, rs) H locs → lv_has ls 5 [(0, .ref (K.2.1 1000)), (1, .int x1), (2, .int x2), (3, .int x3)] → W p l e (qrm 5 139 0 0) s m args below meth c H locs 0 0 (MQ below (QE K (QR (some (.int ro)) (A, Bo, Lo, rs))) args s 0 0 (qA K)) (F0 m 0 ls []) := by
  have hx := E.1
  have hb := E.2.1
  have hown := E.2.2.1
  have hts := E.2.2.2.2.1
  intro x1 x2 x3 B L H locs ls  h hw hl
  rw [f_X2_sentenceOf] at h
  refine lv_aload_n hx hb dX2_sentenceOf_0 rfl (lv_at hl 0 rfl) ?_
  refine lv_iload_n hx hb dX2_sentenceOf_1 rfl (lv_at hl 1 rfl) ?_
  refine lv_iload_n hx hb dX2_sentenceOf_2 rfl (lv_at hl 2 rfl) ?_
  obtain ⟨B1, g2, h⟩ := qb1_s h
  refine d_V (As := [.int x1, .int x2]) (v0 := none) (w0 := (A, B1, L, rs)) hG E hw hl (m_X2_nameCase l hG hM  g2) (qM0 hM) rfl (cwV 2 hts (lw_V q1771 q1773 qs110 q140 q1774) rfl rfl rfl ⟨rfl, kd_X2_nameCase⟩ ⟨Nat.le_of_ble_eq_true rfl, Nat.le_of_ble_eq_true rfl⟩) rfl (rest := []) (st1 := []) rfl rfl rfl dX2_sentenceOf_3 ⟨Nat.le_of_ble_eq_true rfl, Nat.le_of_ble_eq_true rfl⟩ (fun H locs hw => ?_)
  refine lv_aload_n hx hb dX2_sentenceOf_6 rfl (lv_at hl 0 rfl) ?_
  refine r_getM (v := .ref (K.2.1 1007)) E hw hM 25 (by decide) q1378 rfl dX2_sentenceOf_7 ?_
  refine lv_bipush (v := (7:Int32)) hx hb dX2_sentenceOf_10 (by decide) ?_
  refine lv_iload_n hx hb dX2_sentenceOf_12 rfl (lv_at hl 3 rfl) ?_
  obtain ⟨u3, g4, h⟩ := qb1_s h
  refine d_S (As := [.int x3]) (v0 := some (.int u3)) (w0 := (A, B1, L, rs)) hG E hw hl (m_X2_bits l hG hM  g4) (va_cwS 1 hts (lw_S q1809 q1810 q140 q1811) rfl rfl rfl kd_X2_bits ⟨Nat.le_of_ble_eq_true rfl, Nat.le_of_ble_eq_true rfl⟩) rfl (rest := [.int (7:Int32), .ref (K.2.1 1007)]) (st1 := [.int u3, .int (7:Int32), .ref (K.2.1 1007)]) rfl rfl rfl dX2_sentenceOf_13 ⟨Nat.le_of_ble_eq_true rfl, Nat.le_of_ble_eq_true rfl⟩ (fun H locs hw => ?_)
  obtain ⟨B5, e6, h⟩ := qlet_s h
  refine r_iastB (j := 7) E hw (qi_1007 hM) (q_lit (k := 7) (n := 8) rfl rfl) (q_clamp (k := 7) rfl) dX2_sentenceOf_16 (fun H locs hw => ?_)
  rw [← e6] at hw
  refine lv_aload_n hx hb dX2_sentenceOf_17 rfl (lv_at hl 0 rfl) ?_
  refine lv_iload_n hx hb dX2_sentenceOf_18 rfl (lv_at hl 1 rfl) ?_
  refine lv_iconst (v := (1:Int32)) hx hb dX2_sentenceOf_19 (by decide) ?_
  obtain ⟨u7, g8, h⟩ := qb1_s h
  refine d_V (As := [.int x1, .int (1:Int32)]) (v0 := some (.int u7)) (w0 := (A, B5, L, rs)) hG E hw hl (m_X2_get l hG hM  g8) (qM0 hM) rfl (cwV 2 hts (lw_V q1699 q1701 qs97 q140 q1702) rfl rfl rfl ⟨rfl, kd_X2_get⟩ ⟨Nat.le_of_ble_eq_true rfl, Nat.le_of_ble_eq_true rfl⟩) rfl (rest := []) (st1 := [.int u7]) rfl rfl rfl dX2_sentenceOf_20 ⟨Nat.le_of_ble_eq_true rfl, Nat.le_of_ble_eq_true rfl⟩ (fun H locs hw => ?_)
  refine lv_iload_n hx hb dX2_sentenceOf_23 rfl (lv_at hl 2 rfl) ?_
  refine lv_imul hx hb dX2_sentenceOf_24 ?_
  obtain ⟨x4_9, e10, h⟩ := qlet_s h
  refine r_nm e10 ?_
  refine lv_istore (lv' := [(4, .int x4_9), (0, .ref (K.2.1 1000)), (1, .int x1), (2, .int x2), (3, .int x3)]) hx hb dX2_sentenceOf_25 hl (by decide) rfl (fun ls hl => ?_)
  refine lv_aload_n hx hb dX2_sentenceOf_27 rfl (lv_at hl 1 rfl) ?_
  refine lv_iconst (v := (3:Int32)) hx hb dX2_sentenceOf_28 (by decide) ?_
  refine lv_iload hx hb dX2_sentenceOf_29 (lv_at hl 0 rfl) ?_
  refine lv_iconst (v := (0:Int32)) hx hb dX2_sentenceOf_31 (by decide) ?_
  refine lv_sipush (v := (999:Int32)) hx hb dX2_sentenceOf_32 (by decide) ?_
  obtain ⟨u11, B12, L13, g14, h⟩ := qb3_s h
  refine d_V (As := [.int (3:Int32), .int x4_9, .int (0:Int32), .int (999:Int32)]) (v0 := some (.int u11)) (w0 := (A, B12, L13, rs)) hG E hw hl (m_X2_says l hG hM  g14) (qM0 hM) rfl (cwV 4 hts (lw_V q1812 q1814 qs116 q140 q1815) rfl rfl rfl ⟨rfl, kd_X2_says⟩ ⟨Nat.le_of_ble_eq_true rfl, Nat.le_of_ble_eq_true rfl⟩) rfl (rest := []) (st1 := [.int u11]) rfl rfl rfl dX2_sentenceOf_35 ⟨Nat.le_of_ble_eq_true rfl, Nat.le_of_ble_eq_true rfl⟩ (fun H locs hw => ?_)
  have h := Option.some.inj h
  obtain ⟨h1, h2⟩ := Prod.mk.inj h
  obtain ⟨h2, h3⟩ := Prod.mk.inj h2
  exact d_iret E hr rfl hw h1 (by rw [h2, h3]) dX2_sentenceOf_38

theorem m_X2_sentenceOf (l : Launch) {K : QK} {G : State → Prop} (hG : QG G) (hM : QMl K) {A : QA} {rs : QX × QM} {x1 : Int32} {x2 : Int32} {x3 : Int32} {B : QA} {L : QL} {ro : Int32} {Bo : QA} {Lo : QL} (h : f_X2_sentenceOf x1 x2 x3 B L = some (ro, Bo, Lo)) : MC l K G yX2_sentenceOf (ws_ yX2_sentenceOf cX2_sentenceOf 5 (some .int)) 5 139 0 0 [.ref (K.2.1 1000), .int x1, .int x2, .int x3] (A, B, L, rs) (QR (some (.int ro)) (A, Bo, Lo, rs)) := by
  refine MC.of (by decide) (Nat.le_of_ble_eq_true rfl) (lv := [(0, .ref (K.2.1 1000)), (1, .int x1), (2, .int x2), (3, .int x3)]) rfl (fun p e s m below meth c ls E hr hl hw => ?_)
  exact w_X2_sentenceOf_0 hG hM E hr _ _ _ _ _  h hw hl

def f_X2_hear_202 (x3 : Int32) (s1 : Int32) (B : QA) (L : QL) : Option (QA × QL) :=
  qb1 (f_X2_leave s1 x3 B) fun B25 =>
  some (B25, L)
set_option maxHeartbeats 4000000 in
theorem w_X2_hear_202 {p : Program} {l : Launch} {e : Env} {s : State} {m : MethodId} {args : Array Value} {below : List Frame} {meth : Method} {c : Code} {K : QK} {G : State → Prop} {A : QA} {rs : QX × QM} {Bo : QA} {Lo : QL} (hG : QG G) (hM : QMl K) (E : EV K G p s m args meth c cX2_hear "VaneCourtModel" 5) (hr : meth.sig.returnType = none) : ∀ (x3 : Int32) (s1 : Int32) (B : QA) (L : QL) {H : Heap} {locs : List Loc} {ls : Array Slot}, f_X2_hear_202 x3 s1 B L = some (Bo, Lo) → WP K (A, B, L, rs) H locs → lv_has ls 5 [(3, .int x3)] → W p l e (qrm 6 165 0 0) s m args below meth c H locs 0 0 (MQ below (QE K (QR none (A, Bo, Lo, rs))) args s 0 0 (qA K)) (F0 m 202 ls [.int s1, .ref (K.2.1 1000)]) := by
  have hx := E.1
  have hb := E.2.1
  have hown := E.2.2.1
  have hts := E.2.2.2.2.1
  intro x3 s1 B L H locs ls  h hw hl
  rw [f_X2_hear_202] at h
  refine lv_iload_n hx hb dX2_hear_202 rfl (lv_at hl 0 rfl) ?_
  obtain ⟨B25, g26, h⟩ := qb1_s h
  refine d_V (As := [.int s1, .int x3]) (v0 := none) (w0 := (A, B25, L, rs)) hG E hw hl (m_X2_leave l hG hM  g26) (qM0 hM) rfl (cwV 2 hts (lw_V q1739 q1741 qs103 q140 q1742) rfl rfl rfl ⟨rfl, kd_X2_leave⟩ ⟨Nat.le_of_ble_eq_true rfl, Nat.le_of_ble_eq_true rfl⟩) rfl (rest := []) (st1 := []) rfl rfl rfl dX2_hear_203 ⟨Nat.le_of_ble_eq_true rfl, Nat.le_of_ble_eq_true rfl⟩ (fun H locs hw => ?_)
  have h := Option.some.inj h
  obtain ⟨h1, h2⟩ := Prod.mk.inj h
  exact d_ret E hr hw (by rw [h1, h2]) dX2_hear_206

def f_X2_hear_168 (x2 : Int32) (x3 : Int32) (s1 : Int32) (s2 : Int32) (B : QA) (L : QL) : Option (QA × QL) :=
  qif (qok s1 3642) <|
  qlet (qu B 1001 s1.toNatClampNeg (s2 + x3)) fun B19 =>
  qlet (qu B19 1001 17 ((B19 1001 17) + (1:Int32))) fun B21 =>
  qlet (qu B21 1000 29 ((B21 1000 29) + (1:Int32))) fun B23 =>
  if x2 = (0:Int32) then (
  f_X2_hear_202 x3 (2:Int32) B23 L) else (
  f_X2_hear_202 x3 (3:Int32) B23 L)
set_option maxHeartbeats 4000000 in
theorem w_X2_hear_168 {p : Program} {l : Launch} {e : Env} {s : State} {m : MethodId} {args : Array Value} {below : List Frame} {meth : Method} {c : Code} {K : QK} {G : State → Prop} {A : QA} {rs : QX × QM} {Bo : QA} {Lo : QL} (hG : QG G) (hM : QMl K) (E : EV K G p s m args meth c cX2_hear "VaneCourtModel" 5) (hr : meth.sig.returnType = none) : ∀ (x2 : Int32) (x3 : Int32) (s1 : Int32) (s2 : Int32) (B : QA) (L : QL) {H : Heap} {locs : List Loc} {ls : Array Slot}, f_X2_hear_168 x2 x3 s1 s2 B L = some (Bo, Lo) → WP K (A, B, L, rs) H locs → lv_has ls 5 [(0, .ref (K.2.1 1000)), (2, .int x2), (3, .int x3)] → W p l e (qrm 6 165 0 0) s m args below meth c H locs 0 0 (MQ below (QE K (QR none (A, Bo, Lo, rs))) args s 0 0 (qA K)) (F0 m 168 ls [.int s2, .int s1, .ref (K.2.1 1001)]) := by
  have hx := E.1
  have hb := E.2.1
  have hown := E.2.2.1
  have hts := E.2.2.2.2.1
  intro x2 x3 s1 s2 B L H locs ls  h hw hl
  rw [f_X2_hear_168] at h
  refine lv_iload_n hx hb dX2_hear_168 rfl (lv_at hl 2 rfl) ?_
  refine lv_iadd hx hb dX2_hear_169 ?_
  obtain ⟨z18, h⟩ := qif_s h
  obtain ⟨B19, e20, h⟩ := qlet_s h
  refine r_iastB (j := s1.toNatClampNeg) E hw (qi_1001 hM) (qok_in z18) rfl dX2_hear_170 (fun H locs hw => ?_)
  rw [← e20] at hw
  refine lv_aload_n hx hb dX2_hear_171 rfl (lv_at hl 0 rfl) ?_
  refine r_getM (v := .ref (K.2.1 1001)) E hw hM 0 (by decide) q1353 rfl dX2_hear_172 ?_
  refine lv_bipush (v := (17:Int32)) hx hb dX2_hear_175 (by decide) ?_
  refine lv_dup2_11 hx hb dX2_hear_177 rfl rfl ?_
  refine r_iald (j := 17) E hw (qi_1001 hM).at (q_lit (k := 17) (n := 3642) rfl rfl) (q_clamp (k := 17) rfl) dX2_hear_178 ?_
  refine lv_iconst (v := (1:Int32)) hx hb dX2_hear_179 (by decide) ?_
  refine lv_iadd hx hb dX2_hear_180 ?_
  obtain ⟨B21, e22, h⟩ := qlet_s h
  refine r_iastB (j := 17) E hw (qi_1001 hM) (q_lit (k := 17) (n := 3642) rfl rfl) (q_clamp (k := 17) rfl) dX2_hear_181 (fun H locs hw => ?_)
  rw [← e22] at hw
  refine lv_aload_n hx hb dX2_hear_182 rfl (lv_at hl 0 rfl) ?_
  refine lv_dup hx hb dX2_hear_183 rfl ?_
  refine r_getM (v := .int (B21 1000 29)) E hw hM 29 (by decide) q1382 rfl dX2_hear_184 ?_
  refine lv_iconst (v := (1:Int32)) hx hb dX2_hear_187 (by decide) ?_
  refine lv_iadd hx hb dX2_hear_188 ?_
  obtain ⟨B23, e24, h⟩ := qlet_s h
  refine r_putM E hw hM 29 (by decide) q1382 rfl rfl rfl (fun _ _ => rfl) dX2_hear_189 (fun H locs hw => ?_)
  rw [← e24] at hw
  refine lv_aload_n hx hb dX2_hear_192 rfl (lv_at hl 0 rfl) ?_
  refine lv_iload_n hx hb dX2_hear_193 rfl (lv_at hl 1 rfl) ?_
  refine lv_if_eq (tgt := 201) hx hb dX2_hear_194 (by decide) (fun c => ?_) (fun c => ?_)
  · have h := qi_t c h
    refine lv_iconst (v := (2:Int32)) hx hb dX2_hear_201 (by decide) ?_
    exact w_X2_hear_202 hG hM E hr  _ _ _ _   h hw (lv_sub hl [2] rfl)
  · have h := qi_f c h
    refine lv_iconst (v := (3:Int32)) hx hb dX2_hear_197 (by decide) ?_
    refine lv_goto (tgt := 202) hx hb dX2_hear_198 (by decide) ?_
    exact w_X2_hear_202 hG hM E hr  _ _ _ _   h hw (lv_sub hl [2] rfl)

def f_X2_hear_110 (x1 : Int32) (x2 : Int32) (s0 : Int32) (B : QA) (L : QL) : Option (QA × QL) :=
  qlet ((1182:Int32) + ((2:Int32) * ((B 1001 17) - (B 1001 17) / (1230:Int32) * (1230:Int32)))) fun x4_13 =>
  qif (qok x4_13 3642) <|
  qlet (qu B 1001 x4_13.toNatClampNeg (((B 1001 11) * (8:Int32)) + x1)) fun B16 =>
  if x2 = (0:Int32) then (
  f_X2_hear_168 x2 s0 (x4_13 + (1:Int32)) (0:Int32) B16 L) else (
  f_X2_hear_168 x2 s0 (x4_13 + (1:Int32)) (1000:Int32) B16 L)
set_option maxHeartbeats 4000000 in
theorem w_X2_hear_110 {p : Program} {l : Launch} {e : Env} {s : State} {m : MethodId} {args : Array Value} {below : List Frame} {meth : Method} {c : Code} {K : QK} {G : State → Prop} {A : QA} {rs : QX × QM} {Bo : QA} {Lo : QL} (hG : QG G) (hM : QMl K) (E : EV K G p s m args meth c cX2_hear "VaneCourtModel" 5) (hr : meth.sig.returnType = none) : ∀ (x1 : Int32) (x2 : Int32) (s0 : Int32) (B : QA) (L : QL) {H : Heap} {locs : List Loc} {ls : Array Slot}, f_X2_hear_110 x1 x2 s0 B L = some (Bo, Lo) → WP K (A, B, L, rs) H locs → lv_has ls 5 [(0, .ref (K.2.1 1000)), (1, .int x1), (2, .int x2)] → W p l e (qrm 6 165 0 0) s m args below meth c H locs 0 0 (MQ below (QE K (QR none (A, Bo, Lo, rs))) args s 0 0 (qA K)) (F0 m 110 ls [.int s0]) := by
  have hx := E.1
  have hb := E.2.1
  have hown := E.2.2.1
  have hts := E.2.2.2.2.1
  intro x1 x2 s0 B L H locs ls  h hw hl
  rw [f_X2_hear_110] at h
  refine lv_istore_n (lv' := [(3, .int s0), (0, .ref (K.2.1 1000)), (1, .int x1), (2, .int x2)]) hx hb dX2_hear_110 rfl hl (by decide) rfl (fun ls hl => ?_)
  refine lv_sipush (v := (1182:Int32)) hx hb dX2_hear_111 (by decide) ?_
  refine lv_iconst (v := (2:Int32)) hx hb dX2_hear_114 (by decide) ?_
  refine lv_aload_n hx hb dX2_hear_115 rfl (lv_at hl 1 rfl) ?_
  refine r_getM (v := .ref (K.2.1 1001)) E hw hM 0 (by decide) q1353 rfl dX2_hear_116 ?_
  refine lv_bipush (v := (17:Int32)) hx hb dX2_hear_119 (by decide) ?_
  refine r_iald (j := 17) E hw (qi_1001 hM).at (q_lit (k := 17) (n := 3642) rfl rfl) (q_clamp (k := 17) rfl) dX2_hear_121 ?_
  refine lv_sipush (v := (1230:Int32)) hx hb dX2_hear_122 (by decide) ?_
  refine lv_irem hx hb dX2_hear_125 (by decide) ?_
  refine lv_imul hx hb dX2_hear_126 ?_
  refine lv_iadd hx hb dX2_hear_127 ?_
  obtain ⟨x4_13, e14, h⟩ := qlet_s h
  refine r_nm e14 ?_
  refine lv_istore (lv' := [(4, .int x4_13), (3, .int s0), (0, .ref (K.2.1 1000)), (1, .int x1), (2, .int x2)]) hx hb dX2_hear_128 hl (by decide) rfl (fun ls hl => ?_)
  refine lv_aload_n hx hb dX2_hear_130 rfl (lv_at hl 2 rfl) ?_
  refine r_getM (v := .ref (K.2.1 1001)) E hw hM 0 (by decide) q1353 rfl dX2_hear_131 ?_
  refine lv_iload hx hb dX2_hear_134 (lv_at hl 0 rfl) ?_
  refine lv_aload_n hx hb dX2_hear_136 rfl (lv_at hl 2 rfl) ?_
  refine r_getM (v := .ref (K.2.1 1001)) E hw hM 0 (by decide) q1353 rfl dX2_hear_137 ?_
  refine lv_bipush (v := (11:Int32)) hx hb dX2_hear_140 (by decide) ?_
  refine r_iald (j := 11) E hw (qi_1001 hM).at (q_lit (k := 11) (n := 3642) rfl rfl) (q_clamp (k := 11) rfl) dX2_hear_142 ?_
  refine lv_bipush (v := (8:Int32)) hx hb dX2_hear_143 (by decide) ?_
  refine lv_imul hx hb dX2_hear_145 ?_
  refine lv_iload_n hx hb dX2_hear_146 rfl (lv_at hl 3 rfl) ?_
  refine lv_iadd hx hb dX2_hear_147 ?_
  obtain ⟨z15, h⟩ := qif_s h
  obtain ⟨B16, e17, h⟩ := qlet_s h
  refine r_iastB (j := x4_13.toNatClampNeg) E hw (qi_1001 hM) (qok_in z15) rfl dX2_hear_148 (fun H locs hw => ?_)
  rw [← e17] at hw
  refine lv_aload_n hx hb dX2_hear_149 rfl (lv_at hl 2 rfl) ?_
  refine r_getM (v := .ref (K.2.1 1001)) E hw hM 0 (by decide) q1353 rfl dX2_hear_150 ?_
  refine lv_iload hx hb dX2_hear_153 (lv_at hl 0 rfl) ?_
  refine lv_iconst (v := (1:Int32)) hx hb dX2_hear_155 (by decide) ?_
  refine lv_iadd hx hb dX2_hear_156 ?_
  refine lv_iload_n hx hb dX2_hear_157 rfl (lv_at hl 4 rfl) ?_
  refine lv_if_eq (tgt := 167) hx hb dX2_hear_158 (by decide) (fun c => ?_) (fun c => ?_)
  · have h := qi_t c h
    refine lv_iconst (v := (0:Int32)) hx hb dX2_hear_167 (by decide) ?_
    exact w_X2_hear_168 hG hM E hr  _ _ _ _ _ _   h hw (lv_sub hl [2, 4, 1] rfl)
  · have h := qi_f c h
    refine lv_sipush (v := (1000:Int32)) hx hb dX2_hear_161 (by decide) ?_
    refine lv_goto (tgt := 168) hx hb dX2_hear_164 (by decide) ?_
    exact w_X2_hear_168 hG hM E hr  _ _ _ _ _ _   h hw (lv_sub hl [2, 4, 1] rfl)

def f_X2_hear (B : QA) (L : QL) : Option (QA × QL) :=
  qlet (B 1001 13) fun x1_1 =>
  qlet (qu B 1001 14 ((B 1001 14) + (1:Int32))) fun B3 =>
  qlet (qu B3 1001 15 ((B3 1001 15) ||| ((1:Int32) <<< ((B3 1001 8) &&& 31)))) fun B5 =>
  qb1 (f_X2_get x1_1 (2:Int32) B5) fun u7 =>
  if (B5 1001 14) = (u7 + (B5 1001 16)) then (
  qb3 (f_X2_isFound x1_1 (B5 1001 14) (B5 1001 15) B5 L) fun u9 B10 L11 =>
  if u9 = (0:Int32) then (
  f_X2_hear_110 x1_1 u9 (0:Int32) B10 L11) else (
  qb3 (f_X2_sentenceOf x1_1 (B10 1001 14) (B10 1001 15) B10 L11) fun u27 B28 L29 =>
  f_X2_hear_110 x1_1 u9 u27 B28 L29)) else (
  some (B5, L))
set_option maxHeartbeats 4000000 in
theorem w_X2_hear_0 {p : Program} {l : Launch} {e : Env} {s : State} {m : MethodId} {args : Array Value} {below : List Frame} {meth : Method} {c : Code} {K : QK} {G : State → Prop} {A : QA} {rs : QX × QM} {Bo : QA} {Lo : QL} (hG : QG G) (hM : QMl K) (E : EV K G p s m args meth c cX2_hear "VaneCourtModel" 5) (hr : meth.sig.returnType = none) : ∀ (B : QA) (L : QL) {H : Heap} {locs : List Loc} {ls : Array Slot}, f_X2_hear B L = some (Bo, Lo) → WP K (A, B, L, rs) H locs → lv_has ls 5 [(0, .ref (K.2.1 1000))] → W p l e (qrm 6 165 0 0) s m args below meth c H locs 0 0 (MQ below (QE K (QR none (A, Bo, Lo, rs))) args s 0 0 (qA K)) (F0 m 0 ls []) := by
  have hx := E.1
  have hb := E.2.1
  have hown := E.2.2.1
  have hts := E.2.2.2.2.1
  intro B L H locs ls  h hw hl
  rw [f_X2_hear] at h
  refine lv_aload_n hx hb dX2_hear_0 rfl (lv_at hl 0 rfl) ?_
  refine r_getM (v := .ref (K.2.1 1001)) E hw hM 0 (by decide) q1353 rfl dX2_hear_1 ?_
  refine lv_bipush (v := (13:Int32)) hx hb dX2_hear_4 (by decide) ?_
  refine r_iald (j := 13) E hw (qi_1001 hM).at (q_lit (k := 13) (n := 3642) rfl rfl) (q_clamp (k := 13) rfl) dX2_hear_6 ?_
  obtain ⟨x1_1, e2, h⟩ := qlet_s h
  refine r_nm e2 ?_
  refine lv_istore_n (lv' := [(1, .int x1_1), (0, .ref (K.2.1 1000))]) hx hb dX2_hear_7 rfl hl (by decide) rfl (fun ls hl => ?_)
  refine lv_aload_n hx hb dX2_hear_8 rfl (lv_at hl 1 rfl) ?_
  refine r_getM (v := .ref (K.2.1 1001)) E hw hM 0 (by decide) q1353 rfl dX2_hear_9 ?_
  refine lv_bipush (v := (14:Int32)) hx hb dX2_hear_12 (by decide) ?_
  refine lv_dup2_11 hx hb dX2_hear_14 rfl rfl ?_
  refine r_iald (j := 14) E hw (qi_1001 hM).at (q_lit (k := 14) (n := 3642) rfl rfl) (q_clamp (k := 14) rfl) dX2_hear_15 ?_
  refine lv_iconst (v := (1:Int32)) hx hb dX2_hear_16 (by decide) ?_
  refine lv_iadd hx hb dX2_hear_17 ?_
  obtain ⟨B3, e4, h⟩ := qlet_s h
  refine r_iastB (j := 14) E hw (qi_1001 hM) (q_lit (k := 14) (n := 3642) rfl rfl) (q_clamp (k := 14) rfl) dX2_hear_18 (fun H locs hw => ?_)
  rw [← e4] at hw
  refine lv_aload_n hx hb dX2_hear_19 rfl (lv_at hl 1 rfl) ?_
  refine r_getM (v := .ref (K.2.1 1001)) E hw hM 0 (by decide) q1353 rfl dX2_hear_20 ?_
  refine lv_bipush (v := (15:Int32)) hx hb dX2_hear_23 (by decide) ?_
  refine lv_dup2_11 hx hb dX2_hear_25 rfl rfl ?_
  refine r_iald (j := 15) E hw (qi_1001 hM).at (q_lit (k := 15) (n := 3642) rfl rfl) (q_clamp (k := 15) rfl) dX2_hear_26 ?_
  refine lv_iconst (v := (1:Int32)) hx hb dX2_hear_27 (by decide) ?_
  refine lv_aload_n hx hb dX2_hear_28 rfl (lv_at hl 1 rfl) ?_
  refine r_getM (v := .ref (K.2.1 1001)) E hw hM 0 (by decide) q1353 rfl dX2_hear_29 ?_
  refine lv_bipush (v := (8:Int32)) hx hb dX2_hear_32 (by decide) ?_
  refine r_iald (j := 8) E hw (qi_1001 hM).at (q_lit (k := 8) (n := 3642) rfl rfl) (q_clamp (k := 8) rfl) dX2_hear_34 ?_
  refine lv_ishl hx hb dX2_hear_35 ?_
  refine lv_ior hx hb dX2_hear_36 ?_
  obtain ⟨B5, e6, h⟩ := qlet_s h
  refine r_iastB (j := 15) E hw (qi_1001 hM) (q_lit (k := 15) (n := 3642) rfl rfl) (q_clamp (k := 15) rfl) dX2_hear_37 (fun H locs hw => ?_)
  rw [← e6] at hw
  refine lv_aload_n hx hb dX2_hear_38 rfl (lv_at hl 1 rfl) ?_
  refine r_getM (v := .ref (K.2.1 1001)) E hw hM 0 (by decide) q1353 rfl dX2_hear_39 ?_
  refine lv_bipush (v := (14:Int32)) hx hb dX2_hear_42 (by decide) ?_
  refine r_iald (j := 14) E hw (qi_1001 hM).at (q_lit (k := 14) (n := 3642) rfl rfl) (q_clamp (k := 14) rfl) dX2_hear_44 ?_
  refine lv_aload_n hx hb dX2_hear_45 rfl (lv_at hl 1 rfl) ?_
  refine lv_iload_n hx hb dX2_hear_46 rfl (lv_at hl 0 rfl) ?_
  refine lv_iconst (v := (2:Int32)) hx hb dX2_hear_47 (by decide) ?_
  obtain ⟨u7, g8, h⟩ := qb1_s h
  refine d_V (As := [.int x1_1, .int (2:Int32)]) (v0 := some (.int u7)) (w0 := (A, B5, L, rs)) hG E hw hl (m_X2_get l hG hM  g8) (qM0 hM) rfl (cwV 2 hts (lw_V q1699 q1701 qs97 q140 q1702) rfl rfl rfl ⟨rfl, kd_X2_get⟩ ⟨Nat.le_of_ble_eq_true rfl, Nat.le_of_ble_eq_true rfl⟩) rfl (rest := [.int (B5 1001 14)]) (st1 := [.int u7, .int (B5 1001 14)]) rfl rfl rfl dX2_hear_48 ⟨Nat.le_of_ble_eq_true rfl, Nat.le_of_ble_eq_true rfl⟩ (fun H locs hw => ?_)
  refine lv_aload_n hx hb dX2_hear_51 rfl (lv_at hl 1 rfl) ?_
  refine r_getM (v := .ref (K.2.1 1001)) E hw hM 0 (by decide) q1353 rfl dX2_hear_52 ?_
  refine lv_bipush (v := (16:Int32)) hx hb dX2_hear_55 (by decide) ?_
  refine r_iald (j := 16) E hw (qi_1001 hM).at (q_lit (k := 16) (n := 3642) rfl rfl) (q_clamp (k := 16) rfl) dX2_hear_57 ?_
  refine lv_iadd hx hb dX2_hear_58 ?_
  refine lv_icmp_eq (tgt := 63) hx hb dX2_hear_59 (by decide) (fun c => ?_) (fun c => ?_)
  · have h := qi_t c h
    refine lv_aload_n hx hb dX2_hear_63 rfl (lv_at hl 1 rfl) ?_
    refine lv_iload_n hx hb dX2_hear_64 rfl (lv_at hl 0 rfl) ?_
    refine lv_aload_n hx hb dX2_hear_65 rfl (lv_at hl 1 rfl) ?_
    refine r_getM (v := .ref (K.2.1 1001)) E hw hM 0 (by decide) q1353 rfl dX2_hear_66 ?_
    refine lv_bipush (v := (14:Int32)) hx hb dX2_hear_69 (by decide) ?_
    refine r_iald (j := 14) E hw (qi_1001 hM).at (q_lit (k := 14) (n := 3642) rfl rfl) (q_clamp (k := 14) rfl) dX2_hear_71 ?_
    refine lv_aload_n hx hb dX2_hear_72 rfl (lv_at hl 1 rfl) ?_
    refine r_getM (v := .ref (K.2.1 1001)) E hw hM 0 (by decide) q1353 rfl dX2_hear_73 ?_
    refine lv_bipush (v := (15:Int32)) hx hb dX2_hear_76 (by decide) ?_
    refine r_iald (j := 15) E hw (qi_1001 hM).at (q_lit (k := 15) (n := 3642) rfl rfl) (q_clamp (k := 15) rfl) dX2_hear_78 ?_
    obtain ⟨u9, B10, L11, g12, h⟩ := qb3_s h
    refine d_V (As := [.int x1_1, .int (B5 1001 14), .int (B5 1001 15)]) (v0 := some (.int u9)) (w0 := (A, B10, L11, rs)) hG E hw hl (m_X2_isFound l hG hM  g12) (qM0 hM) rfl (cwV 3 hts (lw_V q1759 q1761 qs107 q140 q1762) rfl rfl rfl ⟨rfl, kd_X2_isFound⟩ ⟨Nat.le_of_ble_eq_true rfl, Nat.le_of_ble_eq_true rfl⟩) rfl (rest := []) (st1 := [.int u9]) rfl rfl rfl dX2_hear_79 ⟨Nat.le_of_ble_eq_true rfl, Nat.le_of_ble_eq_true rfl⟩ (fun H locs hw => ?_)
    refine lv_istore_n (lv' := [(2, .int u9), (1, .int x1_1), (0, .ref (K.2.1 1000))]) hx hb dX2_hear_82 rfl hl (by decide) rfl (fun ls hl => ?_)
    refine lv_iload_n hx hb dX2_hear_83 rfl (lv_at hl 0 rfl) ?_
    refine lv_if_eq (tgt := 109) hx hb dX2_hear_84 (by decide) (fun c => ?_) (fun c => ?_)
    · have h := qi_t c h
      refine lv_iconst (v := (0:Int32)) hx hb dX2_hear_109 (by decide) ?_
      exact w_X2_hear_110 hG hM E hr  _ _ _ _ _   h hw (lv_sub hl [2, 1, 0] rfl)
    · have h := qi_f c h
      refine lv_aload_n hx hb dX2_hear_87 rfl (lv_at hl 2 rfl) ?_
      refine lv_iload_n hx hb dX2_hear_88 rfl (lv_at hl 1 rfl) ?_
      refine lv_aload_n hx hb dX2_hear_89 rfl (lv_at hl 2 rfl) ?_
      refine r_getM (v := .ref (K.2.1 1001)) E hw hM 0 (by decide) q1353 rfl dX2_hear_90 ?_
      refine lv_bipush (v := (14:Int32)) hx hb dX2_hear_93 (by decide) ?_
      refine r_iald (j := 14) E hw (qi_1001 hM).at (q_lit (k := 14) (n := 3642) rfl rfl) (q_clamp (k := 14) rfl) dX2_hear_95 ?_
      refine lv_aload_n hx hb dX2_hear_96 rfl (lv_at hl 2 rfl) ?_
      refine r_getM (v := .ref (K.2.1 1001)) E hw hM 0 (by decide) q1353 rfl dX2_hear_97 ?_
      refine lv_bipush (v := (15:Int32)) hx hb dX2_hear_100 (by decide) ?_
      refine r_iald (j := 15) E hw (qi_1001 hM).at (q_lit (k := 15) (n := 3642) rfl rfl) (q_clamp (k := 15) rfl) dX2_hear_102 ?_
      obtain ⟨u27, B28, L29, g30, h⟩ := qb3_s h
      refine d_V (As := [.int x1_1, .int (B10 1001 14), .int (B10 1001 15)]) (v0 := some (.int u27)) (w0 := (A, B28, L29, rs)) hG E hw hl (m_X2_sentenceOf l hG hM  g30) (qM0 hM) rfl (cwV 3 hts (lw_V q1805 q1807 qs115 q140 q1808) rfl rfl rfl ⟨rfl, kd_X2_sentenceOf⟩ ⟨Nat.le_of_ble_eq_true rfl, Nat.le_of_ble_eq_true rfl⟩) rfl (rest := []) (st1 := [.int u27]) rfl rfl rfl dX2_hear_103 ⟨Nat.le_of_ble_eq_true rfl, Nat.le_of_ble_eq_true rfl⟩ (fun H locs hw => ?_)
      refine lv_goto (tgt := 110) hx hb dX2_hear_106 (by decide) ?_
      exact w_X2_hear_110 hG hM E hr  _ _ _ _ _   h hw (lv_sub hl [2, 1, 0] rfl)
  · have h := qi_f c h
    have h := Option.some.inj h
    obtain ⟨h1, h2⟩ := Prod.mk.inj h
    exact d_ret E hr hw (by rw [h1, h2]) dX2_hear_62

theorem m_X2_hear (l : Launch) {K : QK} {G : State → Prop} (hG : QG G) (hM : QMl K) {A : QA} {rs : QX × QM} {B : QA} {L : QL} {Bo : QA} {Lo : QL} (h : f_X2_hear B L = some (Bo, Lo)) : MC l K G yX2_hear (ws_ yX2_hear cX2_hear 5 none) 6 165 0 0 [.ref (K.2.1 1000)] (A, B, L, rs) (QR none (A, Bo, Lo, rs)) := by
  refine MC.of (by decide) (Nat.le_of_ble_eq_true rfl) (lv := [(0, .ref (K.2.1 1000))]) rfl (fun p e s m below meth c ls E hr hl hw => ?_)
  exact w_X2_hear_0 hG hM E hr _ _  h hw hl

def f_X2_anew (B : QA) : Option (QA) :=
  qlet (qu B 1001 12 ((((B 1001 12) * (331:Int32)) + (223:Int32)) - (((B 1001 12) * (331:Int32)) + (223:Int32)) / (30389:Int32) * (30389:Int32))) fun B1 =>
  some (B1)
set_option maxHeartbeats 4000000 in
theorem w_X2_anew_0 {p : Program} {l : Launch} {e : Env} {s : State} {m : MethodId} {args : Array Value} {below : List Frame} {meth : Method} {c : Code} {K : QK} {G : State → Prop} {A : QA} {rs : QX × QM} {L : QL} {Bo : QA} (hG : QG G) (hM : QMl K) (E : EV K G p s m args meth c cX2_anew "VaneCourtModel" 1) (hr : meth.sig.returnType = none) : ∀ (B : QA) {H : Heap} {locs : List Loc} {ls : Array Slot}, f_X2_anew B = some Bo → WP K (A, B, L, rs) H locs → lv_has ls 1 [(0, .ref (K.2.1 1000))] → W p l e (qrm 1 40 0 0) s m args below meth c H locs 0 0 (MQ below (QE K (QR none (A, Bo, L, rs))) args s 0 0 (qA K)) (F0 m 0 ls []) := by
  have hx := E.1
  have hb := E.2.1
  have hown := E.2.2.1
  have hts := E.2.2.2.2.1
  intro B H locs ls  h hw hl
  rw [f_X2_anew] at h
  refine lv_aload_n hx hb dX2_anew_0 rfl (lv_at hl 0 rfl) ?_
  refine r_getM (v := .ref (K.2.1 1001)) E hw hM 0 (by decide) q1353 rfl dX2_anew_1 ?_
  refine lv_bipush (v := (12:Int32)) hx hb dX2_anew_4 (by decide) ?_
  refine lv_aload_n hx hb dX2_anew_6 rfl (lv_at hl 0 rfl) ?_
  refine r_getM (v := .ref (K.2.1 1001)) E hw hM 0 (by decide) q1353 rfl dX2_anew_7 ?_
  refine lv_bipush (v := (12:Int32)) hx hb dX2_anew_10 (by decide) ?_
  refine r_iald (j := 12) E hw (qi_1001 hM).at (q_lit (k := 12) (n := 3642) rfl rfl) (q_clamp (k := 12) rfl) dX2_anew_12 ?_
  refine lv_sipush (v := (331:Int32)) hx hb dX2_anew_13 (by decide) ?_
  refine lv_imul hx hb dX2_anew_16 ?_
  refine lv_sipush (v := (223:Int32)) hx hb dX2_anew_17 (by decide) ?_
  refine lv_iadd hx hb dX2_anew_20 ?_
  refine lv_sipush (v := (30389:Int32)) hx hb dX2_anew_21 (by decide) ?_
  refine lv_irem hx hb dX2_anew_24 (by decide) ?_
  obtain ⟨B1, e2, h⟩ := qlet_s h
  refine r_iastB (j := 12) E hw (qi_1001 hM) (q_lit (k := 12) (n := 3642) rfl rfl) (q_clamp (k := 12) rfl) dX2_anew_25 (fun H locs hw => ?_)
  rw [← e2] at hw
  have h := Option.some.inj h
  have h1 := h
  exact d_ret E hr hw (by rw [h1]) dX2_anew_26

theorem m_X2_anew (l : Launch) {K : QK} {G : State → Prop} (hG : QG G) (hM : QMl K) {A : QA} {rs : QX × QM} {L : QL} {B : QA} {Bo : QA} (h : f_X2_anew B = some Bo) : MC l K G yX2_anew (ws_ yX2_anew cX2_anew 1 none) 1 40 0 0 [.ref (K.2.1 1000)] (A, B, L, rs) (QR none (A, Bo, L, rs)) := by
  refine MC.of (by decide) (Nat.le_of_ble_eq_true rfl) (lv := [(0, .ref (K.2.1 1000))]) rfl (fun p e s m below meth c ls E hr hl hw => ?_)
  exact w_X2_anew_0 hG hM E hr _  h hw hl

def f_X2_drawn (x1 : Int32) (B : QA) : Option (Int32 × QA) :=
  qif (decide (¬ x1 = 0)) <|
  qlet ((B 1001 12) - (B 1001 12) / x1 * x1) fun x2_2 =>
  qb1 (f_X2_anew B) fun B4 =>
  some (x2_2, B4)
set_option maxHeartbeats 4000000 in
theorem w_X2_drawn_0 {p : Program} {l : Launch} {e : Env} {s : State} {m : MethodId} {args : Array Value} {below : List Frame} {meth : Method} {c : Code} {K : QK} {G : State → Prop} {A : QA} {rs : QX × QM} {L : QL} {ro : Int32} {Bo : QA} (hG : QG G) (hM : QMl K) (E : EV K G p s m args meth c cX2_drawn "VaneCourtModel" 3) (hr : meth.sig.returnType = (some .int)) : ∀ (x1 : Int32) (B : QA) {H : Heap} {locs : List Loc} {ls : Array Slot}, f_X2_drawn x1 B = some (ro, Bo) → WP K (A, B, L, rs) H locs → lv_has ls 3 [(0, .ref (K.2.1 1000)), (1, .int x1)] → W p l e (qrm 2 60 0 0) s m args below meth c H locs 0 0 (MQ below (QE K (QR (some (.int ro)) (A, Bo, L, rs))) args s 0 0 (qA K)) (F0 m 0 ls []) := by
  have hx := E.1
  have hb := E.2.1
  have hown := E.2.2.1
  have hts := E.2.2.2.2.1
  intro x1 B H locs ls  h hw hl
  rw [f_X2_drawn] at h
  refine lv_aload_n hx hb dX2_drawn_0 rfl (lv_at hl 0 rfl) ?_
  refine r_getM (v := .ref (K.2.1 1001)) E hw hM 0 (by decide) q1353 rfl dX2_drawn_1 ?_
  refine lv_bipush (v := (12:Int32)) hx hb dX2_drawn_4 (by decide) ?_
  refine r_iald (j := 12) E hw (qi_1001 hM).at (q_lit (k := 12) (n := 3642) rfl rfl) (q_clamp (k := 12) rfl) dX2_drawn_6 ?_
  refine lv_iload_n hx hb dX2_drawn_7 rfl (lv_at hl 1 rfl) ?_
  obtain ⟨z1, h⟩ := qif_s h
  refine lv_irem hx hb dX2_drawn_8 (of_decide_eq_true z1) ?_
  obtain ⟨x2_2, e3, h⟩ := qlet_s h
  refine r_nm e3 ?_
  refine lv_istore_n (lv' := [(2, .int x2_2), (0, .ref (K.2.1 1000)), (1, .int x1)]) hx hb dX2_drawn_9 rfl hl (by decide) rfl (fun ls hl => ?_)
  refine lv_aload_n hx hb dX2_drawn_10 rfl (lv_at hl 1 rfl) ?_
  obtain ⟨B4, g5, h⟩ := qb1_s h
  refine d_V (As := []) (v0 := none) (w0 := (A, B4, L, rs)) hG E hw hl (m_X2_anew l hG hM  g5) (qM0 hM) rfl (cwV 0 hts (lw_V q1823 q1825 qs118 q140 q1826) rfl rfl rfl ⟨rfl, kd_X2_anew⟩ ⟨Nat.le_of_ble_eq_true rfl, Nat.le_of_ble_eq_true rfl⟩) rfl (rest := []) (st1 := []) rfl rfl rfl dX2_drawn_11 ⟨Nat.le_of_ble_eq_true rfl, Nat.le_of_ble_eq_true rfl⟩ (fun H locs hw => ?_)
  refine lv_iload_n hx hb dX2_drawn_14 rfl (lv_at hl 0 rfl) ?_
  have h := Option.some.inj h
  obtain ⟨h1, h2⟩ := Prod.mk.inj h
  exact d_iret E hr rfl hw h1 (by rw [h2]) dX2_drawn_15

theorem m_X2_drawn (l : Launch) {K : QK} {G : State → Prop} (hG : QG G) (hM : QMl K) {A : QA} {rs : QX × QM} {L : QL} {x1 : Int32} {B : QA} {ro : Int32} {Bo : QA} (h : f_X2_drawn x1 B = some (ro, Bo)) : MC l K G yX2_drawn (ws_ yX2_drawn cX2_drawn 3 (some .int)) 2 60 0 0 [.ref (K.2.1 1000), .int x1] (A, B, L, rs) (QR (some (.int ro)) (A, Bo, L, rs)) := by
  refine MC.of (by decide) (Nat.le_of_ble_eq_true rfl) (lv := [(0, .ref (K.2.1 1000)), (1, .int x1)]) rfl (fun p e s m below meth c ls E hr hl hw => ?_)
  exact w_X2_drawn_0 hG hM E hr _ _  h hw hl

def f_X2_turnBy_121 (x3 : Int32) (B : QA) (L : QL) : Option (QA × QL) :=
  if (0:Int32) ≤ x3 then (
  if (B 1009 0) = (0:Int32) then (
  qlet (qu B 1001 10 (0:Int32)) fun B25 =>
  some (B25, L)) else (
  qlet (qu B 1001 10 (1:Int32)) fun B27 =>
  some (B27, L))) else (
  if (2:Int32) ≤ (B 1001 9) then (
  qlet (qu B 1001 10 (0:Int32)) fun B29 =>
  some (B29, L)) else (
  if (3:Int32) ≤ ((B 1001 11) - (B 1001 11) / (10:Int32) * (10:Int32)) then (
  qlet (qu B 1001 10 (0:Int32)) fun B31 =>
  some (B31, L)) else (
  qlet (qu B 1001 10 (1:Int32)) fun B33 =>
  some (B33, L))))
set_option maxHeartbeats 4000000 in
theorem w_X2_turnBy_121 {p : Program} {l : Launch} {e : Env} {s : State} {m : MethodId} {args : Array Value} {below : List Frame} {meth : Method} {c : Code} {K : QK} {G : State → Prop} {A : QA} {rs : QX × QM} {Bo : QA} {Lo : QL} (hG : QG G) (hM : QMl K) (E : EV K G p s m args meth c cX2_turnBy "VaneCourtModel" 4) (hr : meth.sig.returnType = none) : ∀ (x3 : Int32) (B : QA) (L : QL) {H : Heap} {locs : List Loc} {ls : Array Slot}, f_X2_turnBy_121 x3 B L = some (Bo, Lo) → WP K (A, B, L, rs) H locs → lv_has ls 4 [(0, .ref (K.2.1 1000)), (3, .int x3)] → W p l e (qrm 5 139 0 0) s m args below meth c H locs 0 0 (MQ below (QE K (QR none (A, Bo, Lo, rs))) args s 0 0 (qA K)) (F0 m 121 ls []) := by
  have hx := E.1
  have hb := E.2.1
  have hown := E.2.2.1
  have hts := E.2.2.2.2.1
  intro x3 B L H locs ls  h hw hl
  rw [f_X2_turnBy_121] at h
  refine lv_aload_n hx hb dX2_turnBy_121 rfl (lv_at hl 0 rfl) ?_
  refine r_getM (v := .ref (K.2.1 1001)) E hw hM 0 (by decide) q1353 rfl dX2_turnBy_122 ?_
  refine lv_bipush (v := (10:Int32)) hx hb dX2_turnBy_125 (by decide) ?_
  refine lv_iload_n hx hb dX2_turnBy_127 rfl (lv_at hl 1 rfl) ?_
  refine lv_if_ge (tgt := 159) hx hb dX2_turnBy_128 (by decide) (fun c => ?_) (fun c => ?_)
  · have h := qi_t c h
    refine lv_aload_n hx hb dX2_turnBy_159 rfl (lv_at hl 0 rfl) ?_
    refine r_getM (v := .ref (K.2.1 1009)) E hw hM 28 (by decide) q1381 rfl dX2_turnBy_160 ?_
    refine lv_iconst (v := (0:Int32)) hx hb dX2_turnBy_163 (by decide) ?_
    refine r_zald (j := 0) E hw (qaZ hM) (q_lit (k := 0) (n := 330) rfl rfl) (q_clamp (k := 0) rfl) dX2_turnBy_164 ?_
    refine lv_if_eq (tgt := 172) hx hb dX2_turnBy_165 (by decide) (fun c => ?_) (fun c => ?_)
    · have h := qi_t c h
      refine lv_iconst (v := (0:Int32)) hx hb dX2_turnBy_172 (by decide) ?_
      obtain ⟨B25, e26, h⟩ := qlet_s h
      refine r_iastB (j := 10) E hw (qi_1001 hM) (q_lit (k := 10) (n := 3642) rfl rfl) (q_clamp (k := 10) rfl) dX2_turnBy_173 (fun H locs hw => ?_)
      rw [← e26] at hw
      have h := Option.some.inj h
      obtain ⟨h1, h2⟩ := Prod.mk.inj h
      exact d_ret E hr hw (by rw [h1, h2]) dX2_turnBy_174
    · have h := qi_f c h
      refine lv_iconst (v := (1:Int32)) hx hb dX2_turnBy_168 (by decide) ?_
      refine lv_goto (tgt := 173) hx hb dX2_turnBy_169 (by decide) ?_
      obtain ⟨B27, e28, h⟩ := qlet_s h
      refine r_iastB (j := 10) E hw (qi_1001 hM) (q_lit (k := 10) (n := 3642) rfl rfl) (q_clamp (k := 10) rfl) dX2_turnBy_173 (fun H locs hw => ?_)
      rw [← e28] at hw
      have h := Option.some.inj h
      obtain ⟨h1, h2⟩ := Prod.mk.inj h
      exact d_ret E hr hw (by rw [h1, h2]) dX2_turnBy_174
  · have h := qi_f c h
    refine lv_aload_n hx hb dX2_turnBy_131 rfl (lv_at hl 0 rfl) ?_
    refine r_getM (v := .ref (K.2.1 1001)) E hw hM 0 (by decide) q1353 rfl dX2_turnBy_132 ?_
    refine lv_bipush (v := (9:Int32)) hx hb dX2_turnBy_135 (by decide) ?_
    refine r_iald (j := 9) E hw (qi_1001 hM).at (q_lit (k := 9) (n := 3642) rfl rfl) (q_clamp (k := 9) rfl) dX2_turnBy_137 ?_
    refine lv_iconst (v := (2:Int32)) hx hb dX2_turnBy_138 (by decide) ?_
    refine lv_icmp_ge (tgt := 172) hx hb dX2_turnBy_139 (by decide) (fun c => ?_) (fun c => ?_)
    · have h := qi_t c h
      refine lv_iconst (v := (0:Int32)) hx hb dX2_turnBy_172 (by decide) ?_
      obtain ⟨B29, e30, h⟩ := qlet_s h
      refine r_iastB (j := 10) E hw (qi_1001 hM) (q_lit (k := 10) (n := 3642) rfl rfl) (q_clamp (k := 10) rfl) dX2_turnBy_173 (fun H locs hw => ?_)
      rw [← e30] at hw
      have h := Option.some.inj h
      obtain ⟨h1, h2⟩ := Prod.mk.inj h
      exact d_ret E hr hw (by rw [h1, h2]) dX2_turnBy_174
    · have h := qi_f c h
      refine lv_aload_n hx hb dX2_turnBy_142 rfl (lv_at hl 0 rfl) ?_
      refine r_getM (v := .ref (K.2.1 1001)) E hw hM 0 (by decide) q1353 rfl dX2_turnBy_143 ?_
      refine lv_bipush (v := (11:Int32)) hx hb dX2_turnBy_146 (by decide) ?_
      refine r_iald (j := 11) E hw (qi_1001 hM).at (q_lit (k := 11) (n := 3642) rfl rfl) (q_clamp (k := 11) rfl) dX2_turnBy_148 ?_
      refine lv_bipush (v := (10:Int32)) hx hb dX2_turnBy_149 (by decide) ?_
      refine lv_irem hx hb dX2_turnBy_151 (by decide) ?_
      refine lv_iconst (v := (3:Int32)) hx hb dX2_turnBy_152 (by decide) ?_
      refine lv_icmp_ge (tgt := 172) hx hb dX2_turnBy_153 (by decide) (fun c => ?_) (fun c => ?_)
      · have h := qi_t c h
        refine lv_iconst (v := (0:Int32)) hx hb dX2_turnBy_172 (by decide) ?_
        obtain ⟨B31, e32, h⟩ := qlet_s h
        refine r_iastB (j := 10) E hw (qi_1001 hM) (q_lit (k := 10) (n := 3642) rfl rfl) (q_clamp (k := 10) rfl) dX2_turnBy_173 (fun H locs hw => ?_)
        rw [← e32] at hw
        have h := Option.some.inj h
        obtain ⟨h1, h2⟩ := Prod.mk.inj h
        exact d_ret E hr hw (by rw [h1, h2]) dX2_turnBy_174
      · have h := qi_f c h
        refine lv_goto (tgt := 168) hx hb dX2_turnBy_156 (by decide) ?_
        refine lv_iconst (v := (1:Int32)) hx hb dX2_turnBy_168 (by decide) ?_
        refine lv_goto (tgt := 173) hx hb dX2_turnBy_169 (by decide) ?_
        obtain ⟨B33, e34, h⟩ := qlet_s h
        refine r_iastB (j := 10) E hw (qi_1001 hM) (q_lit (k := 10) (n := 3642) rfl rfl) (q_clamp (k := 10) rfl) dX2_turnBy_173 (fun H locs hw => ?_)
        rw [← e34] at hw
        have h := Option.some.inj h
        obtain ⟨h1, h2⟩ := Prod.mk.inj h
        exact d_ret E hr hw (by rw [h1, h2]) dX2_turnBy_174

def f_X2_turnBy_42 (x1 : Int32) (s1 : Int32) (s2 : Int32) (B : QA) (L : QL) : Option (QA × QL) :=
  qb3 (f_X2_says s1 s2 (-3:Int32) (3:Int32) B L) fun u7 B8 L9 =>
  qlet (qu B8 1001 8 ((((B8 1001 8) + u7) + (4:Int32)) - (((B8 1001 8) + u7) + (4:Int32)) / (4:Int32) * (4:Int32))) fun B11 =>
  qb1 (f_X2_name B11) fun B13 =>
  qb3 (f_X2_says (1:Int32) x1 (0:Int32) (9:Int32) B13 L9) fun u15 B16 L17 =>
  qlet (qu B16 1001 9 u15) fun B19 =>
  qb1 (f_X2_name B19) fun B21 =>
  qb1 (f_X2_clauseOf (B21 1001 2) (2:Int32) (0:Int32) B21) fun u23 =>
  if u23 < (0:Int32) then (
  f_X2_turnBy_121 u23 B21 L17) else (
  qb2 (f_X2_work (B21 1001 2) u23 B21 L17) fun B35 L36 =>
  f_X2_turnBy_121 u23 B35 L36)
set_option maxHeartbeats 4000000 in
theorem w_X2_turnBy_42 {p : Program} {l : Launch} {e : Env} {s : State} {m : MethodId} {args : Array Value} {below : List Frame} {meth : Method} {c : Code} {K : QK} {G : State → Prop} {A : QA} {rs : QX × QM} {Bo : QA} {Lo : QL} (hG : QG G) (hM : QMl K) (E : EV K G p s m args meth c cX2_turnBy "VaneCourtModel" 4) (hr : meth.sig.returnType = none) : ∀ (x1 : Int32) (s1 : Int32) (s2 : Int32) (B : QA) (L : QL) {H : Heap} {locs : List Loc} {ls : Array Slot}, f_X2_turnBy_42 x1 s1 s2 B L = some (Bo, Lo) → WP K (A, B, L, rs) H locs → lv_has ls 4 [(0, .ref (K.2.1 1000)), (1, .int x1)] → W p l e (qrm 5 139 0 0) s m args below meth c H locs 0 0 (MQ below (QE K (QR none (A, Bo, Lo, rs))) args s 0 0 (qA K)) (F0 m 42 ls [.int s2, .int s1, .ref (K.2.1 1000)]) := by
  have hx := E.1
  have hb := E.2.1
  have hown := E.2.2.1
  have hts := E.2.2.2.2.1
  intro x1 s1 s2 B L H locs ls  h hw hl
  rw [f_X2_turnBy_42] at h
  refine lv_bipush (v := (-3:Int32)) hx hb dX2_turnBy_42 (by decide) ?_
  refine lv_iconst (v := (3:Int32)) hx hb dX2_turnBy_44 (by decide) ?_
  obtain ⟨u7, B8, L9, g10, h⟩ := qb3_s h
  refine d_V (As := [.int s1, .int s2, .int (-3:Int32), .int (3:Int32)]) (v0 := some (.int u7)) (w0 := (A, B8, L9, rs)) hG E hw hl (m_X2_says l hG hM  g10) (qM0 hM) rfl (cwV 4 hts (lw_V q1812 q1814 qs116 q140 q1815) rfl rfl rfl ⟨rfl, kd_X2_says⟩ ⟨Nat.le_of_ble_eq_true rfl, Nat.le_of_ble_eq_true rfl⟩) rfl (rest := []) (st1 := [.int u7]) rfl rfl rfl dX2_turnBy_45 ⟨Nat.le_of_ble_eq_true rfl, Nat.le_of_ble_eq_true rfl⟩ (fun H locs hw => ?_)
  refine lv_istore_n (lv' := [(2, .int u7), (0, .ref (K.2.1 1000)), (1, .int x1)]) hx hb dX2_turnBy_48 rfl hl (by decide) rfl (fun ls hl => ?_)
  refine lv_aload_n hx hb dX2_turnBy_49 rfl (lv_at hl 1 rfl) ?_
  refine r_getM (v := .ref (K.2.1 1001)) E hw hM 0 (by decide) q1353 rfl dX2_turnBy_50 ?_
  refine lv_bipush (v := (8:Int32)) hx hb dX2_turnBy_53 (by decide) ?_
  refine lv_aload_n hx hb dX2_turnBy_55 rfl (lv_at hl 1 rfl) ?_
  refine r_getM (v := .ref (K.2.1 1001)) E hw hM 0 (by decide) q1353 rfl dX2_turnBy_56 ?_
  refine lv_bipush (v := (8:Int32)) hx hb dX2_turnBy_59 (by decide) ?_
  refine r_iald (j := 8) E hw (qi_1001 hM).at (q_lit (k := 8) (n := 3642) rfl rfl) (q_clamp (k := 8) rfl) dX2_turnBy_61 ?_
  refine lv_iload_n hx hb dX2_turnBy_62 rfl (lv_at hl 0 rfl) ?_
  refine lv_iadd hx hb dX2_turnBy_63 ?_
  refine lv_iconst (v := (4:Int32)) hx hb dX2_turnBy_64 (by decide) ?_
  refine lv_iadd hx hb dX2_turnBy_65 ?_
  refine lv_iconst (v := (4:Int32)) hx hb dX2_turnBy_66 (by decide) ?_
  refine lv_irem hx hb dX2_turnBy_67 (by decide) ?_
  obtain ⟨B11, e12, h⟩ := qlet_s h
  refine r_iastB (j := 8) E hw (qi_1001 hM) (q_lit (k := 8) (n := 3642) rfl rfl) (q_clamp (k := 8) rfl) dX2_turnBy_68 (fun H locs hw => ?_)
  rw [← e12] at hw
  refine lv_aload_n hx hb dX2_turnBy_69 rfl (lv_at hl 1 rfl) ?_
  obtain ⟨B13, g14, h⟩ := qb1_s h
  refine d_V (As := []) (v0 := none) (w0 := (A, B13, L9, rs)) hG E hw hl (m_X2_name l hG hM  g14) (qM0 hM) rfl (cwV 0 hts (lw_V q1775 q1777 qs111 q140 q1778) rfl rfl rfl ⟨rfl, kd_X2_name⟩ ⟨Nat.le_of_ble_eq_true rfl, Nat.le_of_ble_eq_true rfl⟩) rfl (rest := []) (st1 := []) rfl rfl rfl dX2_turnBy_70 ⟨Nat.le_of_ble_eq_true rfl, Nat.le_of_ble_eq_true rfl⟩ (fun H locs hw => ?_)
  refine lv_aload_n hx hb dX2_turnBy_73 rfl (lv_at hl 1 rfl) ?_
  refine r_getM (v := .ref (K.2.1 1001)) E hw hM 0 (by decide) q1353 rfl dX2_turnBy_74 ?_
  refine lv_bipush (v := (9:Int32)) hx hb dX2_turnBy_77 (by decide) ?_
  refine lv_aload_n hx hb dX2_turnBy_79 rfl (lv_at hl 1 rfl) ?_
  refine lv_iconst (v := (1:Int32)) hx hb dX2_turnBy_80 (by decide) ?_
  refine lv_iload_n hx hb dX2_turnBy_81 rfl (lv_at hl 2 rfl) ?_
  refine lv_iconst (v := (0:Int32)) hx hb dX2_turnBy_82 (by decide) ?_
  refine lv_bipush (v := (9:Int32)) hx hb dX2_turnBy_83 (by decide) ?_
  obtain ⟨u15, B16, L17, g18, h⟩ := qb3_s h
  refine d_V (As := [.int (1:Int32), .int x1, .int (0:Int32), .int (9:Int32)]) (v0 := some (.int u15)) (w0 := (A, B16, L17, rs)) hG E hw hl (m_X2_says l hG hM  g18) (qM0 hM) rfl (cwV 4 hts (lw_V q1812 q1814 qs116 q140 q1815) rfl rfl rfl ⟨rfl, kd_X2_says⟩ ⟨Nat.le_of_ble_eq_true rfl, Nat.le_of_ble_eq_true rfl⟩) rfl (rest := [.int (9:Int32), .ref (K.2.1 1001)]) (st1 := [.int u15, .int (9:Int32), .ref (K.2.1 1001)]) rfl rfl rfl dX2_turnBy_85 ⟨Nat.le_of_ble_eq_true rfl, Nat.le_of_ble_eq_true rfl⟩ (fun H locs hw => ?_)
  obtain ⟨B19, e20, h⟩ := qlet_s h
  refine r_iastB (j := 9) E hw (qi_1001 hM) (q_lit (k := 9) (n := 3642) rfl rfl) (q_clamp (k := 9) rfl) dX2_turnBy_88 (fun H locs hw => ?_)
  rw [← e20] at hw
  refine lv_aload_n hx hb dX2_turnBy_89 rfl (lv_at hl 1 rfl) ?_
  obtain ⟨B21, g22, h⟩ := qb1_s h
  refine d_V (As := []) (v0 := none) (w0 := (A, B21, L17, rs)) hG E hw hl (m_X2_name l hG hM  g22) (qM0 hM) rfl (cwV 0 hts (lw_V q1775 q1777 qs111 q140 q1778) rfl rfl rfl ⟨rfl, kd_X2_name⟩ ⟨Nat.le_of_ble_eq_true rfl, Nat.le_of_ble_eq_true rfl⟩) rfl (rest := []) (st1 := []) rfl rfl rfl dX2_turnBy_90 ⟨Nat.le_of_ble_eq_true rfl, Nat.le_of_ble_eq_true rfl⟩ (fun H locs hw => ?_)
  refine lv_aload_n hx hb dX2_turnBy_93 rfl (lv_at hl 1 rfl) ?_
  refine lv_aload_n hx hb dX2_turnBy_94 rfl (lv_at hl 1 rfl) ?_
  refine r_getM (v := .ref (K.2.1 1001)) E hw hM 0 (by decide) q1353 rfl dX2_turnBy_95 ?_
  refine lv_iconst (v := (2:Int32)) hx hb dX2_turnBy_98 (by decide) ?_
  refine r_iald (j := 2) E hw (qi_1001 hM).at (q_lit (k := 2) (n := 3642) rfl rfl) (q_clamp (k := 2) rfl) dX2_turnBy_99 ?_
  refine lv_iconst (v := (2:Int32)) hx hb dX2_turnBy_100 (by decide) ?_
  refine lv_iconst (v := (0:Int32)) hx hb dX2_turnBy_101 (by decide) ?_
  obtain ⟨u23, g24, h⟩ := qb1_s h
  refine d_V (As := [.int (B21 1001 2), .int (2:Int32), .int (0:Int32)]) (v0 := some (.int u23)) (w0 := (A, B21, L17, rs)) hG E hw hl (m_X2_clauseOf l hG hM  g24) (qM0 hM) rfl (cwV 3 hts (lw_V q1767 q1769 qs109 q140 q1770) rfl rfl rfl ⟨rfl, kd_X2_clauseOf⟩ ⟨Nat.le_of_ble_eq_true rfl, Nat.le_of_ble_eq_true rfl⟩) rfl (rest := []) (st1 := [.int u23]) rfl rfl rfl dX2_turnBy_102 ⟨Nat.le_of_ble_eq_true rfl, Nat.le_of_ble_eq_true rfl⟩ (fun H locs hw => ?_)
  refine lv_istore_n (lv' := [(3, .int u23), (2, .int u7), (0, .ref (K.2.1 1000)), (1, .int x1)]) hx hb dX2_turnBy_105 rfl hl (by decide) rfl (fun ls hl => ?_)
  refine lv_iload_n hx hb dX2_turnBy_106 rfl (lv_at hl 0 rfl) ?_
  refine lv_if_lt (tgt := 121) hx hb dX2_turnBy_107 (by decide) (fun c => ?_) (fun c => ?_)
  · have h := qi_t c h
    exact w_X2_turnBy_121 hG hM E hr  _ _ _   h hw (lv_sub hl [2, 0] rfl)
  · have h := qi_f c h
    refine lv_aload_n hx hb dX2_turnBy_110 rfl (lv_at hl 2 rfl) ?_
    refine lv_aload_n hx hb dX2_turnBy_111 rfl (lv_at hl 2 rfl) ?_
    refine r_getM (v := .ref (K.2.1 1001)) E hw hM 0 (by decide) q1353 rfl dX2_turnBy_112 ?_
    refine lv_iconst (v := (2:Int32)) hx hb dX2_turnBy_115 (by decide) ?_
    refine r_iald (j := 2) E hw (qi_1001 hM).at (q_lit (k := 2) (n := 3642) rfl rfl) (q_clamp (k := 2) rfl) dX2_turnBy_116 ?_
    refine lv_iload_n hx hb dX2_turnBy_117 rfl (lv_at hl 0 rfl) ?_
    obtain ⟨B35, L36, g37, h⟩ := qb2_s h
    refine d_V (As := [.int (B21 1001 2), .int u23]) (v0 := none) (w0 := (A, B35, L36, rs)) hG E hw hl (m_X2_work l hG hM  g37) (qM0 hM) rfl (cwV 2 hts (lw_V q1779 q1781 qs112 q140 q1782) rfl rfl rfl ⟨rfl, kd_X2_work⟩ ⟨Nat.le_of_ble_eq_true rfl, Nat.le_of_ble_eq_true rfl⟩) rfl (rest := []) (st1 := []) rfl rfl rfl dX2_turnBy_118 ⟨Nat.le_of_ble_eq_true rfl, Nat.le_of_ble_eq_true rfl⟩ (fun H locs hw => ?_)
    exact w_X2_turnBy_121 hG hM E hr  _ _ _   h hw (lv_sub hl [2, 0] rfl)

def f_X2_turnBy (x1 : Int32) (B : QA) (L : QL) : Option (QA × QL) :=
  qlet (qu B 1001 11 ((B 1001 11) + (1:Int32))) fun B1 =>
  qb1 (f_X2_name B1) fun B3 =>
  qlet (qu B3 1007 3 x1) fun B5 =>
  if x1 = (0:Int32) then (
  f_X2_turnBy_42 x1 (0:Int32) (1:Int32) B5 L) else (
  if x1 = (1:Int32) then (
  f_X2_turnBy_42 x1 (0:Int32) (-1:Int32) B5 L) else (
  f_X2_turnBy_42 x1 (0:Int32) (0:Int32) B5 L))
set_option maxHeartbeats 4000000 in
theorem w_X2_turnBy_0 {p : Program} {l : Launch} {e : Env} {s : State} {m : MethodId} {args : Array Value} {below : List Frame} {meth : Method} {c : Code} {K : QK} {G : State → Prop} {A : QA} {rs : QX × QM} {Bo : QA} {Lo : QL} (hG : QG G) (hM : QMl K) (E : EV K G p s m args meth c cX2_turnBy "VaneCourtModel" 4) (hr : meth.sig.returnType = none) : ∀ (x1 : Int32) (B : QA) (L : QL) {H : Heap} {locs : List Loc} {ls : Array Slot}, f_X2_turnBy x1 B L = some (Bo, Lo) → WP K (A, B, L, rs) H locs → lv_has ls 4 [(0, .ref (K.2.1 1000)), (1, .int x1)] → W p l e (qrm 5 139 0 0) s m args below meth c H locs 0 0 (MQ below (QE K (QR none (A, Bo, Lo, rs))) args s 0 0 (qA K)) (F0 m 0 ls []) := by
  have hx := E.1
  have hb := E.2.1
  have hown := E.2.2.1
  have hts := E.2.2.2.2.1
  intro x1 B L H locs ls  h hw hl
  rw [f_X2_turnBy] at h
  refine lv_aload_n hx hb dX2_turnBy_0 rfl (lv_at hl 0 rfl) ?_
  refine r_getM (v := .ref (K.2.1 1001)) E hw hM 0 (by decide) q1353 rfl dX2_turnBy_1 ?_
  refine lv_bipush (v := (11:Int32)) hx hb dX2_turnBy_4 (by decide) ?_
  refine lv_dup2_11 hx hb dX2_turnBy_6 rfl rfl ?_
  refine r_iald (j := 11) E hw (qi_1001 hM).at (q_lit (k := 11) (n := 3642) rfl rfl) (q_clamp (k := 11) rfl) dX2_turnBy_7 ?_
  refine lv_iconst (v := (1:Int32)) hx hb dX2_turnBy_8 (by decide) ?_
  refine lv_iadd hx hb dX2_turnBy_9 ?_
  obtain ⟨B1, e2, h⟩ := qlet_s h
  refine r_iastB (j := 11) E hw (qi_1001 hM) (q_lit (k := 11) (n := 3642) rfl rfl) (q_clamp (k := 11) rfl) dX2_turnBy_10 (fun H locs hw => ?_)
  rw [← e2] at hw
  refine lv_aload_n hx hb dX2_turnBy_11 rfl (lv_at hl 0 rfl) ?_
  obtain ⟨B3, g4, h⟩ := qb1_s h
  refine d_V (As := []) (v0 := none) (w0 := (A, B3, L, rs)) hG E hw hl (m_X2_name l hG hM  g4) (qM0 hM) rfl (cwV 0 hts (lw_V q1775 q1777 qs111 q140 q1778) rfl rfl rfl ⟨rfl, kd_X2_name⟩ ⟨Nat.le_of_ble_eq_true rfl, Nat.le_of_ble_eq_true rfl⟩) rfl (rest := []) (st1 := []) rfl rfl rfl dX2_turnBy_12 ⟨Nat.le_of_ble_eq_true rfl, Nat.le_of_ble_eq_true rfl⟩ (fun H locs hw => ?_)
  refine lv_aload_n hx hb dX2_turnBy_15 rfl (lv_at hl 0 rfl) ?_
  refine r_getM (v := .ref (K.2.1 1007)) E hw hM 25 (by decide) q1378 rfl dX2_turnBy_16 ?_
  refine lv_iconst (v := (3:Int32)) hx hb dX2_turnBy_19 (by decide) ?_
  refine lv_iload_n hx hb dX2_turnBy_20 rfl (lv_at hl 1 rfl) ?_
  obtain ⟨B5, e6, h⟩ := qlet_s h
  refine r_iastB (j := 3) E hw (qi_1007 hM) (q_lit (k := 3) (n := 8) rfl rfl) (q_clamp (k := 3) rfl) dX2_turnBy_21 (fun H locs hw => ?_)
  rw [← e6] at hw
  refine lv_aload_n hx hb dX2_turnBy_22 rfl (lv_at hl 0 rfl) ?_
  refine lv_iconst (v := (0:Int32)) hx hb dX2_turnBy_23 (by decide) ?_
  refine lv_iload_n hx hb dX2_turnBy_24 rfl (lv_at hl 1 rfl) ?_
  refine lv_if_ne (tgt := 32) hx hb dX2_turnBy_25 (by decide) (fun c => ?_) (fun c => ?_)
  · have h := qi_f c h
    refine lv_iload_n hx hb dX2_turnBy_32 rfl (lv_at hl 1 rfl) ?_
    refine lv_iconst (v := (1:Int32)) hx hb dX2_turnBy_33 (by decide) ?_
    refine lv_icmp_ne (tgt := 41) hx hb dX2_turnBy_34 (by decide) (fun c => ?_) (fun c => ?_)
    · have h := qi_f c h
      refine lv_iconst (v := (0:Int32)) hx hb dX2_turnBy_41 (by decide) ?_
      exact w_X2_turnBy_42 hG hM E hr  _ _ _ _ _   h hw (lv_sub hl [0, 1] rfl)
    · have h := qi_t c h
      refine lv_iconst (v := (-1:Int32)) hx hb dX2_turnBy_37 (by decide) ?_
      refine lv_goto (tgt := 42) hx hb dX2_turnBy_38 (by decide) ?_
      exact w_X2_turnBy_42 hG hM E hr  _ _ _ _ _   h hw (lv_sub hl [0, 1] rfl)
  · have h := qi_t c h
    refine lv_iconst (v := (1:Int32)) hx hb dX2_turnBy_28 (by decide) ?_
    refine lv_goto (tgt := 42) hx hb dX2_turnBy_29 (by decide) ?_
    exact w_X2_turnBy_42 hG hM E hr  _ _ _ _ _   h hw (lv_sub hl [0, 1] rfl)

theorem m_X2_turnBy (l : Launch) {K : QK} {G : State → Prop} (hG : QG G) (hM : QMl K) {A : QA} {rs : QX × QM} {x1 : Int32} {B : QA} {L : QL} {Bo : QA} {Lo : QL} (h : f_X2_turnBy x1 B L = some (Bo, Lo)) : MC l K G yX2_turnBy (ws_ yX2_turnBy cX2_turnBy 4 none) 5 139 0 0 [.ref (K.2.1 1000), .int x1] (A, B, L, rs) (QR none (A, Bo, Lo, rs)) := by
  refine MC.of (by decide) (Nat.le_of_ble_eq_true rfl) (lv := [(0, .ref (K.2.1 1000)), (1, .int x1)]) rfl (fun p e s m below meth c ls E hr hl hw => ?_)
  exact w_X2_turnBy_0 hG hM E hr _ _ _  h hw hl

def f_X2_pass_15 (B : QA) (L : QL) : Option (QA × QL) :=
  qb2 (f_X2_drawn (10:Int32) B) fun u1 B2 =>
  qb2 (f_X2_turnBy u1 B2 L) fun B4 L5 =>
  some (B4, L5)
set_option maxHeartbeats 4000000 in
theorem w_X2_pass_15 {p : Program} {l : Launch} {e : Env} {s : State} {m : MethodId} {args : Array Value} {below : List Frame} {meth : Method} {c : Code} {K : QK} {G : State → Prop} {A : QA} {rs : QX × QM} {Bo : QA} {Lo : QL} (hG : QG G) (hM : QMl K) (E : EV K G p s m args meth c cX2_pass "VaneCourtModel" 1) (hr : meth.sig.returnType = none) : ∀ (B : QA) (L : QL) {H : Heap} {locs : List Loc} {ls : Array Slot}, f_X2_pass_15 B L = some (Bo, Lo) → WP K (A, B, L, rs) H locs → lv_has ls 1 [(0, .ref (K.2.1 1000))] → W p l e (qrm 7 189 0 0) s m args below meth c H locs 0 0 (MQ below (QE K (QR none (A, Bo, Lo, rs))) args s 0 0 (qA K)) (F0 m 15 ls []) := by
  have hx := E.1
  have hb := E.2.1
  have hown := E.2.2.1
  have hts := E.2.2.2.2.1
  intro B L H locs ls  h hw hl
  rw [f_X2_pass_15] at h
  refine lv_aload_n hx hb dX2_pass_15 rfl (lv_at hl 0 rfl) ?_
  refine lv_aload_n hx hb dX2_pass_16 rfl (lv_at hl 0 rfl) ?_
  refine lv_bipush (v := (10:Int32)) hx hb dX2_pass_17 (by decide) ?_
  obtain ⟨u1, B2, g3, h⟩ := qb2_s h
  refine d_V (As := [.int (10:Int32)]) (v0 := some (.int u1)) (w0 := (A, B2, L, rs)) hG E hw hl (m_X2_drawn l hG hM  g3) (qM0 hM) rfl (cwV 1 hts (lw_V q1819 q1821 qs117 q140 q1822) rfl rfl rfl ⟨rfl, kd_X2_drawn⟩ ⟨Nat.le_of_ble_eq_true rfl, Nat.le_of_ble_eq_true rfl⟩) rfl (rest := [.ref (K.2.1 1000)]) (st1 := [.int u1, .ref (K.2.1 1000)]) rfl rfl rfl dX2_pass_19 ⟨Nat.le_of_ble_eq_true rfl, Nat.le_of_ble_eq_true rfl⟩ (fun H locs hw => ?_)
  obtain ⟨B4, L5, g6, h⟩ := qb2_s h
  refine d_V (As := [.int u1]) (v0 := none) (w0 := (A, B4, L5, rs)) hG E hw hl (m_X2_turnBy l hG hM  g6) (qM0 hM) rfl (cwV 1 hts (lw_V q1827 q1829 qs119 q140 q1830) rfl rfl rfl ⟨rfl, kd_X2_turnBy⟩ ⟨Nat.le_of_ble_eq_true rfl, Nat.le_of_ble_eq_true rfl⟩) rfl (rest := []) (st1 := []) rfl rfl rfl dX2_pass_22 ⟨Nat.le_of_ble_eq_true rfl, Nat.le_of_ble_eq_true rfl⟩ (fun H locs hw => ?_)
  have h := Option.some.inj h
  obtain ⟨h1, h2⟩ := Prod.mk.inj h
  exact d_ret E hr hw (by rw [h1, h2]) dX2_pass_25

def f_X2_pass (B : QA) (L : QL) : Option (QA × QL) :=
  if (B 1001 13) = (-1:Int32) then (
  f_X2_pass_15 B L) else (
  qb2 (f_X2_hear B L) fun B7 L8 =>
  f_X2_pass_15 B7 L8)
set_option maxHeartbeats 4000000 in
theorem w_X2_pass_0 {p : Program} {l : Launch} {e : Env} {s : State} {m : MethodId} {args : Array Value} {below : List Frame} {meth : Method} {c : Code} {K : QK} {G : State → Prop} {A : QA} {rs : QX × QM} {Bo : QA} {Lo : QL} (hG : QG G) (hM : QMl K) (E : EV K G p s m args meth c cX2_pass "VaneCourtModel" 1) (hr : meth.sig.returnType = none) : ∀ (B : QA) (L : QL) {H : Heap} {locs : List Loc} {ls : Array Slot}, f_X2_pass B L = some (Bo, Lo) → WP K (A, B, L, rs) H locs → lv_has ls 1 [(0, .ref (K.2.1 1000))] → W p l e (qrm 7 189 0 0) s m args below meth c H locs 0 0 (MQ below (QE K (QR none (A, Bo, Lo, rs))) args s 0 0 (qA K)) (F0 m 0 ls []) := by
  have hx := E.1
  have hb := E.2.1
  have hown := E.2.2.1
  have hts := E.2.2.2.2.1
  intro B L H locs ls  h hw hl
  rw [f_X2_pass] at h
  refine lv_aload_n hx hb dX2_pass_0 rfl (lv_at hl 0 rfl) ?_
  refine r_getM (v := .ref (K.2.1 1001)) E hw hM 0 (by decide) q1353 rfl dX2_pass_1 ?_
  refine lv_bipush (v := (13:Int32)) hx hb dX2_pass_4 (by decide) ?_
  refine r_iald (j := 13) E hw (qi_1001 hM).at (q_lit (k := 13) (n := 3642) rfl rfl) (q_clamp (k := 13) rfl) dX2_pass_6 ?_
  refine lv_iconst (v := (-1:Int32)) hx hb dX2_pass_7 (by decide) ?_
  refine lv_icmp_eq (tgt := 15) hx hb dX2_pass_8 (by decide) (fun c => ?_) (fun c => ?_)
  · have h := qi_t c h
    exact w_X2_pass_15 hG hM E hr  _ _   h hw (lv_sub hl [0] rfl)
  · have h := qi_f c h
    refine lv_aload_n hx hb dX2_pass_11 rfl (lv_at hl 0 rfl) ?_
    obtain ⟨B7, L8, g9, h⟩ := qb2_s h
    refine d_V (As := []) (v0 := none) (w0 := (A, B7, L8, rs)) hG E hw hl (m_X2_hear l hG hM  g9) (qM0 hM) rfl (cwV 0 hts (lw_V q1755 q1757 qs106 q140 q1758) rfl rfl rfl ⟨rfl, kd_X2_hear⟩ ⟨Nat.le_of_ble_eq_true rfl, Nat.le_of_ble_eq_true rfl⟩) rfl (rest := []) (st1 := []) rfl rfl rfl dX2_pass_12 ⟨Nat.le_of_ble_eq_true rfl, Nat.le_of_ble_eq_true rfl⟩ (fun H locs hw => ?_)
    exact w_X2_pass_15 hG hM E hr  _ _   h hw (lv_sub hl [0] rfl)

theorem m_X2_pass (l : Launch) {K : QK} {G : State → Prop} (hG : QG G) (hM : QMl K) {A : QA} {rs : QX × QM} {B : QA} {L : QL} {Bo : QA} {Lo : QL} (h : f_X2_pass B L = some (Bo, Lo)) : MC l K G yX2_pass (ws_ yX2_pass cX2_pass 1 none) 7 189 0 0 [.ref (K.2.1 1000)] (A, B, L, rs) (QR none (A, Bo, Lo, rs)) := by
  refine MC.of (by decide) (Nat.le_of_ble_eq_true rfl) (lv := [(0, .ref (K.2.1 1000))]) rfl (fun p e s m below meth c ls E hr hl hw => ?_)
  exact w_X2_pass_0 hG hM E hr _ _  h hw hl

def f_X2_arePassed_2 : Nat → Int32 → Int32 → QA → QL → Option (Int32 × QA × QL)
  | 0, _, _, _, _ => none
  | n + 1, x1, x2, B, L => if x1 ≤ x2 then (
  some ((1:Int32), B, L)) else (
  if (B 1001 11) = (9999:Int32) then (
  some ((0:Int32), B, L)) else (
  qb1 (f_X2_keep B) fun B1 =>
  qb2 (f_X2_pass B1 L) fun B3 L4 =>
  qlet (x2 + (1:Int32)) fun x2_6 =>
  f_X2_arePassed_2 n x1 x2_6 B3 L4))
set_option maxHeartbeats 4000000 in
theorem w_X2_arePassed_2 {p : Program} {l : Launch} {e : Env} {s : State} {m : MethodId} {args : Array Value} {below : List Frame} {meth : Method} {c : Code} {K : QK} {G : State → Prop} {A : QA} {rs : QX × QM} {ro : Int32} {Bo : QA} {Lo : QL} (hG : QG G) (hM : QMl K) (E : EV K G p s m args meth c cX2_arePassed "VaneCourtModel" 3) (hr : meth.sig.returnType = (some .boolean)) : ∀ (n : Nat) (x1 : Int32) (x2 : Int32) (B : QA) (L : QL) {H : Heap} {locs : List Loc} {ls : Array Slot}, f_X2_arePassed_2 n x1 x2 B L = some (ro, Bo, Lo) → WP K (A, B, L, rs) H locs → lv_has ls 3 [(0, .ref (K.2.1 1000)), (1, .int x1), (2, .int x2)] → W p l e (qrm 8 209 0 0) s m args below meth c H locs 0 0 (MQ below (QE K (QR (some (.int ro)) (A, Bo, Lo, rs))) args s 0 0 (qA K)) (F0 m 2 ls []) := by
  have hx := E.1
  have hb := E.2.1
  have hown := E.2.2.1
  have hts := E.2.2.2.2.1
  intro n
  induction n with
  | zero =>
    intro x1 x2 B L H locs ls  h hw hl
    cases h
  | succ n ih =>
    intro x1 x2 B L H locs ls  h hw hl
    rw [f_X2_arePassed_2] at h
    refine lv_iload_n hx hb dX2_arePassed_2 rfl (lv_at hl 2 rfl) ?_
    refine lv_iload_n hx hb dX2_arePassed_3 rfl (lv_at hl 1 rfl) ?_
    refine lv_icmp_ge (tgt := 36) hx hb dX2_arePassed_4 (by decide) (fun c => ?_) (fun c => ?_)
    · have h := qi_t c h
      refine lv_iconst (v := (1:Int32)) hx hb dX2_arePassed_36 (by decide) ?_
      have h := Option.some.inj h
      obtain ⟨h1, h2⟩ := Prod.mk.inj h
      obtain ⟨h2, h3⟩ := Prod.mk.inj h2
      exact d_iret E hr rfl hw h1 (by rw [h2, h3]) dX2_arePassed_37
    · have h := qi_f c h
      refine lv_aload_n hx hb dX2_arePassed_7 rfl (lv_at hl 0 rfl) ?_
      refine r_getM (v := .ref (K.2.1 1001)) E hw hM 0 (by decide) q1353 rfl dX2_arePassed_8 ?_
      refine lv_bipush (v := (11:Int32)) hx hb dX2_arePassed_11 (by decide) ?_
      refine r_iald (j := 11) E hw (qi_1001 hM).at (q_lit (k := 11) (n := 3642) rfl rfl) (q_clamp (k := 11) rfl) dX2_arePassed_13 ?_
      refine lv_sipush (v := (9999:Int32)) hx hb dX2_arePassed_14 (by decide) ?_
      refine lv_icmp_ne (tgt := 22) hx hb dX2_arePassed_17 (by decide) (fun c => ?_) (fun c => ?_)
      · have h := qi_f c h
        refine lv_aload_n hx hb dX2_arePassed_22 rfl (lv_at hl 0 rfl) ?_
        obtain ⟨B1, g2, h⟩ := qb1_s h
        refine d_V (As := []) (v0 := none) (w0 := (A, B1, L, rs)) hG E hw hl (m_X2_keep l hG hM  g2) (qM0 hM) rfl (cwV 0 hts (lw_V q1703 q1705 qs98 q140 q1706) rfl rfl rfl ⟨rfl, kd_X2_keep⟩ ⟨Nat.le_of_ble_eq_true rfl, Nat.le_of_ble_eq_true rfl⟩) rfl (rest := []) (st1 := []) rfl rfl rfl dX2_arePassed_23 ⟨Nat.le_of_ble_eq_true rfl, Nat.le_of_ble_eq_true rfl⟩ (fun H locs hw => ?_)
        refine lv_aload_n hx hb dX2_arePassed_26 rfl (lv_at hl 0 rfl) ?_
        obtain ⟨B3, L4, g5, h⟩ := qb2_s h
        refine d_V (As := []) (v0 := none) (w0 := (A, B3, L4, rs)) hG E hw hl (m_X2_pass l hG hM  g5) (qM0 hM) rfl (cwV 0 hts (lw_V q1751 q1753 qs105 q140 q1754) rfl rfl rfl ⟨rfl, kd_X2_pass⟩ ⟨Nat.le_of_ble_eq_true rfl, Nat.le_of_ble_eq_true rfl⟩) rfl (rest := []) (st1 := []) rfl rfl rfl dX2_arePassed_27 ⟨Nat.le_of_ble_eq_true rfl, Nat.le_of_ble_eq_true rfl⟩ (fun H locs hw => ?_)
        obtain ⟨x2_6, e7, h⟩ := qlet_s h
        refine lv_iinc (v := x2_6) (lv' := [(2, .int x2_6), (0, .ref (K.2.1 1000)), (1, .int x1)]) (k := 2) hx hb dX2_arePassed_30 hl rfl (by rw [e7]; rfl) (by decide) rfl (fun ls hl => ?_)
        refine lv_goto (tgt := 2) hx hb dX2_arePassed_33 (by decide) ?_
        exact ih _ _ _ _  h hw (lv_sub hl [1, 2, 0] rfl)
      · have h := qi_t c h
        refine lv_iconst (v := (0:Int32)) hx hb dX2_arePassed_20 (by decide) ?_
        have h := Option.some.inj h
        obtain ⟨h1, h2⟩ := Prod.mk.inj h
        obtain ⟨h2, h3⟩ := Prod.mk.inj h2
        exact d_iret E hr rfl hw h1 (by rw [h2, h3]) dX2_arePassed_21

def f_X2_arePassed (x1 : Int32) (B : QA) (L : QL) : Option (Int32 × QA × QL) :=
  f_X2_arePassed_2 FU x1 (0:Int32) B L
set_option maxHeartbeats 4000000 in
theorem w_X2_arePassed_0 {p : Program} {l : Launch} {e : Env} {s : State} {m : MethodId} {args : Array Value} {below : List Frame} {meth : Method} {c : Code} {K : QK} {G : State → Prop} {A : QA} {rs : QX × QM} {ro : Int32} {Bo : QA} {Lo : QL} (hG : QG G) (hM : QMl K) (E : EV K G p s m args meth c cX2_arePassed "VaneCourtModel" 3) (hr : meth.sig.returnType = (some .boolean)) : ∀ (x1 : Int32) (B : QA) (L : QL) {H : Heap} {locs : List Loc} {ls : Array Slot}, f_X2_arePassed x1 B L = some (ro, Bo, Lo) → WP K (A, B, L, rs) H locs → lv_has ls 3 [(0, .ref (K.2.1 1000)), (1, .int x1)] → W p l e (qrm 8 209 0 0) s m args below meth c H locs 0 0 (MQ below (QE K (QR (some (.int ro)) (A, Bo, Lo, rs))) args s 0 0 (qA K)) (F0 m 0 ls []) := by
  have hx := E.1
  have hb := E.2.1
  have hown := E.2.2.1
  have hts := E.2.2.2.2.1
  intro x1 B L H locs ls  h hw hl
  rw [f_X2_arePassed] at h
  refine lv_iconst (v := (0:Int32)) hx hb dX2_arePassed_0 (by decide) ?_
  refine lv_istore_n (lv' := [(2, .int (0:Int32)), (0, .ref (K.2.1 1000)), (1, .int x1)]) hx hb dX2_arePassed_1 rfl hl (by decide) rfl (fun ls hl => ?_)
  exact w_X2_arePassed_2 hG hM E hr  _ _ _ _ _   h hw (lv_sub hl [1, 2, 0] rfl)

theorem m_X2_arePassed (l : Launch) {K : QK} {G : State → Prop} (hG : QG G) (hM : QMl K) {A : QA} {rs : QX × QM} {x1 : Int32} {B : QA} {L : QL} {ro : Int32} {Bo : QA} {Lo : QL} (h : f_X2_arePassed x1 B L = some (ro, Bo, Lo)) : MC l K G yX2_arePassed (ws_ yX2_arePassed cX2_arePassed 3 (some .boolean)) 8 209 0 0 [.ref (K.2.1 1000), .int x1] (A, B, L, rs) (QR (some (.int ro)) (A, Bo, Lo, rs)) := by
  refine MC.of (by decide) (Nat.le_of_ble_eq_true rfl) (lv := [(0, .ref (K.2.1 1000)), (1, .int x1)]) rfl (fun p e s m below meth c ls E hr hl hw => ?_)
  exact w_X2_arePassed_0 hG hM E hr _ _ _  h hw hl

def f_X2_hour (x1 : Int32) (B : QA) (L : QL) : Option (Int32 × QA × QL) :=
  qb1 (f_X2_isIn x1 (1:Int32) (60:Int32)) fun u1 =>
  if u1 = (0:Int32) then (
  some ((-1:Int32), B, L)) else (
  if ((B 1001 11) + x1) ≤ (9999:Int32) then (
  qlet (qu B 1000 29 (0:Int32)) fun B3 =>
  qb3 (f_X2_arePassed x1 B3 L) fun u5 B6 L7 =>
  if u5 = (0:Int32) then (
  some ((-1:Int32), B6, L7)) else (
  some ((B6 1000 29), B6, L7))) else (
  some ((-1:Int32), B, L)))
set_option maxHeartbeats 4000000 in
theorem w_X2_hour_0 {p : Program} {l : Launch} {e : Env} {s : State} {m : MethodId} {args : Array Value} {below : List Frame} {meth : Method} {c : Code} {K : QK} {G : State → Prop} {A : QA} {rs : QX × QM} {ro : Int32} {Bo : QA} {Lo : QL} (hG : QG G) (hM : QMl K) (E : EV K G p s m args meth c cX2_hour "VaneCourtModel" 2) (hr : meth.sig.returnType = (some .int)) : ∀ (x1 : Int32) (B : QA) (L : QL) {H : Heap} {locs : List Loc} {ls : Array Slot}, f_X2_hour x1 B L = some (ro, Bo, Lo) → WP K (A, B, L, rs) H locs → lv_has ls 2 [(0, .ref (K.2.1 1000)), (1, .int x1)] → W p l e (qrm 9 231 0 0) s m args below meth c H locs 0 0 (MQ below (QE K (QR (some (.int ro)) (A, Bo, Lo, rs))) args s 0 0 (qA K)) (F0 m 0 ls []) := by
  have hx := E.1
  have hb := E.2.1
  have hown := E.2.2.1
  have hts := E.2.2.2.2.1
  intro x1 B L H locs ls  h hw hl
  rw [f_X2_hour] at h
  refine lv_iload_n hx hb dX2_hour_0 rfl (lv_at hl 1 rfl) ?_
  refine lv_iconst (v := (1:Int32)) hx hb dX2_hour_1 (by decide) ?_
  refine lv_bipush (v := (60:Int32)) hx hb dX2_hour_2 (by decide) ?_
  obtain ⟨u1, g2, h⟩ := qb1_s h
  refine d_S (As := [.int x1, .int (1:Int32), .int (60:Int32)]) (v0 := some (.int u1)) (w0 := (A, B, L, rs)) hG E hw hl (m_X2_isIn l hG hM  g2) (va_cwS 3 hts (lw_S q1480 q1481 q140 q1482) rfl rfl rfl kd_X2_isIn ⟨Nat.le_of_ble_eq_true rfl, Nat.le_of_ble_eq_true rfl⟩) rfl (rest := []) (st1 := [.int u1]) rfl rfl rfl dX2_hour_4 ⟨Nat.le_of_ble_eq_true rfl, Nat.le_of_ble_eq_true rfl⟩ (fun H locs hw => ?_)
  refine lv_if_eq (tgt := 25) hx hb dX2_hour_7 (by decide) (fun c => ?_) (fun c => ?_)
  · have h := qi_t c h
    refine lv_iconst (v := (-1:Int32)) hx hb dX2_hour_25 (by decide) ?_
    have h := Option.some.inj h
    obtain ⟨h1, h2⟩ := Prod.mk.inj h
    obtain ⟨h2, h3⟩ := Prod.mk.inj h2
    exact d_iret E hr rfl hw h1 (by rw [h2, h3]) dX2_hour_26
  · have h := qi_f c h
    refine lv_aload_n hx hb dX2_hour_10 rfl (lv_at hl 0 rfl) ?_
    refine r_getM (v := .ref (K.2.1 1001)) E hw hM 0 (by decide) q1353 rfl dX2_hour_11 ?_
    refine lv_bipush (v := (11:Int32)) hx hb dX2_hour_14 (by decide) ?_
    refine r_iald (j := 11) E hw (qi_1001 hM).at (q_lit (k := 11) (n := 3642) rfl rfl) (q_clamp (k := 11) rfl) dX2_hour_16 ?_
    refine lv_iload_n hx hb dX2_hour_17 rfl (lv_at hl 1 rfl) ?_
    refine lv_iadd hx hb dX2_hour_18 ?_
    refine lv_sipush (v := (9999:Int32)) hx hb dX2_hour_19 (by decide) ?_
    refine lv_icmp_le (tgt := 27) hx hb dX2_hour_22 (by decide) (fun c => ?_) (fun c => ?_)
    · have h := qi_t c h
      refine lv_aload_n hx hb dX2_hour_27 rfl (lv_at hl 0 rfl) ?_
      refine lv_iconst (v := (0:Int32)) hx hb dX2_hour_28 (by decide) ?_
      obtain ⟨B3, e4, h⟩ := qlet_s h
      refine r_putM E hw hM 29 (by decide) q1382 rfl rfl rfl (fun _ _ => rfl) dX2_hour_29 (fun H locs hw => ?_)
      rw [← e4] at hw
      refine lv_aload_n hx hb dX2_hour_32 rfl (lv_at hl 0 rfl) ?_
      refine lv_iload_n hx hb dX2_hour_33 rfl (lv_at hl 1 rfl) ?_
      obtain ⟨u5, B6, L7, g8, h⟩ := qb3_s h
      refine d_V (As := [.int x1]) (v0 := some (.int u5)) (w0 := (A, B6, L7, rs)) hG E hw hl (m_X2_arePassed l hG hM  g8) (qM0 hM) rfl (cwV 1 hts (lw_V q1747 q1749 qs104 q140 q1750) rfl rfl rfl ⟨rfl, kd_X2_arePassed⟩ ⟨Nat.le_of_ble_eq_true rfl, Nat.le_of_ble_eq_true rfl⟩) rfl (rest := []) (st1 := [.int u5]) rfl rfl rfl dX2_hour_34 ⟨Nat.le_of_ble_eq_true rfl, Nat.le_of_ble_eq_true rfl⟩ (fun H locs hw => ?_)
      refine lv_if_eq (tgt := 47) hx hb dX2_hour_37 (by decide) (fun c => ?_) (fun c => ?_)
      · have h := qi_t c h
        refine lv_iconst (v := (-1:Int32)) hx hb dX2_hour_47 (by decide) ?_
        have h := Option.some.inj h
        obtain ⟨h1, h2⟩ := Prod.mk.inj h
        obtain ⟨h2, h3⟩ := Prod.mk.inj h2
        exact d_iret E hr rfl hw h1 (by rw [h2, h3]) dX2_hour_48
      · have h := qi_f c h
        refine lv_aload_n hx hb dX2_hour_40 rfl (lv_at hl 0 rfl) ?_
        refine r_getM (v := .int (B6 1000 29)) E hw hM 29 (by decide) q1382 rfl dX2_hour_41 ?_
        refine lv_goto (tgt := 48) hx hb dX2_hour_44 (by decide) ?_
        have h := Option.some.inj h
        obtain ⟨h1, h2⟩ := Prod.mk.inj h
        obtain ⟨h2, h3⟩ := Prod.mk.inj h2
        exact d_iret E hr rfl hw h1 (by rw [h2, h3]) dX2_hour_48
    · have h := qi_f c h
      refine lv_iconst (v := (-1:Int32)) hx hb dX2_hour_25 (by decide) ?_
      have h := Option.some.inj h
      obtain ⟨h1, h2⟩ := Prod.mk.inj h
      obtain ⟨h2, h3⟩ := Prod.mk.inj h2
      exact d_iret E hr rfl hw h1 (by rw [h2, h3]) dX2_hour_26

theorem m_X2_hour (l : Launch) {K : QK} {G : State → Prop} (hG : QG G) (hM : QMl K) {A : QA} {rs : QX × QM} {x1 : Int32} {B : QA} {L : QL} {ro : Int32} {Bo : QA} {Lo : QL} (h : f_X2_hour x1 B L = some (ro, Bo, Lo)) : MC l K G yX2_hour (ws_ yX2_hour cX2_hour 2 (some .int)) 9 231 0 0 [.ref (K.2.1 1000), .int x1] (A, B, L, rs) (QR (some (.int ro)) (A, Bo, Lo, rs)) := by
  refine MC.of (by decide) (Nat.le_of_ble_eq_true rfl) (lv := [(0, .ref (K.2.1 1000)), (1, .int x1)]) rfl (fun p e s m below meth c ls E hr hl hw => ?_)
  exact w_X2_hour_0 hG hM E hr _ _ _  h hw hl

def f_X2_isPlayed (x1 : Int32) (B : QA) (L : QL) : Option (Int32 × QA × QL) :=
  qif (qok (x1 + (1:Int32)) 2820) <|
  qlet (B 1003 (x1 + (1:Int32)).toNatClampNeg) fun x2_2 =>
  qif (qok x1 2820) <|
  if (B 1003 x1.toNatClampNeg) = (5:Int32) then (
  qif (qok (x1 + (2:Int32)) 2820) <|
  qif (qok (x1 + (3:Int32)) 2820) <|
  qb2 (f_X2_newCase x2_2 (B 1003 (x1 + (2:Int32)).toNatClampNeg) (B 1003 (x1 + (3:Int32)).toNatClampNeg) (0:Int32) B) fun u7 B8 =>
  if u7 < (0:Int32) then (
  some ((0:Int32), B8, L)) else (
  some ((1:Int32), B8, L))) else (
  if (B 1003 x1.toNatClampNeg) = (6:Int32) then (
  qb2 (f_X2_call x2_2 B) fun u10 B11 =>
  qif (qbo u10) <|
  some (u10, B11, L)) else (
  if (B 1003 x1.toNatClampNeg) = (7:Int32) then (
  qb2 (f_X2_delay B) fun u14 B15 =>
  if u14 < (0:Int32) then (
  some ((0:Int32), B15, L)) else (
  some ((1:Int32), B15, L))) else (
  if (B 1003 x1.toNatClampNeg) = (8:Int32) then (
  qb2 (f_X2_appeal x2_2 B) fun u17 B18 =>
  qif (qbo u17) <|
  some (u17, B18, L)) else (
  if (B 1003 x1.toNatClampNeg) = (9:Int32) then (
  qif (qok (x1 + (2:Int32)) 2820) <|
  qb2 (f_X2_gust x2_2 (B 1003 (x1 + (2:Int32)).toNatClampNeg) B) fun u22 B23 =>
  qif (qbo u22) <|
  some (u22, B23, L)) else (
  if (B 1003 x1.toNatClampNeg) = (10:Int32) then (
  qb2 (f_X2_withdraw B) fun u26 B27 =>
  if u26 < (0:Int32) then (
  some ((0:Int32), B27, L)) else (
  some ((1:Int32), B27, L))) else (
  if (B 1003 x1.toNatClampNeg) = (11:Int32) then (
  qb3 (f_X2_arePassed x2_2 B L) fun u29 B30 L31 =>
  qif (qbo u29) <|
  some (u29, B30, L31)) else (
  some ((1:Int32), B, L))))))))
set_option maxHeartbeats 4000000 in
theorem w_X2_isPlayed_0 {p : Program} {l : Launch} {e : Env} {s : State} {m : MethodId} {args : Array Value} {below : List Frame} {meth : Method} {c : Code} {K : QK} {G : State → Prop} {A : QA} {rs : QX × QM} {ro : Int32} {Bo : QA} {Lo : QL} (hG : QG G) (hM : QMl K) (E : EV K G p s m args meth c cX2_isPlayed "VaneCourtModel" 3) (hr : meth.sig.returnType = (some .boolean)) : ∀ (x1 : Int32) (B : QA) (L : QL) {H : Heap} {locs : List Loc} {ls : Array Slot}, f_X2_isPlayed x1 B L = some (ro, Bo, Lo) → WP K (A, B, L, rs) H locs → lv_has ls 3 [(0, .ref (K.2.1 1000)), (1, .int x1)] → W p l e (qrm 9 231 0 0) s m args below meth c H locs 0 0 (MQ below (QE K (QR (some (.int ro)) (A, Bo, Lo, rs))) args s 0 0 (qA K)) (F0 m 0 ls []) := by
  have hx := E.1
  have hb := E.2.1
  have hown := E.2.2.1
  have hts := E.2.2.2.2.1
  intro x1 B L H locs ls  h hw hl
  rw [f_X2_isPlayed] at h
  refine lv_aload_n hx hb dX2_isPlayed_0 rfl (lv_at hl 0 rfl) ?_
  refine r_getM (v := .ref (K.2.1 1003)) E hw hM 2 (by decide) q1355 rfl dX2_isPlayed_1 ?_
  refine lv_iload_n hx hb dX2_isPlayed_4 rfl (lv_at hl 1 rfl) ?_
  refine lv_iconst (v := (1:Int32)) hx hb dX2_isPlayed_5 (by decide) ?_
  refine lv_iadd hx hb dX2_isPlayed_6 ?_
  obtain ⟨z1, h⟩ := qif_s h
  refine r_iald (j := (x1 + (1:Int32)).toNatClampNeg) E hw (qi_1003 hM).at (qok_in z1) rfl dX2_isPlayed_7 ?_
  obtain ⟨x2_2, e3, h⟩ := qlet_s h
  refine r_nm e3 ?_
  refine lv_istore_n (lv' := [(2, .int x2_2), (0, .ref (K.2.1 1000)), (1, .int x1)]) hx hb dX2_isPlayed_8 rfl hl (by decide) rfl (fun ls hl => ?_)
  refine lv_aload_n hx hb dX2_isPlayed_9 rfl (lv_at hl 1 rfl) ?_
  refine r_getM (v := .ref (K.2.1 1003)) E hw hM 2 (by decide) q1355 rfl dX2_isPlayed_10 ?_
  refine lv_iload_n hx hb dX2_isPlayed_13 rfl (lv_at hl 2 rfl) ?_
  obtain ⟨z4, h⟩ := qif_s h
  refine r_iald (j := x1.toNatClampNeg) E hw (qi_1003 hM).at (qok_in z4) rfl dX2_isPlayed_14 ?_
  by_cases c : (B 1003 x1.toNatClampNeg) = (5:Int32)
  · have h := qi_t c h
    refine lv_tableIn (tgt := 56) (off := 41) hx hb dX2_isPlayed_15 (by rw [c]; decide) (by rw [c]; decide) (by rw [c]; rfl) (by decide) ?_
    refine lv_aload_n hx hb dX2_isPlayed_56 rfl (lv_at hl 1 rfl) ?_
    refine lv_iload_n hx hb dX2_isPlayed_57 rfl (lv_at hl 0 rfl) ?_
    refine lv_aload_n hx hb dX2_isPlayed_58 rfl (lv_at hl 1 rfl) ?_
    refine r_getM (v := .ref (K.2.1 1003)) E hw hM 2 (by decide) q1355 rfl dX2_isPlayed_59 ?_
    refine lv_iload_n hx hb dX2_isPlayed_62 rfl (lv_at hl 2 rfl) ?_
    refine lv_iconst (v := (2:Int32)) hx hb dX2_isPlayed_63 (by decide) ?_
    refine lv_iadd hx hb dX2_isPlayed_64 ?_
    obtain ⟨z5, h⟩ := qif_s h
    refine r_iald (j := (x1 + (2:Int32)).toNatClampNeg) E hw (qi_1003 hM).at (qok_in z5) rfl dX2_isPlayed_65 ?_
    refine lv_aload_n hx hb dX2_isPlayed_66 rfl (lv_at hl 1 rfl) ?_
    refine r_getM (v := .ref (K.2.1 1003)) E hw hM 2 (by decide) q1355 rfl dX2_isPlayed_67 ?_
    refine lv_iload_n hx hb dX2_isPlayed_70 rfl (lv_at hl 2 rfl) ?_
    refine lv_iconst (v := (3:Int32)) hx hb dX2_isPlayed_71 (by decide) ?_
    refine lv_iadd hx hb dX2_isPlayed_72 ?_
    obtain ⟨z6, h⟩ := qif_s h
    refine r_iald (j := (x1 + (3:Int32)).toNatClampNeg) E hw (qi_1003 hM).at (qok_in z6) rfl dX2_isPlayed_73 ?_
    refine lv_iconst (v := (0:Int32)) hx hb dX2_isPlayed_74 (by decide) ?_
    obtain ⟨u7, B8, g9, h⟩ := qb2_s h
    refine d_V (As := [.int x2_2, .int (B 1003 (x1 + (2:Int32)).toNatClampNeg), .int (B 1003 (x1 + (3:Int32)).toNatClampNeg), .int (0:Int32)]) (v0 := some (.int u7)) (w0 := (A, B8, L, rs)) hG E hw hl (m_X2_newCase l hG hM  g9) (qM0 hM) rfl (cwV 4 hts (lw_V q1839 q1477 q1478 q140 q1479) rfl rfl rfl ⟨rfl, kd_X2_newCase⟩ ⟨Nat.le_of_ble_eq_true rfl, Nat.le_of_ble_eq_true rfl⟩) rfl (rest := []) (st1 := [.int u7]) rfl rfl rfl dX2_isPlayed_75 ⟨Nat.le_of_ble_eq_true rfl, Nat.le_of_ble_eq_true rfl⟩ (fun H locs hw => ?_)
    refine lv_if_lt (tgt := 85) hx hb dX2_isPlayed_78 (by decide) (fun c => ?_) (fun c => ?_)
    · have h := qi_t c h
      refine lv_iconst (v := (0:Int32)) hx hb dX2_isPlayed_85 (by decide) ?_
      have h := Option.some.inj h
      obtain ⟨h1, h2⟩ := Prod.mk.inj h
      obtain ⟨h2, h3⟩ := Prod.mk.inj h2
      exact d_iret E hr rfl hw h1 (by rw [h2, h3]) dX2_isPlayed_86
    · have h := qi_f c h
      refine lv_iconst (v := (1:Int32)) hx hb dX2_isPlayed_81 (by decide) ?_
      refine lv_goto (tgt := 86) hx hb dX2_isPlayed_82 (by decide) ?_
      have h := Option.some.inj h
      obtain ⟨h1, h2⟩ := Prod.mk.inj h
      obtain ⟨h2, h3⟩ := Prod.mk.inj h2
      exact d_iret E hr rfl hw h1 (by rw [h2, h3]) dX2_isPlayed_86
  · have h := qi_f c h
    have n5 := qne32 c
    by_cases c : (B 1003 x1.toNatClampNeg) = (6:Int32)
    · have h := qi_t c h
      refine lv_tableIn (tgt := 87) (off := 72) hx hb dX2_isPlayed_15 (by rw [c]; decide) (by rw [c]; decide) (by rw [c]; rfl) (by decide) ?_
      refine lv_aload_n hx hb dX2_isPlayed_87 rfl (lv_at hl 1 rfl) ?_
      refine lv_iload_n hx hb dX2_isPlayed_88 rfl (lv_at hl 0 rfl) ?_
      obtain ⟨u10, B11, g12, h⟩ := qb2_s h
      refine d_V (As := [.int x2_2]) (v0 := some (.int u10)) (w0 := (A, B11, L, rs)) hG E hw hl (m_X2_call l hG hM  g12) (qM0 hM) rfl (cwV 1 hts (lw_V q1840 q1684 q1685 q140 q1686) rfl rfl rfl ⟨rfl, kd_X2_call⟩ ⟨Nat.le_of_ble_eq_true rfl, Nat.le_of_ble_eq_true rfl⟩) rfl (rest := []) (st1 := [.int u10]) rfl rfl rfl dX2_isPlayed_89 ⟨Nat.le_of_ble_eq_true rfl, Nat.le_of_ble_eq_true rfl⟩ (fun H locs hw => ?_)
      obtain ⟨z13, h⟩ := qif_s h
      have h := Option.some.inj h
      obtain ⟨h1, h2⟩ := Prod.mk.inj h
      obtain ⟨h2, h3⟩ := Prod.mk.inj h2
      exact d_iret E hr (qbo_n z13) hw h1 (by rw [h2, h3]) dX2_isPlayed_92
    · have h := qi_f c h
      have n6 := qne32 c
      by_cases c : (B 1003 x1.toNatClampNeg) = (7:Int32)
      · have h := qi_t c h
        refine lv_tableIn (tgt := 93) (off := 78) hx hb dX2_isPlayed_15 (by rw [c]; decide) (by rw [c]; decide) (by rw [c]; rfl) (by decide) ?_
        refine lv_aload_n hx hb dX2_isPlayed_93 rfl (lv_at hl 1 rfl) ?_
        obtain ⟨u14, B15, g16, h⟩ := qb2_s h
        refine d_V (As := []) (v0 := some (.int u14)) (w0 := (A, B15, L, rs)) hG E hw hl (m_X2_delay l hG hM  g16) (qM0 hM) rfl (cwV 0 hts (lw_V q1841 q1712 q1713 q140 q1714) rfl rfl rfl ⟨rfl, kd_X2_delay⟩ ⟨Nat.le_of_ble_eq_true rfl, Nat.le_of_ble_eq_true rfl⟩) rfl (rest := []) (st1 := [.int u14]) rfl rfl rfl dX2_isPlayed_94 ⟨Nat.le_of_ble_eq_true rfl, Nat.le_of_ble_eq_true rfl⟩ (fun H locs hw => ?_)
        refine lv_if_lt (tgt := 104) hx hb dX2_isPlayed_97 (by decide) (fun c => ?_) (fun c => ?_)
        · have h := qi_t c h
          refine lv_iconst (v := (0:Int32)) hx hb dX2_isPlayed_104 (by decide) ?_
          have h := Option.some.inj h
          obtain ⟨h1, h2⟩ := Prod.mk.inj h
          obtain ⟨h2, h3⟩ := Prod.mk.inj h2
          exact d_iret E hr rfl hw h1 (by rw [h2, h3]) dX2_isPlayed_105
        · have h := qi_f c h
          refine lv_iconst (v := (1:Int32)) hx hb dX2_isPlayed_100 (by decide) ?_
          refine lv_goto (tgt := 105) hx hb dX2_isPlayed_101 (by decide) ?_
          have h := Option.some.inj h
          obtain ⟨h1, h2⟩ := Prod.mk.inj h
          obtain ⟨h2, h3⟩ := Prod.mk.inj h2
          exact d_iret E hr rfl hw h1 (by rw [h2, h3]) dX2_isPlayed_105
      · have h := qi_f c h
        have n7 := qne32 c
        by_cases c : (B 1003 x1.toNatClampNeg) = (8:Int32)
        · have h := qi_t c h
          refine lv_tableIn (tgt := 106) (off := 91) hx hb dX2_isPlayed_15 (by rw [c]; decide) (by rw [c]; decide) (by rw [c]; rfl) (by decide) ?_
          refine lv_aload_n hx hb dX2_isPlayed_106 rfl (lv_at hl 1 rfl) ?_
          refine lv_iload_n hx hb dX2_isPlayed_107 rfl (lv_at hl 0 rfl) ?_
          obtain ⟨u17, B18, g19, h⟩ := qb2_s h
          refine d_V (As := [.int x2_2]) (v0 := some (.int u17)) (w0 := (A, B18, L, rs)) hG E hw hl (m_X2_appeal l hG hM  g19) (qM0 hM) rfl (cwV 1 hts (lw_V q1842 q1720 q1721 q140 q1722) rfl rfl rfl ⟨rfl, kd_X2_appeal⟩ ⟨Nat.le_of_ble_eq_true rfl, Nat.le_of_ble_eq_true rfl⟩) rfl (rest := []) (st1 := [.int u17]) rfl rfl rfl dX2_isPlayed_108 ⟨Nat.le_of_ble_eq_true rfl, Nat.le_of_ble_eq_true rfl⟩ (fun H locs hw => ?_)
          obtain ⟨z20, h⟩ := qif_s h
          have h := Option.some.inj h
          obtain ⟨h1, h2⟩ := Prod.mk.inj h
          obtain ⟨h2, h3⟩ := Prod.mk.inj h2
          exact d_iret E hr (qbo_n z20) hw h1 (by rw [h2, h3]) dX2_isPlayed_111
        · have h := qi_f c h
          have n8 := qne32 c
          by_cases c : (B 1003 x1.toNatClampNeg) = (9:Int32)
          · have h := qi_t c h
            refine lv_tableIn (tgt := 112) (off := 97) hx hb dX2_isPlayed_15 (by rw [c]; decide) (by rw [c]; decide) (by rw [c]; rfl) (by decide) ?_
            refine lv_aload_n hx hb dX2_isPlayed_112 rfl (lv_at hl 1 rfl) ?_
            refine lv_iload_n hx hb dX2_isPlayed_113 rfl (lv_at hl 0 rfl) ?_
            refine lv_aload_n hx hb dX2_isPlayed_114 rfl (lv_at hl 1 rfl) ?_
            refine r_getM (v := .ref (K.2.1 1003)) E hw hM 2 (by decide) q1355 rfl dX2_isPlayed_115 ?_
            refine lv_iload_n hx hb dX2_isPlayed_118 rfl (lv_at hl 2 rfl) ?_
            refine lv_iconst (v := (2:Int32)) hx hb dX2_isPlayed_119 (by decide) ?_
            refine lv_iadd hx hb dX2_isPlayed_120 ?_
            obtain ⟨z21, h⟩ := qif_s h
            refine r_iald (j := (x1 + (2:Int32)).toNatClampNeg) E hw (qi_1003 hM).at (qok_in z21) rfl dX2_isPlayed_121 ?_
            obtain ⟨u22, B23, g24, h⟩ := qb2_s h
            refine d_V (As := [.int x2_2, .int (B 1003 (x1 + (2:Int32)).toNatClampNeg)]) (v0 := some (.int u22)) (w0 := (A, B23, L, rs)) hG E hw hl (m_X2_gust l hG hM  g24) (qM0 hM) rfl (cwV 2 hts (lw_V q1843 q1732 q1733 q140 q1734) rfl rfl rfl ⟨rfl, kd_X2_gust⟩ ⟨Nat.le_of_ble_eq_true rfl, Nat.le_of_ble_eq_true rfl⟩) rfl (rest := []) (st1 := [.int u22]) rfl rfl rfl dX2_isPlayed_122 ⟨Nat.le_of_ble_eq_true rfl, Nat.le_of_ble_eq_true rfl⟩ (fun H locs hw => ?_)
            obtain ⟨z25, h⟩ := qif_s h
            have h := Option.some.inj h
            obtain ⟨h1, h2⟩ := Prod.mk.inj h
            obtain ⟨h2, h3⟩ := Prod.mk.inj h2
            exact d_iret E hr (qbo_n z25) hw h1 (by rw [h2, h3]) dX2_isPlayed_125
          · have h := qi_f c h
            have n9 := qne32 c
            by_cases c : (B 1003 x1.toNatClampNeg) = (10:Int32)
            · have h := qi_t c h
              refine lv_tableIn (tgt := 126) (off := 111) hx hb dX2_isPlayed_15 (by rw [c]; decide) (by rw [c]; decide) (by rw [c]; rfl) (by decide) ?_
              refine lv_aload_n hx hb dX2_isPlayed_126 rfl (lv_at hl 1 rfl) ?_
              obtain ⟨u26, B27, g28, h⟩ := qb2_s h
              refine d_V (As := []) (v0 := some (.int u26)) (w0 := (A, B27, L, rs)) hG E hw hl (m_X2_withdraw l hG hM  g28) (qM0 hM) rfl (cwV 0 hts (lw_V q1844 q1736 q1737 q140 q1738) rfl rfl rfl ⟨rfl, kd_X2_withdraw⟩ ⟨Nat.le_of_ble_eq_true rfl, Nat.le_of_ble_eq_true rfl⟩) rfl (rest := []) (st1 := [.int u26]) rfl rfl rfl dX2_isPlayed_127 ⟨Nat.le_of_ble_eq_true rfl, Nat.le_of_ble_eq_true rfl⟩ (fun H locs hw => ?_)
              refine lv_if_lt (tgt := 137) hx hb dX2_isPlayed_130 (by decide) (fun c => ?_) (fun c => ?_)
              · have h := qi_t c h
                refine lv_iconst (v := (0:Int32)) hx hb dX2_isPlayed_137 (by decide) ?_
                have h := Option.some.inj h
                obtain ⟨h1, h2⟩ := Prod.mk.inj h
                obtain ⟨h2, h3⟩ := Prod.mk.inj h2
                exact d_iret E hr rfl hw h1 (by rw [h2, h3]) dX2_isPlayed_138
              · have h := qi_f c h
                refine lv_iconst (v := (1:Int32)) hx hb dX2_isPlayed_133 (by decide) ?_
                refine lv_goto (tgt := 138) hx hb dX2_isPlayed_134 (by decide) ?_
                have h := Option.some.inj h
                obtain ⟨h1, h2⟩ := Prod.mk.inj h
                obtain ⟨h2, h3⟩ := Prod.mk.inj h2
                exact d_iret E hr rfl hw h1 (by rw [h2, h3]) dX2_isPlayed_138
            · have h := qi_f c h
              have n10 := qne32 c
              by_cases c : (B 1003 x1.toNatClampNeg) = (11:Int32)
              · have h := qi_t c h
                refine lv_tableIn (tgt := 139) (off := 124) hx hb dX2_isPlayed_15 (by rw [c]; decide) (by rw [c]; decide) (by rw [c]; rfl) (by decide) ?_
                refine lv_aload_n hx hb dX2_isPlayed_139 rfl (lv_at hl 1 rfl) ?_
                refine lv_iload_n hx hb dX2_isPlayed_140 rfl (lv_at hl 0 rfl) ?_
                obtain ⟨u29, B30, L31, g32, h⟩ := qb3_s h
                refine d_V (As := [.int x2_2]) (v0 := some (.int u29)) (w0 := (A, B30, L31, rs)) hG E hw hl (m_X2_arePassed l hG hM  g32) (qM0 hM) rfl (cwV 1 hts (lw_V q1747 q1749 qs104 q140 q1750) rfl rfl rfl ⟨rfl, kd_X2_arePassed⟩ ⟨Nat.le_of_ble_eq_true rfl, Nat.le_of_ble_eq_true rfl⟩) rfl (rest := []) (st1 := [.int u29]) rfl rfl rfl dX2_isPlayed_141 ⟨Nat.le_of_ble_eq_true rfl, Nat.le_of_ble_eq_true rfl⟩ (fun H locs hw => ?_)
                obtain ⟨z33, h⟩ := qif_s h
                have h := Option.some.inj h
                obtain ⟨h1, h2⟩ := Prod.mk.inj h
                obtain ⟨h2, h3⟩ := Prod.mk.inj h2
                exact d_iret E hr (qbo_n z33) hw h1 (by rw [h2, h3]) dX2_isPlayed_144
              · have h := qi_f c h
                have n11 := qne32 c
                refine lv_tableOut (tgt := 145) hx hb dX2_isPlayed_15 (by have m5 : ((B 1003 x1.toNatClampNeg)).toInt ≠ 5 := n5; have m6 : ((B 1003 x1.toNatClampNeg)).toInt ≠ 6 := n6; have m7 : ((B 1003 x1.toNatClampNeg)).toInt ≠ 7 := n7; have m8 : ((B 1003 x1.toNatClampNeg)).toInt ≠ 8 := n8; have m9 : ((B 1003 x1.toNatClampNeg)).toInt ≠ 9 := n9; have m10 : ((B 1003 x1.toNatClampNeg)).toInt ≠ 10 := n10; have m11 : ((B 1003 x1.toNatClampNeg)).toInt ≠ 11 := n11; omega) (by decide) ?_
                refine lv_iconst (v := (1:Int32)) hx hb dX2_isPlayed_145 (by decide) ?_
                have h := Option.some.inj h
                obtain ⟨h1, h2⟩ := Prod.mk.inj h
                obtain ⟨h2, h3⟩ := Prod.mk.inj h2
                exact d_iret E hr rfl hw h1 (by rw [h2, h3]) dX2_isPlayed_146

theorem m_X2_isPlayed (l : Launch) {K : QK} {G : State → Prop} (hG : QG G) (hM : QMl K) {A : QA} {rs : QX × QM} {x1 : Int32} {B : QA} {L : QL} {ro : Int32} {Bo : QA} {Lo : QL} (h : f_X2_isPlayed x1 B L = some (ro, Bo, Lo)) : MC l K G yX2_isPlayed (ws_ yX2_isPlayed cX2_isPlayed 3 (some .boolean)) 9 231 0 0 [.ref (K.2.1 1000), .int x1] (A, B, L, rs) (QR (some (.int ro)) (A, Bo, Lo, rs)) := by
  refine MC.of (by decide) (Nat.le_of_ble_eq_true rfl) (lv := [(0, .ref (K.2.1 1000)), (1, .int x1)]) rfl (fun p e s m below meth c ls E hr hl hw => ?_)
  exact w_X2_isPlayed_0 hG hM E hr _ _ _  h hw hl

def f_X2_played_21 : Nat → Int32 → Int32 → QA → QL → Option (Int32 × QA × QL)
  | 0, _, _, _, _ => none
  | n + 1, x1, x2, B, L => qif (qok ((705:Int32) * x1) 2820) <|
  if (B 1003 ((705:Int32) * x1).toNatClampNeg) ≤ x2 then (
  some ((-1:Int32), B, L)) else (
  qb3 (f_X2_isPlayed ((((705:Int32) * x1) + (1:Int32)) + ((4:Int32) * x2)) B L) fun u4 B5 L6 =>
  if u4 = (0:Int32) then (
  some (x2, B5, L6)) else (
  qlet (x2 + (1:Int32)) fun x2_8 =>
  f_X2_played_21 n x1 x2_8 B5 L6))
set_option maxHeartbeats 4000000 in
theorem w_X2_played_21 {p : Program} {l : Launch} {e : Env} {s : State} {m : MethodId} {args : Array Value} {below : List Frame} {meth : Method} {c : Code} {K : QK} {G : State → Prop} {A : QA} {rs : QX × QM} {ro : Int32} {Bo : QA} {Lo : QL} (hG : QG G) (hM : QMl K) (E : EV K G p s m args meth c cX2_played "VaneCourtModel" 3) (hr : meth.sig.returnType = (some .int)) : ∀ (n : Nat) (x1 : Int32) (x2 : Int32) (B : QA) (L : QL) {H : Heap} {locs : List Loc} {ls : Array Slot}, f_X2_played_21 n x1 x2 B L = some (ro, Bo, Lo) → WP K (A, B, L, rs) H locs → lv_has ls 3 [(0, .ref (K.2.1 1000)), (1, .int x1), (2, .int x2)] → W p l e (qrm 10 253 0 0) s m args below meth c H locs 0 0 (MQ below (QE K (QR (some (.int ro)) (A, Bo, Lo, rs))) args s 0 0 (qA K)) (F0 m 21 ls []) := by
  have hx := E.1
  have hb := E.2.1
  have hown := E.2.2.1
  have hts := E.2.2.2.2.1
  intro n
  induction n with
  | zero =>
    intro x1 x2 B L H locs ls  h hw hl
    cases h
  | succ n ih =>
    intro x1 x2 B L H locs ls  h hw hl
    rw [f_X2_played_21] at h
    refine lv_iload_n hx hb dX2_played_21 rfl (lv_at hl 2 rfl) ?_
    refine lv_aload_n hx hb dX2_played_22 rfl (lv_at hl 0 rfl) ?_
    refine r_getM (v := .ref (K.2.1 1003)) E hw hM 2 (by decide) q1355 rfl dX2_played_23 ?_
    refine lv_sipush (v := (705:Int32)) hx hb dX2_played_26 (by decide) ?_
    refine lv_iload_n hx hb dX2_played_29 rfl (lv_at hl 1 rfl) ?_
    refine lv_imul hx hb dX2_played_30 ?_
    obtain ⟨z3, h⟩ := qif_s h
    refine r_iald (j := ((705:Int32) * x1).toNatClampNeg) E hw (qi_1003 hM).at (qok_in z3) rfl dX2_played_31 ?_
    refine lv_icmp_ge (tgt := 61) hx hb dX2_played_32 (by decide) (fun c => ?_) (fun c => ?_)
    · have h := qi_t c h
      refine lv_iconst (v := (-1:Int32)) hx hb dX2_played_61 (by decide) ?_
      have h := Option.some.inj h
      obtain ⟨h1, h2⟩ := Prod.mk.inj h
      obtain ⟨h2, h3⟩ := Prod.mk.inj h2
      exact d_iret E hr rfl hw h1 (by rw [h2, h3]) dX2_played_62
    · have h := qi_f c h
      refine lv_aload_n hx hb dX2_played_35 rfl (lv_at hl 0 rfl) ?_
      refine lv_sipush (v := (705:Int32)) hx hb dX2_played_36 (by decide) ?_
      refine lv_iload_n hx hb dX2_played_39 rfl (lv_at hl 1 rfl) ?_
      refine lv_imul hx hb dX2_played_40 ?_
      refine lv_iconst (v := (1:Int32)) hx hb dX2_played_41 (by decide) ?_
      refine lv_iadd hx hb dX2_played_42 ?_
      refine lv_iconst (v := (4:Int32)) hx hb dX2_played_43 (by decide) ?_
      refine lv_iload_n hx hb dX2_played_44 rfl (lv_at hl 2 rfl) ?_
      refine lv_imul hx hb dX2_played_45 ?_
      refine lv_iadd hx hb dX2_played_46 ?_
      obtain ⟨u4, B5, L6, g7, h⟩ := qb3_s h
      refine d_V (As := [.int ((((705:Int32) * x1) + (1:Int32)) + ((4:Int32) * x2))]) (v0 := some (.int u4)) (w0 := (A, B5, L6, rs)) hG E hw hl (m_X2_isPlayed l hG hM  g7) (qM0 hM) rfl (cwV 1 hts (lw_V q1835 q1837 qs120 q140 q1838) rfl rfl rfl ⟨rfl, kd_X2_isPlayed⟩ ⟨Nat.le_of_ble_eq_true rfl, Nat.le_of_ble_eq_true rfl⟩) rfl (rest := []) (st1 := [.int u4]) rfl rfl rfl dX2_played_47 ⟨Nat.le_of_ble_eq_true rfl, Nat.le_of_ble_eq_true rfl⟩ (fun H locs hw => ?_)
      refine lv_if_ne (tgt := 55) hx hb dX2_played_50 (by decide) (fun c => ?_) (fun c => ?_)
      · have h := qi_f c h
        obtain ⟨x2_8, e9, h⟩ := qlet_s h
        refine lv_iinc (v := x2_8) (lv' := [(2, .int x2_8), (0, .ref (K.2.1 1000)), (1, .int x1)]) (k := 2) hx hb dX2_played_55 hl rfl (by rw [e9]; rfl) (by decide) rfl (fun ls hl => ?_)
        refine lv_goto (tgt := 21) hx hb dX2_played_58 (by decide) ?_
        exact ih _ _ _ _  h hw (lv_sub hl [1, 2, 0] rfl)
      · have h := qi_t c h
        refine lv_iload_n hx hb dX2_played_53 rfl (lv_at hl 2 rfl) ?_
        have h := Option.some.inj h
        obtain ⟨h1, h2⟩ := Prod.mk.inj h
        obtain ⟨h2, h3⟩ := Prod.mk.inj h2
        exact d_iret E hr rfl hw h1 (by rw [h2, h3]) dX2_played_54

def f_X2_played (x1 : Int32) (B : QA) (L : QL) : Option (Int32 × QA × QL) :=
  qb1 (f_X2_isIn x1 (0:Int32) ((B 1001 1) - (1:Int32))) fun u1 =>
  if u1 = (0:Int32) then (
  some ((-2:Int32), B, L)) else (
  f_X2_played_21 FU x1 (0:Int32) B L)
set_option maxHeartbeats 4000000 in
theorem w_X2_played_0 {p : Program} {l : Launch} {e : Env} {s : State} {m : MethodId} {args : Array Value} {below : List Frame} {meth : Method} {c : Code} {K : QK} {G : State → Prop} {A : QA} {rs : QX × QM} {ro : Int32} {Bo : QA} {Lo : QL} (hG : QG G) (hM : QMl K) (E : EV K G p s m args meth c cX2_played "VaneCourtModel" 3) (hr : meth.sig.returnType = (some .int)) : ∀ (x1 : Int32) (B : QA) (L : QL) {H : Heap} {locs : List Loc} {ls : Array Slot}, f_X2_played x1 B L = some (ro, Bo, Lo) → WP K (A, B, L, rs) H locs → lv_has ls 3 [(0, .ref (K.2.1 1000)), (1, .int x1)] → W p l e (qrm 10 253 0 0) s m args below meth c H locs 0 0 (MQ below (QE K (QR (some (.int ro)) (A, Bo, Lo, rs))) args s 0 0 (qA K)) (F0 m 0 ls []) := by
  have hx := E.1
  have hb := E.2.1
  have hown := E.2.2.1
  have hts := E.2.2.2.2.1
  intro x1 B L H locs ls  h hw hl
  rw [f_X2_played] at h
  refine lv_iload_n hx hb dX2_played_0 rfl (lv_at hl 1 rfl) ?_
  refine lv_iconst (v := (0:Int32)) hx hb dX2_played_1 (by decide) ?_
  refine lv_aload_n hx hb dX2_played_2 rfl (lv_at hl 0 rfl) ?_
  refine r_getM (v := .ref (K.2.1 1001)) E hw hM 0 (by decide) q1353 rfl dX2_played_3 ?_
  refine lv_iconst (v := (1:Int32)) hx hb dX2_played_6 (by decide) ?_
  refine r_iald (j := 1) E hw (qi_1001 hM).at (q_lit (k := 1) (n := 3642) rfl rfl) (q_clamp (k := 1) rfl) dX2_played_7 ?_
  refine lv_iconst (v := (1:Int32)) hx hb dX2_played_8 (by decide) ?_
  refine lv_isub hx hb dX2_played_9 ?_
  obtain ⟨u1, g2, h⟩ := qb1_s h
  refine d_S (As := [.int x1, .int (0:Int32), .int ((B 1001 1) - (1:Int32))]) (v0 := some (.int u1)) (w0 := (A, B, L, rs)) hG E hw hl (m_X2_isIn l hG hM  g2) (va_cwS 3 hts (lw_S q1480 q1481 q140 q1482) rfl rfl rfl kd_X2_isIn ⟨Nat.le_of_ble_eq_true rfl, Nat.le_of_ble_eq_true rfl⟩) rfl (rest := []) (st1 := [.int u1]) rfl rfl rfl dX2_played_10 ⟨Nat.le_of_ble_eq_true rfl, Nat.le_of_ble_eq_true rfl⟩ (fun H locs hw => ?_)
  refine lv_if_ne (tgt := 19) hx hb dX2_played_13 (by decide) (fun c => ?_) (fun c => ?_)
  · have h := qi_f c h
    refine lv_iconst (v := (0:Int32)) hx hb dX2_played_19 (by decide) ?_
    refine lv_istore_n (lv' := [(2, .int (0:Int32)), (0, .ref (K.2.1 1000)), (1, .int x1)]) hx hb dX2_played_20 rfl hl (by decide) rfl (fun ls hl => ?_)
    exact w_X2_played_21 hG hM E hr  _ _ _ _ _   h hw (lv_sub hl [1, 2, 0] rfl)
  · have h := qi_t c h
    refine lv_bipush (v := (-2:Int32)) hx hb dX2_played_16 (by decide) ?_
    have h := Option.some.inj h
    obtain ⟨h1, h2⟩ := Prod.mk.inj h
    obtain ⟨h2, h3⟩ := Prod.mk.inj h2
    exact d_iret E hr rfl hw h1 (by rw [h2, h3]) dX2_played_18

theorem m_X2_played (l : Launch) {K : QK} {G : State → Prop} (hG : QG G) (hM : QMl K) {A : QA} {rs : QX × QM} {x1 : Int32} {B : QA} {L : QL} {ro : Int32} {Bo : QA} {Lo : QL} (h : f_X2_played x1 B L = some (ro, Bo, Lo)) : MC l K G yX2_played (ws_ yX2_played cX2_played 3 (some .int)) 10 253 0 0 [.ref (K.2.1 1000), .int x1] (A, B, L, rs) (QR (some (.int ro)) (A, Bo, Lo, rs)) := by
  refine MC.of (by decide) (Nat.le_of_ble_eq_true rfl) (lv := [(0, .ref (K.2.1 1000)), (1, .int x1)]) rfl (fun p e s m below meth c ls E hr hl hw => ?_)
  exact w_X2_played_0 hG hM E hr _ _ _  h hw hl

def f_X2_happens (x1 : Int32) (B : QA) (L : QL) : Option (QA × QL) :=
  qif (decide (¬ (B 1001 0) = 0)) <|
  qlet (x1 - x1 / (B 1001 0) * (B 1001 0)) fun x2_2 =>
  if (x1 - x1 / (7:Int32) * (7:Int32)) = (2:Int32) then (
  qb1 (f_X2_canDelay B) fun u4 =>
  if u4 = (0:Int32) then (
  some (B, L)) else (
  qlet (qu B 1001 16 ((B 1001 16) + (1:Int32))) fun B6 =>
  some (B6, L))) else (
  if (x1 - x1 / (7:Int32) * (7:Int32)) = (3:Int32) then (
  qb1 (f_X2_canAppeal x2_2 B) fun u8 =>
  if u8 = (0:Int32) then (
  some (B, L)) else (
  qb1 (f_X2_appealNow x2_2 B) fun B10 =>
  some (B10, L))) else (
  if (x1 - x1 / (7:Int32) * (7:Int32)) = (4:Int32) then (
  if (9999:Int32) ≤ (B 1001 11) then (
  some (B, L)) else (
  qb2 (f_X2_pass B L) fun B12 L13 =>
  some (B12, L13))) else (
  if (x1 - x1 / (7:Int32) * (7:Int32)) = (5:Int32) then (
  if (9999:Int32) ≤ (B 1001 11) then (
  some (B, L)) else (
  qb2 (f_X2_pass B L) fun B15 L16 =>
  some (B15, L16))) else (
  if (x1 - x1 / (7:Int32) * (7:Int32)) = (6:Int32) then (
  if (9999:Int32) ≤ (B 1001 11) then (
  some (B, L)) else (
  qb2 (f_X2_pass B L) fun B18 L19 =>
  some (B18, L19))) else (
  qb1 (f_X2_canCall x2_2 B) fun u21 =>
  if u21 = (0:Int32) then (
  some (B, L)) else (
  qb1 (f_X2_callNow x2_2 B) fun B23 =>
  some (B23, L)))))))
set_option maxHeartbeats 4000000 in
theorem w_X2_happens_0 {p : Program} {l : Launch} {e : Env} {s : State} {m : MethodId} {args : Array Value} {below : List Frame} {meth : Method} {c : Code} {K : QK} {G : State → Prop} {A : QA} {rs : QX × QM} {Bo : QA} {Lo : QL} (hG : QG G) (hM : QMl K) (E : EV K G p s m args meth c cX2_happens "VaneCourtModel" 3) (hr : meth.sig.returnType = none) : ∀ (x1 : Int32) (B : QA) (L : QL) {H : Heap} {locs : List Loc} {ls : Array Slot}, f_X2_happens x1 B L = some (Bo, Lo) → WP K (A, B, L, rs) H locs → lv_has ls 3 [(0, .ref (K.2.1 1000)), (1, .int x1)] → W p l e (qrm 8 209 0 0) s m args below meth c H locs 0 0 (MQ below (QE K (QR none (A, Bo, Lo, rs))) args s 0 0 (qA K)) (F0 m 0 ls []) := by
  have hx := E.1
  have hb := E.2.1
  have hown := E.2.2.1
  have hts := E.2.2.2.2.1
  intro x1 B L H locs ls  h hw hl
  rw [f_X2_happens] at h
  refine lv_iload_n hx hb dX2_happens_0 rfl (lv_at hl 1 rfl) ?_
  refine lv_aload_n hx hb dX2_happens_1 rfl (lv_at hl 0 rfl) ?_
  refine r_getM (v := .ref (K.2.1 1001)) E hw hM 0 (by decide) q1353 rfl dX2_happens_2 ?_
  refine lv_iconst (v := (0:Int32)) hx hb dX2_happens_5 (by decide) ?_
  refine r_iald (j := 0) E hw (qi_1001 hM).at (q_lit (k := 0) (n := 3642) rfl rfl) (q_clamp (k := 0) rfl) dX2_happens_6 ?_
  obtain ⟨z1, h⟩ := qif_s h
  refine lv_irem hx hb dX2_happens_7 (of_decide_eq_true z1) ?_
  obtain ⟨x2_2, e3, h⟩ := qlet_s h
  refine r_nm e3 ?_
  refine lv_istore_n (lv' := [(2, .int x2_2), (0, .ref (K.2.1 1000)), (1, .int x1)]) hx hb dX2_happens_8 rfl hl (by decide) rfl (fun ls hl => ?_)
  refine lv_iload_n hx hb dX2_happens_9 rfl (lv_at hl 2 rfl) ?_
  refine lv_bipush (v := (7:Int32)) hx hb dX2_happens_10 (by decide) ?_
  refine lv_irem hx hb dX2_happens_12 (by decide) ?_
  by_cases c : (x1 - x1 / (7:Int32) * (7:Int32)) = (2:Int32)
  · have h := qi_t c h
    refine lv_tableIn (tgt := 48) (off := 35) hx hb dX2_happens_13 (by rw [c]; decide) (by rw [c]; decide) (by rw [c]; rfl) (by decide) ?_
    refine lv_aload_n hx hb dX2_happens_48 rfl (lv_at hl 1 rfl) ?_
    obtain ⟨u4, g5, h⟩ := qb1_s h
    refine d_V (As := []) (v0 := some (.int u4)) (w0 := (A, B, L, rs)) hG E hw hl (m_X2_canDelay l hG hM  g5) (qM0 hM) rfl (cwV 0 hts (lw_V q1715 q1717 qs100 q140 q1718) rfl rfl rfl ⟨rfl, kd_X2_canDelay⟩ ⟨Nat.le_of_ble_eq_true rfl, Nat.le_of_ble_eq_true rfl⟩) rfl (rest := []) (st1 := [.int u4]) rfl rfl rfl dX2_happens_49 ⟨Nat.le_of_ble_eq_true rfl, Nat.le_of_ble_eq_true rfl⟩ (fun H locs hw => ?_)
    refine lv_if_eq (tgt := 118) hx hb dX2_happens_52 (by decide) (fun c => ?_) (fun c => ?_)
    · have h := qi_t c h
      have h := Option.some.inj h
      obtain ⟨h1, h2⟩ := Prod.mk.inj h
      exact d_ret E hr hw (by rw [h1, h2]) dX2_happens_118
    · have h := qi_f c h
      refine lv_aload_n hx hb dX2_happens_55 rfl (lv_at hl 1 rfl) ?_
      refine r_getM (v := .ref (K.2.1 1001)) E hw hM 0 (by decide) q1353 rfl dX2_happens_56 ?_
      refine lv_bipush (v := (16:Int32)) hx hb dX2_happens_59 (by decide) ?_
      refine lv_dup2_11 hx hb dX2_happens_61 rfl rfl ?_
      refine r_iald (j := 16) E hw (qi_1001 hM).at (q_lit (k := 16) (n := 3642) rfl rfl) (q_clamp (k := 16) rfl) dX2_happens_62 ?_
      refine lv_iconst (v := (1:Int32)) hx hb dX2_happens_63 (by decide) ?_
      refine lv_iadd hx hb dX2_happens_64 ?_
      obtain ⟨B6, e7, h⟩ := qlet_s h
      refine r_iastB (j := 16) E hw (qi_1001 hM) (q_lit (k := 16) (n := 3642) rfl rfl) (q_clamp (k := 16) rfl) dX2_happens_65 (fun H locs hw => ?_)
      rw [← e7] at hw
      refine lv_goto (tgt := 118) hx hb dX2_happens_66 (by decide) ?_
      have h := Option.some.inj h
      obtain ⟨h1, h2⟩ := Prod.mk.inj h
      exact d_ret E hr hw (by rw [h1, h2]) dX2_happens_118
  · have h := qi_f c h
    have n2 := qne32 c
    by_cases c : (x1 - x1 / (7:Int32) * (7:Int32)) = (3:Int32)
    · have h := qi_t c h
      refine lv_tableIn (tgt := 69) (off := 56) hx hb dX2_happens_13 (by rw [c]; decide) (by rw [c]; decide) (by rw [c]; rfl) (by decide) ?_
      refine lv_aload_n hx hb dX2_happens_69 rfl (lv_at hl 1 rfl) ?_
      refine lv_iload_n hx hb dX2_happens_70 rfl (lv_at hl 0 rfl) ?_
      obtain ⟨u8, g9, h⟩ := qb1_s h
      refine d_V (As := [.int x2_2]) (v0 := some (.int u8)) (w0 := (A, B, L, rs)) hG E hw hl (m_X2_canAppeal l hG hM  g9) (qM0 hM) rfl (cwV 1 hts (lw_V q1723 q1725 qs101 q140 q1726) rfl rfl rfl ⟨rfl, kd_X2_canAppeal⟩ ⟨Nat.le_of_ble_eq_true rfl, Nat.le_of_ble_eq_true rfl⟩) rfl (rest := []) (st1 := [.int u8]) rfl rfl rfl dX2_happens_71 ⟨Nat.le_of_ble_eq_true rfl, Nat.le_of_ble_eq_true rfl⟩ (fun H locs hw => ?_)
      refine lv_if_eq (tgt := 118) hx hb dX2_happens_74 (by decide) (fun c => ?_) (fun c => ?_)
      · have h := qi_t c h
        have h := Option.some.inj h
        obtain ⟨h1, h2⟩ := Prod.mk.inj h
        exact d_ret E hr hw (by rw [h1, h2]) dX2_happens_118
      · have h := qi_f c h
        refine lv_aload_n hx hb dX2_happens_77 rfl (lv_at hl 1 rfl) ?_
        refine lv_iload_n hx hb dX2_happens_78 rfl (lv_at hl 0 rfl) ?_
        obtain ⟨B10, g11, h⟩ := qb1_s h
        refine d_V (As := [.int x2_2]) (v0 := none) (w0 := (A, B10, L, rs)) hG E hw hl (m_X2_appealNow l hG hM  g11) (qM0 hM) rfl (cwV 1 hts (lw_V q1727 q1729 qs102 q140 q1730) rfl rfl rfl ⟨rfl, kd_X2_appealNow⟩ ⟨Nat.le_of_ble_eq_true rfl, Nat.le_of_ble_eq_true rfl⟩) rfl (rest := []) (st1 := []) rfl rfl rfl dX2_happens_79 ⟨Nat.le_of_ble_eq_true rfl, Nat.le_of_ble_eq_true rfl⟩ (fun H locs hw => ?_)
        refine lv_goto (tgt := 118) hx hb dX2_happens_82 (by decide) ?_
        have h := Option.some.inj h
        obtain ⟨h1, h2⟩ := Prod.mk.inj h
        exact d_ret E hr hw (by rw [h1, h2]) dX2_happens_118
    · have h := qi_f c h
      have n3 := qne32 c
      by_cases c : (x1 - x1 / (7:Int32) * (7:Int32)) = (4:Int32)
      · have h := qi_t c h
        refine lv_tableIn (tgt := 85) (off := 72) hx hb dX2_happens_13 (by rw [c]; decide) (by rw [c]; decide) (by rw [c]; rfl) (by decide) ?_
        refine lv_aload_n hx hb dX2_happens_85 rfl (lv_at hl 1 rfl) ?_
        refine r_getM (v := .ref (K.2.1 1001)) E hw hM 0 (by decide) q1353 rfl dX2_happens_86 ?_
        refine lv_bipush (v := (11:Int32)) hx hb dX2_happens_89 (by decide) ?_
        refine r_iald (j := 11) E hw (qi_1001 hM).at (q_lit (k := 11) (n := 3642) rfl rfl) (q_clamp (k := 11) rfl) dX2_happens_91 ?_
        refine lv_sipush (v := (9999:Int32)) hx hb dX2_happens_92 (by decide) ?_
        refine lv_icmp_ge (tgt := 118) hx hb dX2_happens_95 (by decide) (fun c => ?_) (fun c => ?_)
        · have h := qi_t c h
          have h := Option.some.inj h
          obtain ⟨h1, h2⟩ := Prod.mk.inj h
          exact d_ret E hr hw (by rw [h1, h2]) dX2_happens_118
        · have h := qi_f c h
          refine lv_aload_n hx hb dX2_happens_98 rfl (lv_at hl 1 rfl) ?_
          obtain ⟨B12, L13, g14, h⟩ := qb2_s h
          refine d_V (As := []) (v0 := none) (w0 := (A, B12, L13, rs)) hG E hw hl (m_X2_pass l hG hM  g14) (qM0 hM) rfl (cwV 0 hts (lw_V q1751 q1753 qs105 q140 q1754) rfl rfl rfl ⟨rfl, kd_X2_pass⟩ ⟨Nat.le_of_ble_eq_true rfl, Nat.le_of_ble_eq_true rfl⟩) rfl (rest := []) (st1 := []) rfl rfl rfl dX2_happens_99 ⟨Nat.le_of_ble_eq_true rfl, Nat.le_of_ble_eq_true rfl⟩ (fun H locs hw => ?_)
          refine lv_goto (tgt := 118) hx hb dX2_happens_102 (by decide) ?_
          have h := Option.some.inj h
          obtain ⟨h1, h2⟩ := Prod.mk.inj h
          exact d_ret E hr hw (by rw [h1, h2]) dX2_happens_118
      · have h := qi_f c h
        have n4 := qne32 c
        by_cases c : (x1 - x1 / (7:Int32) * (7:Int32)) = (5:Int32)
        · have h := qi_t c h
          refine lv_tableIn (tgt := 85) (off := 72) hx hb dX2_happens_13 (by rw [c]; decide) (by rw [c]; decide) (by rw [c]; rfl) (by decide) ?_
          refine lv_aload_n hx hb dX2_happens_85 rfl (lv_at hl 1 rfl) ?_
          refine r_getM (v := .ref (K.2.1 1001)) E hw hM 0 (by decide) q1353 rfl dX2_happens_86 ?_
          refine lv_bipush (v := (11:Int32)) hx hb dX2_happens_89 (by decide) ?_
          refine r_iald (j := 11) E hw (qi_1001 hM).at (q_lit (k := 11) (n := 3642) rfl rfl) (q_clamp (k := 11) rfl) dX2_happens_91 ?_
          refine lv_sipush (v := (9999:Int32)) hx hb dX2_happens_92 (by decide) ?_
          refine lv_icmp_ge (tgt := 118) hx hb dX2_happens_95 (by decide) (fun c => ?_) (fun c => ?_)
          · have h := qi_t c h
            have h := Option.some.inj h
            obtain ⟨h1, h2⟩ := Prod.mk.inj h
            exact d_ret E hr hw (by rw [h1, h2]) dX2_happens_118
          · have h := qi_f c h
            refine lv_aload_n hx hb dX2_happens_98 rfl (lv_at hl 1 rfl) ?_
            obtain ⟨B15, L16, g17, h⟩ := qb2_s h
            refine d_V (As := []) (v0 := none) (w0 := (A, B15, L16, rs)) hG E hw hl (m_X2_pass l hG hM  g17) (qM0 hM) rfl (cwV 0 hts (lw_V q1751 q1753 qs105 q140 q1754) rfl rfl rfl ⟨rfl, kd_X2_pass⟩ ⟨Nat.le_of_ble_eq_true rfl, Nat.le_of_ble_eq_true rfl⟩) rfl (rest := []) (st1 := []) rfl rfl rfl dX2_happens_99 ⟨Nat.le_of_ble_eq_true rfl, Nat.le_of_ble_eq_true rfl⟩ (fun H locs hw => ?_)
            refine lv_goto (tgt := 118) hx hb dX2_happens_102 (by decide) ?_
            have h := Option.some.inj h
            obtain ⟨h1, h2⟩ := Prod.mk.inj h
            exact d_ret E hr hw (by rw [h1, h2]) dX2_happens_118
        · have h := qi_f c h
          have n5 := qne32 c
          by_cases c : (x1 - x1 / (7:Int32) * (7:Int32)) = (6:Int32)
          · have h := qi_t c h
            refine lv_tableIn (tgt := 85) (off := 72) hx hb dX2_happens_13 (by rw [c]; decide) (by rw [c]; decide) (by rw [c]; rfl) (by decide) ?_
            refine lv_aload_n hx hb dX2_happens_85 rfl (lv_at hl 1 rfl) ?_
            refine r_getM (v := .ref (K.2.1 1001)) E hw hM 0 (by decide) q1353 rfl dX2_happens_86 ?_
            refine lv_bipush (v := (11:Int32)) hx hb dX2_happens_89 (by decide) ?_
            refine r_iald (j := 11) E hw (qi_1001 hM).at (q_lit (k := 11) (n := 3642) rfl rfl) (q_clamp (k := 11) rfl) dX2_happens_91 ?_
            refine lv_sipush (v := (9999:Int32)) hx hb dX2_happens_92 (by decide) ?_
            refine lv_icmp_ge (tgt := 118) hx hb dX2_happens_95 (by decide) (fun c => ?_) (fun c => ?_)
            · have h := qi_t c h
              have h := Option.some.inj h
              obtain ⟨h1, h2⟩ := Prod.mk.inj h
              exact d_ret E hr hw (by rw [h1, h2]) dX2_happens_118
            · have h := qi_f c h
              refine lv_aload_n hx hb dX2_happens_98 rfl (lv_at hl 1 rfl) ?_
              obtain ⟨B18, L19, g20, h⟩ := qb2_s h
              refine d_V (As := []) (v0 := none) (w0 := (A, B18, L19, rs)) hG E hw hl (m_X2_pass l hG hM  g20) (qM0 hM) rfl (cwV 0 hts (lw_V q1751 q1753 qs105 q140 q1754) rfl rfl rfl ⟨rfl, kd_X2_pass⟩ ⟨Nat.le_of_ble_eq_true rfl, Nat.le_of_ble_eq_true rfl⟩) rfl (rest := []) (st1 := []) rfl rfl rfl dX2_happens_99 ⟨Nat.le_of_ble_eq_true rfl, Nat.le_of_ble_eq_true rfl⟩ (fun H locs hw => ?_)
              refine lv_goto (tgt := 118) hx hb dX2_happens_102 (by decide) ?_
              have h := Option.some.inj h
              obtain ⟨h1, h2⟩ := Prod.mk.inj h
              exact d_ret E hr hw (by rw [h1, h2]) dX2_happens_118
          · have h := qi_f c h
            have n6 := qne32 c
            refine lv_tableOut (tgt := 105) hx hb dX2_happens_13 (by have m2 : ((x1 - x1 / (7:Int32) * (7:Int32))).toInt ≠ 2 := n2; have m3 : ((x1 - x1 / (7:Int32) * (7:Int32))).toInt ≠ 3 := n3; have m4 : ((x1 - x1 / (7:Int32) * (7:Int32))).toInt ≠ 4 := n4; have m5 : ((x1 - x1 / (7:Int32) * (7:Int32))).toInt ≠ 5 := n5; have m6 : ((x1 - x1 / (7:Int32) * (7:Int32))).toInt ≠ 6 := n6; omega) (by decide) ?_
            refine lv_aload_n hx hb dX2_happens_105 rfl (lv_at hl 1 rfl) ?_
            refine lv_iload_n hx hb dX2_happens_106 rfl (lv_at hl 0 rfl) ?_
            obtain ⟨u21, g22, h⟩ := qb1_s h
            refine d_V (As := [.int x2_2]) (v0 := some (.int u21)) (w0 := (A, B, L, rs)) hG E hw hl (m_X2_canCall l hG hM  g22) (qM0 hM) rfl (cwV 1 hts (lw_V q1687 q1689 qs94 q140 q1690) rfl rfl rfl ⟨rfl, kd_X2_canCall⟩ ⟨Nat.le_of_ble_eq_true rfl, Nat.le_of_ble_eq_true rfl⟩) rfl (rest := []) (st1 := [.int u21]) rfl rfl rfl dX2_happens_107 ⟨Nat.le_of_ble_eq_true rfl, Nat.le_of_ble_eq_true rfl⟩ (fun H locs hw => ?_)
            refine lv_if_eq (tgt := 118) hx hb dX2_happens_110 (by decide) (fun c => ?_) (fun c => ?_)
            · have h := qi_t c h
              have h := Option.some.inj h
              obtain ⟨h1, h2⟩ := Prod.mk.inj h
              exact d_ret E hr hw (by rw [h1, h2]) dX2_happens_118
            · have h := qi_f c h
              refine lv_aload_n hx hb dX2_happens_113 rfl (lv_at hl 1 rfl) ?_
              refine lv_iload_n hx hb dX2_happens_114 rfl (lv_at hl 0 rfl) ?_
              obtain ⟨B23, g24, h⟩ := qb1_s h
              refine d_V (As := [.int x2_2]) (v0 := none) (w0 := (A, B23, L, rs)) hG E hw hl (m_X2_callNow l hG hM  g24) (qM0 hM) rfl (cwV 1 hts (lw_V q1707 q1709 qs99 q140 q1710) rfl rfl rfl ⟨rfl, kd_X2_callNow⟩ ⟨Nat.le_of_ble_eq_true rfl, Nat.le_of_ble_eq_true rfl⟩) rfl (rest := []) (st1 := []) rfl rfl rfl dX2_happens_115 ⟨Nat.le_of_ble_eq_true rfl, Nat.le_of_ble_eq_true rfl⟩ (fun H locs hw => ?_)
              have h := Option.some.inj h
              obtain ⟨h1, h2⟩ := Prod.mk.inj h
              exact d_ret E hr hw (by rw [h1, h2]) dX2_happens_118

theorem m_X2_happens (l : Launch) {K : QK} {G : State → Prop} (hG : QG G) (hM : QMl K) {A : QA} {rs : QX × QM} {x1 : Int32} {B : QA} {L : QL} {Bo : QA} {Lo : QL} (h : f_X2_happens x1 B L = some (Bo, Lo)) : MC l K G yX2_happens (ws_ yX2_happens cX2_happens 3 none) 8 209 0 0 [.ref (K.2.1 1000), .int x1] (A, B, L, rs) (QR none (A, Bo, Lo, rs)) := by
  refine MC.of (by decide) (Nat.le_of_ble_eq_true rfl) (lv := [(0, .ref (K.2.1 1000)), (1, .int x1)]) rfl (fun p e s m below meth c ls E hr hl hw => ?_)
  exact w_X2_happens_0 hG hM E hr _ _ _  h hw hl

def f_X2_decades_51 : Nat → Int32 → Int32 → QA → QL → Option (Int32 × QA × QL)
  | 0, _, _, _, _ => none
  | n + 1, x2, x3, B, L => if x2 ≤ x3 then (
  some ((B 1001 11), B, L)) else (
  qlet (B 1001 12) fun x4_9 =>
  qb1 (f_X2_anew B) fun B11 =>
  qb2 (f_X2_happens x4_9 B11 L) fun B13 L14 =>
  qlet (x3 + (1:Int32)) fun x3_16 =>
  f_X2_decades_51 n x2 x3_16 B13 L14)
set_option maxHeartbeats 4000000 in
theorem w_X2_decades_51 {p : Program} {l : Launch} {e : Env} {s : State} {m : MethodId} {args : Array Value} {below : List Frame} {meth : Method} {c : Code} {K : QK} {G : State → Prop} {A : QA} {rs : QX × QM} {ro : Int32} {Bo : QA} {Lo : QL} (hG : QG G) (hM : QMl K) (E : EV K G p s m args meth c cX2_decades "VaneCourtModel" 5) (hr : meth.sig.returnType = (some .int)) : ∀ (n : Nat) (x2 : Int32) (x3 : Int32) (B : QA) (L : QL) {H : Heap} {locs : List Loc} {ls : Array Slot}, f_X2_decades_51 n x2 x3 B L = some (ro, Bo, Lo) → WP K (A, B, L, rs) H locs → lv_has ls 5 [(0, .ref (K.2.1 1000)), (2, .int x2), (3, .int x3)] → W p l e (qrm 9 231 0 0) s m args below meth c H locs 0 0 (MQ below (QE K (QR (some (.int ro)) (A, Bo, Lo, rs))) args s 0 0 (qA K)) (F0 m 51 ls []) := by
  have hx := E.1
  have hb := E.2.1
  have hown := E.2.2.1
  have hts := E.2.2.2.2.1
  intro n
  induction n with
  | zero =>
    intro x2 x3 B L H locs ls  h hw hl
    cases h
  | succ n ih =>
    intro x2 x3 B L H locs ls  h hw hl
    rw [f_X2_decades_51] at h
    refine lv_iload_n hx hb dX2_decades_51 rfl (lv_at hl 2 rfl) ?_
    refine lv_iload_n hx hb dX2_decades_52 rfl (lv_at hl 1 rfl) ?_
    refine lv_icmp_ge (tgt := 81) hx hb dX2_decades_53 (by decide) (fun c => ?_) (fun c => ?_)
    · have h := qi_t c h
      refine lv_aload_n hx hb dX2_decades_81 rfl (lv_at hl 0 rfl) ?_
      refine r_getM (v := .ref (K.2.1 1001)) E hw hM 0 (by decide) q1353 rfl dX2_decades_82 ?_
      refine lv_bipush (v := (11:Int32)) hx hb dX2_decades_85 (by decide) ?_
      refine r_iald (j := 11) E hw (qi_1001 hM).at (q_lit (k := 11) (n := 3642) rfl rfl) (q_clamp (k := 11) rfl) dX2_decades_87 ?_
      have h := Option.some.inj h
      obtain ⟨h1, h2⟩ := Prod.mk.inj h
      obtain ⟨h2, h3⟩ := Prod.mk.inj h2
      exact d_iret E hr rfl hw h1 (by rw [h2, h3]) dX2_decades_88
    · have h := qi_f c h
      refine lv_aload_n hx hb dX2_decades_56 rfl (lv_at hl 0 rfl) ?_
      refine r_getM (v := .ref (K.2.1 1001)) E hw hM 0 (by decide) q1353 rfl dX2_decades_57 ?_
      refine lv_bipush (v := (12:Int32)) hx hb dX2_decades_60 (by decide) ?_
      refine r_iald (j := 12) E hw (qi_1001 hM).at (q_lit (k := 12) (n := 3642) rfl rfl) (q_clamp (k := 12) rfl) dX2_decades_62 ?_
      obtain ⟨x4_9, e10, h⟩ := qlet_s h
      refine r_nm e10 ?_
      refine lv_istore (lv' := [(4, .int x4_9), (0, .ref (K.2.1 1000)), (2, .int x2), (3, .int x3)]) hx hb dX2_decades_63 hl (by decide) rfl (fun ls hl => ?_)
      refine lv_aload_n hx hb dX2_decades_65 rfl (lv_at hl 1 rfl) ?_
      obtain ⟨B11, g12, h⟩ := qb1_s h
      refine d_V (As := []) (v0 := none) (w0 := (A, B11, L, rs)) hG E hw hl (m_X2_anew l hG hM  g12) (qM0 hM) rfl (cwV 0 hts (lw_V q1823 q1825 qs118 q140 q1826) rfl rfl rfl ⟨rfl, kd_X2_anew⟩ ⟨Nat.le_of_ble_eq_true rfl, Nat.le_of_ble_eq_true rfl⟩) rfl (rest := []) (st1 := []) rfl rfl rfl dX2_decades_66 ⟨Nat.le_of_ble_eq_true rfl, Nat.le_of_ble_eq_true rfl⟩ (fun H locs hw => ?_)
      refine lv_aload_n hx hb dX2_decades_69 rfl (lv_at hl 1 rfl) ?_
      refine lv_iload hx hb dX2_decades_70 (lv_at hl 0 rfl) ?_
      obtain ⟨B13, L14, g15, h⟩ := qb2_s h
      refine d_V (As := [.int x4_9]) (v0 := none) (w0 := (A, B13, L14, rs)) hG E hw hl (m_X2_happens l hG hM  g15) (qM0 hM) rfl (cwV 1 hts (lw_V q1849 q1851 qs121 q140 q1852) rfl rfl rfl ⟨rfl, kd_X2_happens⟩ ⟨Nat.le_of_ble_eq_true rfl, Nat.le_of_ble_eq_true rfl⟩) rfl (rest := []) (st1 := []) rfl rfl rfl dX2_decades_72 ⟨Nat.le_of_ble_eq_true rfl, Nat.le_of_ble_eq_true rfl⟩ (fun H locs hw => ?_)
      obtain ⟨x3_16, e17, h⟩ := qlet_s h
      refine lv_iinc (v := x3_16) (lv' := [(3, .int x3_16), (4, .int x4_9), (0, .ref (K.2.1 1000)), (2, .int x2)]) (k := 3) hx hb dX2_decades_75 hl rfl (by rw [e17]; rfl) (by decide) rfl (fun ls hl => ?_)
      refine lv_goto (tgt := 51) hx hb dX2_decades_78 (by decide) ?_
      exact ih _ _ _ _  h hw (lv_sub hl [2, 3, 0] rfl)

def f_X2_decades (x1 : Int32) (x2 : Int32) (B : QA) (L : QL) : Option (Int32 × QA × QL) :=
  qb1 (f_X2_isIn x1 (0:Int32) (9999:Int32)) fun u1 =>
  if u1 = (0:Int32) then (
  some ((-1:Int32), B, L)) else (
  qb1 (f_X2_isIn x2 (1:Int32) (40:Int32)) fun u3 =>
  if u3 = (0:Int32) then (
  some ((-1:Int32), B, L)) else (
  if (B 1001 0) = (0:Int32) then (
  some ((-1:Int32), B, L)) else (
  qb1 (f_X2_keep B) fun B5 =>
  qlet (qu B5 1001 12 ((x1 * (2:Int32)) + (107:Int32))) fun B7 =>
  f_X2_decades_51 FU x2 (0:Int32) B7 L)))
set_option maxHeartbeats 4000000 in
theorem w_X2_decades_0 {p : Program} {l : Launch} {e : Env} {s : State} {m : MethodId} {args : Array Value} {below : List Frame} {meth : Method} {c : Code} {K : QK} {G : State → Prop} {A : QA} {rs : QX × QM} {ro : Int32} {Bo : QA} {Lo : QL} (hG : QG G) (hM : QMl K) (E : EV K G p s m args meth c cX2_decades "VaneCourtModel" 5) (hr : meth.sig.returnType = (some .int)) : ∀ (x1 : Int32) (x2 : Int32) (B : QA) (L : QL) {H : Heap} {locs : List Loc} {ls : Array Slot}, f_X2_decades x1 x2 B L = some (ro, Bo, Lo) → WP K (A, B, L, rs) H locs → lv_has ls 5 [(0, .ref (K.2.1 1000)), (1, .int x1), (2, .int x2)] → W p l e (qrm 9 231 0 0) s m args below meth c H locs 0 0 (MQ below (QE K (QR (some (.int ro)) (A, Bo, Lo, rs))) args s 0 0 (qA K)) (F0 m 0 ls []) := by
  have hx := E.1
  have hb := E.2.1
  have hown := E.2.2.1
  have hts := E.2.2.2.2.1
  intro x1 x2 B L H locs ls  h hw hl
  rw [f_X2_decades] at h
  refine lv_iload_n hx hb dX2_decades_0 rfl (lv_at hl 1 rfl) ?_
  refine lv_iconst (v := (0:Int32)) hx hb dX2_decades_1 (by decide) ?_
  refine lv_sipush (v := (9999:Int32)) hx hb dX2_decades_2 (by decide) ?_
  obtain ⟨u1, g2, h⟩ := qb1_s h
  refine d_S (As := [.int x1, .int (0:Int32), .int (9999:Int32)]) (v0 := some (.int u1)) (w0 := (A, B, L, rs)) hG E hw hl (m_X2_isIn l hG hM  g2) (va_cwS 3 hts (lw_S q1480 q1481 q140 q1482) rfl rfl rfl kd_X2_isIn ⟨Nat.le_of_ble_eq_true rfl, Nat.le_of_ble_eq_true rfl⟩) rfl (rest := []) (st1 := [.int u1]) rfl rfl rfl dX2_decades_5 ⟨Nat.le_of_ble_eq_true rfl, Nat.le_of_ble_eq_true rfl⟩ (fun H locs hw => ?_)
  refine lv_if_eq (tgt := 30) hx hb dX2_decades_8 (by decide) (fun c => ?_) (fun c => ?_)
  · have h := qi_t c h
    refine lv_iconst (v := (-1:Int32)) hx hb dX2_decades_30 (by decide) ?_
    have h := Option.some.inj h
    obtain ⟨h1, h2⟩ := Prod.mk.inj h
    obtain ⟨h2, h3⟩ := Prod.mk.inj h2
    exact d_iret E hr rfl hw h1 (by rw [h2, h3]) dX2_decades_31
  · have h := qi_f c h
    refine lv_iload_n hx hb dX2_decades_11 rfl (lv_at hl 2 rfl) ?_
    refine lv_iconst (v := (1:Int32)) hx hb dX2_decades_12 (by decide) ?_
    refine lv_bipush (v := (40:Int32)) hx hb dX2_decades_13 (by decide) ?_
    obtain ⟨u3, g4, h⟩ := qb1_s h
    refine d_S (As := [.int x2, .int (1:Int32), .int (40:Int32)]) (v0 := some (.int u3)) (w0 := (A, B, L, rs)) hG E hw hl (m_X2_isIn l hG hM  g4) (va_cwS 3 hts (lw_S q1480 q1481 q140 q1482) rfl rfl rfl kd_X2_isIn ⟨Nat.le_of_ble_eq_true rfl, Nat.le_of_ble_eq_true rfl⟩) rfl (rest := []) (st1 := [.int u3]) rfl rfl rfl dX2_decades_15 ⟨Nat.le_of_ble_eq_true rfl, Nat.le_of_ble_eq_true rfl⟩ (fun H locs hw => ?_)
    refine lv_if_eq (tgt := 30) hx hb dX2_decades_18 (by decide) (fun c => ?_) (fun c => ?_)
    · have h := qi_t c h
      refine lv_iconst (v := (-1:Int32)) hx hb dX2_decades_30 (by decide) ?_
      have h := Option.some.inj h
      obtain ⟨h1, h2⟩ := Prod.mk.inj h
      obtain ⟨h2, h3⟩ := Prod.mk.inj h2
      exact d_iret E hr rfl hw h1 (by rw [h2, h3]) dX2_decades_31
    · have h := qi_f c h
      refine lv_aload_n hx hb dX2_decades_21 rfl (lv_at hl 0 rfl) ?_
      refine r_getM (v := .ref (K.2.1 1001)) E hw hM 0 (by decide) q1353 rfl dX2_decades_22 ?_
      refine lv_iconst (v := (0:Int32)) hx hb dX2_decades_25 (by decide) ?_
      refine r_iald (j := 0) E hw (qi_1001 hM).at (q_lit (k := 0) (n := 3642) rfl rfl) (q_clamp (k := 0) rfl) dX2_decades_26 ?_
      refine lv_if_ne (tgt := 32) hx hb dX2_decades_27 (by decide) (fun c => ?_) (fun c => ?_)
      · have h := qi_f c h
        refine lv_aload_n hx hb dX2_decades_32 rfl (lv_at hl 0 rfl) ?_
        obtain ⟨B5, g6, h⟩ := qb1_s h
        refine d_V (As := []) (v0 := none) (w0 := (A, B5, L, rs)) hG E hw hl (m_X2_keep l hG hM  g6) (qM0 hM) rfl (cwV 0 hts (lw_V q1703 q1705 qs98 q140 q1706) rfl rfl rfl ⟨rfl, kd_X2_keep⟩ ⟨Nat.le_of_ble_eq_true rfl, Nat.le_of_ble_eq_true rfl⟩) rfl (rest := []) (st1 := []) rfl rfl rfl dX2_decades_33 ⟨Nat.le_of_ble_eq_true rfl, Nat.le_of_ble_eq_true rfl⟩ (fun H locs hw => ?_)
        refine lv_aload_n hx hb dX2_decades_36 rfl (lv_at hl 0 rfl) ?_
        refine r_getM (v := .ref (K.2.1 1001)) E hw hM 0 (by decide) q1353 rfl dX2_decades_37 ?_
        refine lv_bipush (v := (12:Int32)) hx hb dX2_decades_40 (by decide) ?_
        refine lv_iload_n hx hb dX2_decades_42 rfl (lv_at hl 1 rfl) ?_
        refine lv_iconst (v := (2:Int32)) hx hb dX2_decades_43 (by decide) ?_
        refine lv_imul hx hb dX2_decades_44 ?_
        refine lv_bipush (v := (107:Int32)) hx hb dX2_decades_45 (by decide) ?_
        refine lv_iadd hx hb dX2_decades_47 ?_
        obtain ⟨B7, e8, h⟩ := qlet_s h
        refine r_iastB (j := 12) E hw (qi_1001 hM) (q_lit (k := 12) (n := 3642) rfl rfl) (q_clamp (k := 12) rfl) dX2_decades_48 (fun H locs hw => ?_)
        rw [← e8] at hw
        refine lv_iconst (v := (0:Int32)) hx hb dX2_decades_49 (by decide) ?_
        refine lv_istore_n (lv' := [(3, .int (0:Int32)), (0, .ref (K.2.1 1000)), (1, .int x1), (2, .int x2)]) hx hb dX2_decades_50 rfl hl (by decide) rfl (fun ls hl => ?_)
        exact w_X2_decades_51 hG hM E hr  _ _ _ _ _   h hw (lv_sub hl [1, 3, 0] rfl)
      · have h := qi_t c h
        refine lv_iconst (v := (-1:Int32)) hx hb dX2_decades_30 (by decide) ?_
        have h := Option.some.inj h
        obtain ⟨h1, h2⟩ := Prod.mk.inj h
        obtain ⟨h2, h3⟩ := Prod.mk.inj h2
        exact d_iret E hr rfl hw h1 (by rw [h2, h3]) dX2_decades_31

theorem m_X2_decades (l : Launch) {K : QK} {G : State → Prop} (hG : QG G) (hM : QMl K) {A : QA} {rs : QX × QM} {x1 : Int32} {x2 : Int32} {B : QA} {L : QL} {ro : Int32} {Bo : QA} {Lo : QL} (h : f_X2_decades x1 x2 B L = some (ro, Bo, Lo)) : MC l K G yX2_decades (ws_ yX2_decades cX2_decades 5 (some .int)) 9 231 0 0 [.ref (K.2.1 1000), .int x1, .int x2] (A, B, L, rs) (QR (some (.int ro)) (A, Bo, Lo, rs)) := by
  refine MC.of (by decide) (Nat.le_of_ble_eq_true rfl) (lv := [(0, .ref (K.2.1 1000)), (1, .int x1), (2, .int x2)]) rfl (fun p e s m below meth c ls E hr hl hw => ?_)
  exact w_X2_decades_0 hG hM E hr _ _ _ _  h hw hl

def f_X2_ofCase (x1 : Int32) (x2 : Int32) (B : QA) : Option (Int32) :=
  qb1 (f_X2_isCase x1 B) fun u1 =>
  if u1 = (0:Int32) then (
  some ((-1:Int32))) else (
  qb1 (f_X2_isIn x2 (0:Int32) (6:Int32)) fun u3 =>
  if u3 = (0:Int32) then (
  some ((-1:Int32))) else (
  qb1 (f_X2_get x1 x2 B) fun u5 =>
  some (u5)))
set_option maxHeartbeats 4000000 in
theorem w_X2_ofCase_0 {p : Program} {l : Launch} {e : Env} {s : State} {m : MethodId} {args : Array Value} {below : List Frame} {meth : Method} {c : Code} {K : QK} {G : State → Prop} {A : QA} {rs : QX × QM} {L : QL} {ro : Int32} (hG : QG G) (hM : QMl K) (E : EV K G p s m args meth c cX2_ofCase "VaneCourtModel" 3) (hr : meth.sig.returnType = (some .int)) : ∀ (x1 : Int32) (x2 : Int32) (B : QA) {H : Heap} {locs : List Loc} {ls : Array Slot}, f_X2_ofCase x1 x2 B = some ro → WP K (A, B, L, rs) H locs → lv_has ls 3 [(0, .ref (K.2.1 1000)), (1, .int x1), (2, .int x2)] → W p l e (qrm 3 83 0 0) s m args below meth c H locs 0 0 (MQ below (QE K (QR (some (.int ro)) (A, B, L, rs))) args s 0 0 (qA K)) (F0 m 0 ls []) := by
  have hx := E.1
  have hb := E.2.1
  have hown := E.2.2.1
  have hts := E.2.2.2.2.1
  intro x1 x2 B H locs ls  h hw hl
  rw [f_X2_ofCase] at h
  refine lv_aload_n hx hb dX2_ofCase_0 rfl (lv_at hl 0 rfl) ?_
  refine lv_iload_n hx hb dX2_ofCase_1 rfl (lv_at hl 1 rfl) ?_
  obtain ⟨u1, g2, h⟩ := qb1_s h
  refine d_V (As := [.int x1]) (v0 := some (.int u1)) (w0 := (A, B, L, rs)) hG E hw hl (m_X2_isCase l hG hM  g2) (qM0 hM) rfl (cwV 1 hts (lw_V q1695 q1697 qs96 q140 q1698) rfl rfl rfl ⟨rfl, kd_X2_isCase⟩ ⟨Nat.le_of_ble_eq_true rfl, Nat.le_of_ble_eq_true rfl⟩) rfl (rest := []) (st1 := [.int u1]) rfl rfl rfl dX2_ofCase_2 ⟨Nat.le_of_ble_eq_true rfl, Nat.le_of_ble_eq_true rfl⟩ (fun H locs hw => ?_)
  refine lv_if_eq (tgt := 27) hx hb dX2_ofCase_5 (by decide) (fun c => ?_) (fun c => ?_)
  · have h := qi_t c h
    refine lv_iconst (v := (-1:Int32)) hx hb dX2_ofCase_27 (by decide) ?_
    have h := Option.some.inj h
    have h1 := h
    exact d_iret E hr rfl hw h1 rfl dX2_ofCase_28
  · have h := qi_f c h
    refine lv_iload_n hx hb dX2_ofCase_8 rfl (lv_at hl 2 rfl) ?_
    refine lv_iconst (v := (0:Int32)) hx hb dX2_ofCase_9 (by decide) ?_
    refine lv_bipush (v := (6:Int32)) hx hb dX2_ofCase_10 (by decide) ?_
    obtain ⟨u3, g4, h⟩ := qb1_s h
    refine d_S (As := [.int x2, .int (0:Int32), .int (6:Int32)]) (v0 := some (.int u3)) (w0 := (A, B, L, rs)) hG E hw hl (m_X2_isIn l hG hM  g4) (va_cwS 3 hts (lw_S q1480 q1481 q140 q1482) rfl rfl rfl kd_X2_isIn ⟨Nat.le_of_ble_eq_true rfl, Nat.le_of_ble_eq_true rfl⟩) rfl (rest := []) (st1 := [.int u3]) rfl rfl rfl dX2_ofCase_12 ⟨Nat.le_of_ble_eq_true rfl, Nat.le_of_ble_eq_true rfl⟩ (fun H locs hw => ?_)
    refine lv_if_eq (tgt := 27) hx hb dX2_ofCase_15 (by decide) (fun c => ?_) (fun c => ?_)
    · have h := qi_t c h
      refine lv_iconst (v := (-1:Int32)) hx hb dX2_ofCase_27 (by decide) ?_
      have h := Option.some.inj h
      have h1 := h
      exact d_iret E hr rfl hw h1 rfl dX2_ofCase_28
    · have h := qi_f c h
      refine lv_aload_n hx hb dX2_ofCase_18 rfl (lv_at hl 0 rfl) ?_
      refine lv_iload_n hx hb dX2_ofCase_19 rfl (lv_at hl 1 rfl) ?_
      refine lv_iload_n hx hb dX2_ofCase_20 rfl (lv_at hl 2 rfl) ?_
      obtain ⟨u5, g6, h⟩ := qb1_s h
      refine d_V (As := [.int x1, .int x2]) (v0 := some (.int u5)) (w0 := (A, B, L, rs)) hG E hw hl (m_X2_get l hG hM  g6) (qM0 hM) rfl (cwV 2 hts (lw_V q1699 q1701 qs97 q140 q1702) rfl rfl rfl ⟨rfl, kd_X2_get⟩ ⟨Nat.le_of_ble_eq_true rfl, Nat.le_of_ble_eq_true rfl⟩) rfl (rest := []) (st1 := [.int u5]) rfl rfl rfl dX2_ofCase_21 ⟨Nat.le_of_ble_eq_true rfl, Nat.le_of_ble_eq_true rfl⟩ (fun H locs hw => ?_)
      refine lv_goto (tgt := 28) hx hb dX2_ofCase_24 (by decide) ?_
      have h := Option.some.inj h
      have h1 := h
      exact d_iret E hr rfl hw h1 rfl dX2_ofCase_28

theorem m_X2_ofCase (l : Launch) {K : QK} {G : State → Prop} (hG : QG G) (hM : QMl K) {A : QA} {rs : QX × QM} {L : QL} {x1 : Int32} {x2 : Int32} {B : QA} {ro : Int32} (h : f_X2_ofCase x1 x2 B = some ro) : MC l K G yX2_ofCase (ws_ yX2_ofCase cX2_ofCase 3 (some .int)) 3 83 0 0 [.ref (K.2.1 1000), .int x1, .int x2] (A, B, L, rs) (QR (some (.int ro)) (A, B, L, rs)) := by
  refine MC.of (by decide) (Nat.le_of_ble_eq_true rfl) (lv := [(0, .ref (K.2.1 1000)), (1, .int x1), (2, .int x2)]) rfl (fun p e s m below meth c ls E hr hl hw => ?_)
  exact w_X2_ofCase_0 hG hM E hr _ _ _  h hw hl

def f_X2_is (x1 : Int32) (B : QA) : Option (Int32) :=
  qb1 (f_X2_isIn x1 (0:Int32) (8:Int32)) fun u1 =>
  if u1 = (0:Int32) then (
  some ((-2:Int32))) else (
  qif (qok ((8:Int32) + x1) 3642) <|
  some ((B 1001 ((8:Int32) + x1).toNatClampNeg)))
set_option maxHeartbeats 4000000 in
theorem w_X2_is_0 {p : Program} {l : Launch} {e : Env} {s : State} {m : MethodId} {args : Array Value} {below : List Frame} {meth : Method} {c : Code} {K : QK} {G : State → Prop} {A : QA} {rs : QX × QM} {L : QL} {ro : Int32} (hG : QG G) (hM : QMl K) (E : EV K G p s m args meth c cX2_is "VaneCourtModel" 2) (hr : meth.sig.returnType = (some .int)) : ∀ (x1 : Int32) (B : QA) {H : Heap} {locs : List Loc} {ls : Array Slot}, f_X2_is x1 B = some ro → WP K (A, B, L, rs) H locs → lv_has ls 2 [(0, .ref (K.2.1 1000)), (1, .int x1)] → W p l e (qrm 2 62 0 0) s m args below meth c H locs 0 0 (MQ below (QE K (QR (some (.int ro)) (A, B, L, rs))) args s 0 0 (qA K)) (F0 m 0 ls []) := by
  have hx := E.1
  have hb := E.2.1
  have hown := E.2.2.1
  have hts := E.2.2.2.2.1
  intro x1 B H locs ls  h hw hl
  rw [f_X2_is] at h
  refine lv_iload_n hx hb dX2_is_0 rfl (lv_at hl 1 rfl) ?_
  refine lv_iconst (v := (0:Int32)) hx hb dX2_is_1 (by decide) ?_
  refine lv_bipush (v := (8:Int32)) hx hb dX2_is_2 (by decide) ?_
  obtain ⟨u1, g2, h⟩ := qb1_s h
  refine d_S (As := [.int x1, .int (0:Int32), .int (8:Int32)]) (v0 := some (.int u1)) (w0 := (A, B, L, rs)) hG E hw hl (m_X2_isIn l hG hM  g2) (va_cwS 3 hts (lw_S q1480 q1481 q140 q1482) rfl rfl rfl kd_X2_isIn ⟨Nat.le_of_ble_eq_true rfl, Nat.le_of_ble_eq_true rfl⟩) rfl (rest := []) (st1 := [.int u1]) rfl rfl rfl dX2_is_4 ⟨Nat.le_of_ble_eq_true rfl, Nat.le_of_ble_eq_true rfl⟩ (fun H locs hw => ?_)
  refine lv_if_eq (tgt := 22) hx hb dX2_is_7 (by decide) (fun c => ?_) (fun c => ?_)
  · have h := qi_t c h
    refine lv_bipush (v := (-2:Int32)) hx hb dX2_is_22 (by decide) ?_
    have h := Option.some.inj h
    have h1 := h
    exact d_iret E hr rfl hw h1 rfl dX2_is_24
  · have h := qi_f c h
    refine lv_aload_n hx hb dX2_is_10 rfl (lv_at hl 0 rfl) ?_
    refine r_getM (v := .ref (K.2.1 1001)) E hw hM 0 (by decide) q1353 rfl dX2_is_11 ?_
    refine lv_bipush (v := (8:Int32)) hx hb dX2_is_14 (by decide) ?_
    refine lv_iload_n hx hb dX2_is_16 rfl (lv_at hl 1 rfl) ?_
    refine lv_iadd hx hb dX2_is_17 ?_
    obtain ⟨z3, h⟩ := qif_s h
    refine r_iald (j := ((8:Int32) + x1).toNatClampNeg) E hw (qi_1001 hM).at (qok_in z3) rfl dX2_is_18 ?_
    refine lv_goto (tgt := 24) hx hb dX2_is_19 (by decide) ?_
    have h := Option.some.inj h
    have h1 := h
    exact d_iret E hr rfl hw h1 rfl dX2_is_24

theorem m_X2_is (l : Launch) {K : QK} {G : State → Prop} (hG : QG G) (hM : QMl K) {A : QA} {rs : QX × QM} {L : QL} {x1 : Int32} {B : QA} {ro : Int32} (h : f_X2_is x1 B = some ro) : MC l K G yX2_is (ws_ yX2_is cX2_is 2 (some .int)) 2 62 0 0 [.ref (K.2.1 1000), .int x1] (A, B, L, rs) (QR (some (.int ro)) (A, B, L, rs)) := by
  refine MC.of (by decide) (Nat.le_of_ble_eq_true rfl) (lv := [(0, .ref (K.2.1 1000)), (1, .int x1)]) rfl (fun p e s m below meth c ls E hr hl hw => ?_)
  exact w_X2_is_0 hG hM E hr _ _  h hw hl

def f_X2_shown (B : QA) : Option (Int32) :=
  if (30:Int32) ≤ (B 1001 17) then (
  some ((30:Int32))) else (
  some ((B 1001 17)))
set_option maxHeartbeats 4000000 in
theorem w_X2_shown_0 {p : Program} {l : Launch} {e : Env} {s : State} {m : MethodId} {args : Array Value} {below : List Frame} {meth : Method} {c : Code} {K : QK} {G : State → Prop} {A : QA} {rs : QX × QM} {L : QL} {ro : Int32} (hG : QG G) (hM : QMl K) (E : EV K G p s m args meth c cX2_shown "VaneCourtModel" 1) (hr : meth.sig.returnType = (some .int)) : ∀ (B : QA) {H : Heap} {locs : List Loc} {ls : Array Slot}, f_X2_shown B = some ro → WP K (A, B, L, rs) H locs → lv_has ls 1 [(0, .ref (K.2.1 1000))] → W p l e (qrm 1 40 0 0) s m args below meth c H locs 0 0 (MQ below (QE K (QR (some (.int ro)) (A, B, L, rs))) args s 0 0 (qA K)) (F0 m 0 ls []) := by
  have hx := E.1
  have hb := E.2.1
  have hown := E.2.2.1
  have hts := E.2.2.2.2.1
  intro B H locs ls  h hw hl
  rw [f_X2_shown] at h
  refine lv_aload_n hx hb dX2_shown_0 rfl (lv_at hl 0 rfl) ?_
  refine r_getM (v := .ref (K.2.1 1001)) E hw hM 0 (by decide) q1353 rfl dX2_shown_1 ?_
  refine lv_bipush (v := (17:Int32)) hx hb dX2_shown_4 (by decide) ?_
  refine r_iald (j := 17) E hw (qi_1001 hM).at (q_lit (k := 17) (n := 3642) rfl rfl) (q_clamp (k := 17) rfl) dX2_shown_6 ?_
  refine lv_bipush (v := (30:Int32)) hx hb dX2_shown_7 (by decide) ?_
  refine lv_icmp_ge (tgt := 22) hx hb dX2_shown_9 (by decide) (fun c => ?_) (fun c => ?_)
  · have h := qi_t c h
    refine lv_bipush (v := (30:Int32)) hx hb dX2_shown_22 (by decide) ?_
    have h := Option.some.inj h
    have h1 := h
    exact d_iret E hr rfl hw h1 rfl dX2_shown_24
  · have h := qi_f c h
    refine lv_aload_n hx hb dX2_shown_12 rfl (lv_at hl 0 rfl) ?_
    refine r_getM (v := .ref (K.2.1 1001)) E hw hM 0 (by decide) q1353 rfl dX2_shown_13 ?_
    refine lv_bipush (v := (17:Int32)) hx hb dX2_shown_16 (by decide) ?_
    refine r_iald (j := 17) E hw (qi_1001 hM).at (q_lit (k := 17) (n := 3642) rfl rfl) (q_clamp (k := 17) rfl) dX2_shown_18 ?_
    refine lv_goto (tgt := 24) hx hb dX2_shown_19 (by decide) ?_
    have h := Option.some.inj h
    have h1 := h
    exact d_iret E hr rfl hw h1 rfl dX2_shown_24

theorem m_X2_shown (l : Launch) {K : QK} {G : State → Prop} (hG : QG G) (hM : QMl K) {A : QA} {rs : QX × QM} {L : QL} {B : QA} {ro : Int32} (h : f_X2_shown B = some ro) : MC l K G yX2_shown (ws_ yX2_shown cX2_shown 1 (some .int)) 1 40 0 0 [.ref (K.2.1 1000)] (A, B, L, rs) (QR (some (.int ro)) (A, B, L, rs)) := by
  refine MC.of (by decide) (Nat.le_of_ble_eq_true rfl) (lv := [(0, .ref (K.2.1 1000))]) rfl (fun p e s m below meth c ls E hr hl hw => ?_)
  exact w_X2_shown_0 hG hM E hr _  h hw hl

def f_X2_book (x1 : Int32) (x2 : Int32) (B : QA) : Option (Int32) :=
  if x1 = (-1:Int32) then (
  qb1 (f_X2_shown B) fun u13 =>
  some (u13)) else (
  qb1 (f_X2_shown B) fun u1 =>
  qb1 (f_X2_isIn x1 (0:Int32) (u1 - (1:Int32))) fun u3 =>
  if u3 = (0:Int32) then (
  some ((-2:Int32))) else (
  qb1 (f_X2_shown B) fun u5 =>
  qlet ((1182:Int32) + ((2:Int32) * ((((B 1001 17) - u5) + x1) - (((B 1001 17) - u5) + x1) / (1230:Int32) * (1230:Int32)))) fun x3_7 =>
  if x2 = (0:Int32) then (
  qif (qok x3_7 3642) <|
  some (((B 1001 x3_7.toNatClampNeg) / (8:Int32)))) else (
  if x2 = (1:Int32) then (
  qif (qok x3_7 3642) <|
  some (((B 1001 x3_7.toNatClampNeg) - (B 1001 x3_7.toNatClampNeg) / (8:Int32) * (8:Int32)))) else (
  if x2 = (2:Int32) then (
  qif (qok (x3_7 + (1:Int32)) 3642) <|
  some (((B 1001 (x3_7 + (1:Int32)).toNatClampNeg) / (1000:Int32)))) else (
  if x2 = (3:Int32) then (
  qif (qok (x3_7 + (1:Int32)) 3642) <|
  some (((B 1001 (x3_7 + (1:Int32)).toNatClampNeg) - (B 1001 (x3_7 + (1:Int32)).toNatClampNeg) / (1000:Int32) * (1000:Int32)))) else (
  some ((-2:Int32))))))))
set_option maxHeartbeats 4000000 in
theorem w_X2_book_0 {p : Program} {l : Launch} {e : Env} {s : State} {m : MethodId} {args : Array Value} {below : List Frame} {meth : Method} {c : Code} {K : QK} {G : State → Prop} {A : QA} {rs : QX × QM} {L : QL} {ro : Int32} (hG : QG G) (hM : QMl K) (E : EV K G p s m args meth c cX2_book "VaneCourtModel" 4) (hr : meth.sig.returnType = (some .int)) : ∀ (x1 : Int32) (x2 : Int32) (B : QA) {H : Heap} {locs : List Loc} {ls : Array Slot}, f_X2_book x1 x2 B = some ro → WP K (A, B, L, rs) H locs → lv_has ls 4 [(0, .ref (K.2.1 1000)), (1, .int x1), (2, .int x2)] → W p l e (qrm 2 62 0 0) s m args below meth c H locs 0 0 (MQ below (QE K (QR (some (.int ro)) (A, B, L, rs))) args s 0 0 (qA K)) (F0 m 0 ls []) := by
  have hx := E.1
  have hb := E.2.1
  have hown := E.2.2.1
  have hts := E.2.2.2.2.1
  intro x1 x2 B H locs ls  h hw hl
  rw [f_X2_book] at h
  refine lv_iload_n hx hb dX2_book_0 rfl (lv_at hl 1 rfl) ?_
  refine lv_iconst (v := (-1:Int32)) hx hb dX2_book_1 (by decide) ?_
  refine lv_icmp_ne (tgt := 10) hx hb dX2_book_2 (by decide) (fun c => ?_) (fun c => ?_)
  · have h := qi_f c h
    refine lv_iload_n hx hb dX2_book_10 rfl (lv_at hl 1 rfl) ?_
    refine lv_iconst (v := (0:Int32)) hx hb dX2_book_11 (by decide) ?_
    refine lv_aload_n hx hb dX2_book_12 rfl (lv_at hl 0 rfl) ?_
    obtain ⟨u1, g2, h⟩ := qb1_s h
    refine d_V (As := []) (v0 := some (.int u1)) (w0 := (A, B, L, rs)) hG E hw hl (m_X2_shown l hG hM  g2) (qM0 hM) rfl (cwV 0 hts (lw_V q1865 q1867 qs122 q140 q1868) rfl rfl rfl ⟨rfl, kd_X2_shown⟩ ⟨Nat.le_of_ble_eq_true rfl, Nat.le_of_ble_eq_true rfl⟩) rfl (rest := [.int (0:Int32), .int x1]) (st1 := [.int u1, .int (0:Int32), .int x1]) rfl rfl rfl dX2_book_13 ⟨Nat.le_of_ble_eq_true rfl, Nat.le_of_ble_eq_true rfl⟩ (fun H locs hw => ?_)
    refine lv_iconst (v := (1:Int32)) hx hb dX2_book_16 (by decide) ?_
    refine lv_isub hx hb dX2_book_17 ?_
    obtain ⟨u3, g4, h⟩ := qb1_s h
    refine d_S (As := [.int x1, .int (0:Int32), .int (u1 - (1:Int32))]) (v0 := some (.int u3)) (w0 := (A, B, L, rs)) hG E hw hl (m_X2_isIn l hG hM  g4) (va_cwS 3 hts (lw_S q1480 q1481 q140 q1482) rfl rfl rfl kd_X2_isIn ⟨Nat.le_of_ble_eq_true rfl, Nat.le_of_ble_eq_true rfl⟩) rfl (rest := []) (st1 := [.int u3]) rfl rfl rfl dX2_book_18 ⟨Nat.le_of_ble_eq_true rfl, Nat.le_of_ble_eq_true rfl⟩ (fun H locs hw => ?_)
    refine lv_if_ne (tgt := 27) hx hb dX2_book_21 (by decide) (fun c => ?_) (fun c => ?_)
    · have h := qi_f c h
      refine lv_sipush (v := (1182:Int32)) hx hb dX2_book_27 (by decide) ?_
      refine lv_iconst (v := (2:Int32)) hx hb dX2_book_30 (by decide) ?_
      refine lv_aload_n hx hb dX2_book_31 rfl (lv_at hl 0 rfl) ?_
      refine r_getM (v := .ref (K.2.1 1001)) E hw hM 0 (by decide) q1353 rfl dX2_book_32 ?_
      refine lv_bipush (v := (17:Int32)) hx hb dX2_book_35 (by decide) ?_
      refine r_iald (j := 17) E hw (qi_1001 hM).at (q_lit (k := 17) (n := 3642) rfl rfl) (q_clamp (k := 17) rfl) dX2_book_37 ?_
      refine lv_aload_n hx hb dX2_book_38 rfl (lv_at hl 0 rfl) ?_
      obtain ⟨u5, g6, h⟩ := qb1_s h
      refine d_V (As := []) (v0 := some (.int u5)) (w0 := (A, B, L, rs)) hG E hw hl (m_X2_shown l hG hM  g6) (qM0 hM) rfl (cwV 0 hts (lw_V q1865 q1867 qs122 q140 q1868) rfl rfl rfl ⟨rfl, kd_X2_shown⟩ ⟨Nat.le_of_ble_eq_true rfl, Nat.le_of_ble_eq_true rfl⟩) rfl (rest := [.int (B 1001 17), .int (2:Int32), .int (1182:Int32)]) (st1 := [.int u5, .int (B 1001 17), .int (2:Int32), .int (1182:Int32)]) rfl rfl rfl dX2_book_39 ⟨Nat.le_of_ble_eq_true rfl, Nat.le_of_ble_eq_true rfl⟩ (fun H locs hw => ?_)
      refine lv_isub hx hb dX2_book_42 ?_
      refine lv_iload_n hx hb dX2_book_43 rfl (lv_at hl 1 rfl) ?_
      refine lv_iadd hx hb dX2_book_44 ?_
      refine lv_sipush (v := (1230:Int32)) hx hb dX2_book_45 (by decide) ?_
      refine lv_irem hx hb dX2_book_48 (by decide) ?_
      refine lv_imul hx hb dX2_book_49 ?_
      refine lv_iadd hx hb dX2_book_50 ?_
      obtain ⟨x3_7, e8, h⟩ := qlet_s h
      refine r_nm e8 ?_
      refine lv_istore_n (lv' := [(3, .int x3_7), (0, .ref (K.2.1 1000)), (1, .int x1), (2, .int x2)]) hx hb dX2_book_51 rfl hl (by decide) rfl (fun ls hl => ?_)
      refine lv_iload_n hx hb dX2_book_52 rfl (lv_at hl 3 rfl) ?_
      by_cases c : x2 = (0:Int32)
      · have h := qi_t c h
        refine lv_tableIn (tgt := 84) (off := 31) hx hb dX2_book_53 (by rw [c]; decide) (by rw [c]; decide) (by rw [c]; rfl) (by decide) ?_
        refine lv_aload_n hx hb dX2_book_84 rfl (lv_at hl 1 rfl) ?_
        refine r_getM (v := .ref (K.2.1 1001)) E hw hM 0 (by decide) q1353 rfl dX2_book_85 ?_
        refine lv_iload_n hx hb dX2_book_88 rfl (lv_at hl 0 rfl) ?_
        obtain ⟨z9, h⟩ := qif_s h
        refine r_iald (j := x3_7.toNatClampNeg) E hw (qi_1001 hM).at (qok_in z9) rfl dX2_book_89 ?_
        refine lv_bipush (v := (8:Int32)) hx hb dX2_book_90 (by decide) ?_
        refine lv_idiv hx hb dX2_book_92 (by decide) ?_
        have h := Option.some.inj h
        have h1 := h
        exact d_iret E hr rfl hw h1 rfl dX2_book_93
      · have h := qi_f c h
        have n0 := qne32 c
        by_cases c : x2 = (1:Int32)
        · have h := qi_t c h
          refine lv_tableIn (tgt := 94) (off := 41) hx hb dX2_book_53 (by rw [c]; decide) (by rw [c]; decide) (by rw [c]; rfl) (by decide) ?_
          refine lv_aload_n hx hb dX2_book_94 rfl (lv_at hl 1 rfl) ?_
          refine r_getM (v := .ref (K.2.1 1001)) E hw hM 0 (by decide) q1353 rfl dX2_book_95 ?_
          refine lv_iload_n hx hb dX2_book_98 rfl (lv_at hl 0 rfl) ?_
          obtain ⟨z10, h⟩ := qif_s h
          refine r_iald (j := x3_7.toNatClampNeg) E hw (qi_1001 hM).at (qok_in z10) rfl dX2_book_99 ?_
          refine lv_bipush (v := (8:Int32)) hx hb dX2_book_100 (by decide) ?_
          refine lv_irem hx hb dX2_book_102 (by decide) ?_
          have h := Option.some.inj h
          have h1 := h
          exact d_iret E hr rfl hw h1 rfl dX2_book_103
        · have h := qi_f c h
          have n1 := qne32 c
          by_cases c : x2 = (2:Int32)
          · have h := qi_t c h
            refine lv_tableIn (tgt := 104) (off := 51) hx hb dX2_book_53 (by rw [c]; decide) (by rw [c]; decide) (by rw [c]; rfl) (by decide) ?_
            refine lv_aload_n hx hb dX2_book_104 rfl (lv_at hl 1 rfl) ?_
            refine r_getM (v := .ref (K.2.1 1001)) E hw hM 0 (by decide) q1353 rfl dX2_book_105 ?_
            refine lv_iload_n hx hb dX2_book_108 rfl (lv_at hl 0 rfl) ?_
            refine lv_iconst (v := (1:Int32)) hx hb dX2_book_109 (by decide) ?_
            refine lv_iadd hx hb dX2_book_110 ?_
            obtain ⟨z11, h⟩ := qif_s h
            refine r_iald (j := (x3_7 + (1:Int32)).toNatClampNeg) E hw (qi_1001 hM).at (qok_in z11) rfl dX2_book_111 ?_
            refine lv_sipush (v := (1000:Int32)) hx hb dX2_book_112 (by decide) ?_
            refine lv_idiv hx hb dX2_book_115 (by decide) ?_
            have h := Option.some.inj h
            have h1 := h
            exact d_iret E hr rfl hw h1 rfl dX2_book_116
          · have h := qi_f c h
            have n2 := qne32 c
            by_cases c : x2 = (3:Int32)
            · have h := qi_t c h
              refine lv_tableIn (tgt := 117) (off := 64) hx hb dX2_book_53 (by rw [c]; decide) (by rw [c]; decide) (by rw [c]; rfl) (by decide) ?_
              refine lv_aload_n hx hb dX2_book_117 rfl (lv_at hl 1 rfl) ?_
              refine r_getM (v := .ref (K.2.1 1001)) E hw hM 0 (by decide) q1353 rfl dX2_book_118 ?_
              refine lv_iload_n hx hb dX2_book_121 rfl (lv_at hl 0 rfl) ?_
              refine lv_iconst (v := (1:Int32)) hx hb dX2_book_122 (by decide) ?_
              refine lv_iadd hx hb dX2_book_123 ?_
              obtain ⟨z12, h⟩ := qif_s h
              refine r_iald (j := (x3_7 + (1:Int32)).toNatClampNeg) E hw (qi_1001 hM).at (qok_in z12) rfl dX2_book_124 ?_
              refine lv_sipush (v := (1000:Int32)) hx hb dX2_book_125 (by decide) ?_
              refine lv_irem hx hb dX2_book_128 (by decide) ?_
              have h := Option.some.inj h
              have h1 := h
              exact d_iret E hr rfl hw h1 rfl dX2_book_129
            · have h := qi_f c h
              have n3 := qne32 c
              refine lv_tableOut (tgt := 130) hx hb dX2_book_53 (by have m0 : (x2).toInt ≠ 0 := n0; have m1 : (x2).toInt ≠ 1 := n1; have m2 : (x2).toInt ≠ 2 := n2; have m3 : (x2).toInt ≠ 3 := n3; omega) (by decide) ?_
              refine lv_bipush (v := (-2:Int32)) hx hb dX2_book_130 (by decide) ?_
              have h := Option.some.inj h
              have h1 := h
              exact d_iret E hr rfl hw h1 rfl dX2_book_132
    · have h := qi_t c h
      refine lv_bipush (v := (-2:Int32)) hx hb dX2_book_24 (by decide) ?_
      have h := Option.some.inj h
      have h1 := h
      exact d_iret E hr rfl hw h1 rfl dX2_book_26
  · have h := qi_t c h
    refine lv_aload_n hx hb dX2_book_5 rfl (lv_at hl 0 rfl) ?_
    obtain ⟨u13, g14, h⟩ := qb1_s h
    refine d_V (As := []) (v0 := some (.int u13)) (w0 := (A, B, L, rs)) hG E hw hl (m_X2_shown l hG hM  g14) (qM0 hM) rfl (cwV 0 hts (lw_V q1865 q1867 qs122 q140 q1868) rfl rfl rfl ⟨rfl, kd_X2_shown⟩ ⟨Nat.le_of_ble_eq_true rfl, Nat.le_of_ble_eq_true rfl⟩) rfl (rest := []) (st1 := [.int u13]) rfl rfl rfl dX2_book_6 ⟨Nat.le_of_ble_eq_true rfl, Nat.le_of_ble_eq_true rfl⟩ (fun H locs hw => ?_)
    have h := Option.some.inj h
    have h1 := h
    exact d_iret E hr rfl hw h1 rfl dX2_book_9

theorem m_X2_book (l : Launch) {K : QK} {G : State → Prop} (hG : QG G) (hM : QMl K) {A : QA} {rs : QX × QM} {L : QL} {x1 : Int32} {x2 : Int32} {B : QA} {ro : Int32} (h : f_X2_book x1 x2 B = some ro) : MC l K G yX2_book (ws_ yX2_book cX2_book 4 (some .int)) 2 62 0 0 [.ref (K.2.1 1000), .int x1, .int x2] (A, B, L, rs) (QR (some (.int ro)) (A, B, L, rs)) := by
  refine MC.of (by decide) (Nat.le_of_ble_eq_true rfl) (lv := [(0, .ref (K.2.1 1000)), (1, .int x1), (2, .int x2)]) rfl (fun p e s m below meth c ls E hr hl hw => ?_)
  exact w_X2_book_0 hG hM E hr _ _ _  h hw hl

def f_X2_begin_2 : Nat → Int32 → QA → Option (QA)
  | 0, _, _ => none
  | n + 1, x1, B => if (5:Int32) ≤ x1 then (
  some (B)) else (
  qif (qok ((8:Int32) + x1) 3642) <|
  qif (qok x1 13) <|
  qlet (qu B 1013 x1.toNatClampNeg (B 1001 ((8:Int32) + x1).toNatClampNeg)) fun B3 =>
  qlet (x1 + (1:Int32)) fun x1_5 =>
  f_X2_begin_2 n x1_5 B3)
set_option maxHeartbeats 4000000 in
theorem w_X2_begin_2 {p : Program} {l : Launch} {e : Env} {s : State} {m : MethodId} {args : Array Value} {below : List Frame} {meth : Method} {c : Code} {K : QK} {G : State → Prop} {A : QA} {rs : QX × QM} {L : QL} {Bo : QA} (hG : QG G) (hM : QMl K) (E : EV K G p s m args meth c cX2_begin "VaneCourtModel" 2) (hr : meth.sig.returnType = none) : ∀ (n : Nat) (x1 : Int32) (B : QA) {H : Heap} {locs : List Loc} {ls : Array Slot}, f_X2_begin_2 n x1 B = some Bo → WP K (A, B, L, rs) H locs → lv_has ls 2 [(0, .ref (K.2.1 1000)), (1, .int x1)] → W p l e (qrm 1 40 0 0) s m args below meth c H locs 0 0 (MQ below (QE K (QR none (A, Bo, L, rs))) args s 0 0 (qA K)) (F0 m 2 ls []) := by
  have hx := E.1
  have hb := E.2.1
  have hown := E.2.2.1
  have hts := E.2.2.2.2.1
  intro n
  induction n with
  | zero =>
    intro x1 B H locs ls  h hw hl
    cases h
  | succ n ih =>
    intro x1 B H locs ls  h hw hl
    rw [f_X2_begin_2] at h
    refine lv_iload_n hx hb dX2_begin_2 rfl (lv_at hl 1 rfl) ?_
    refine lv_iconst (v := (5:Int32)) hx hb dX2_begin_3 (by decide) ?_
    refine lv_icmp_ge (tgt := 28) hx hb dX2_begin_4 (by decide) (fun c => ?_) (fun c => ?_)
    · have h := qi_t c h
      have h := Option.some.inj h
      have h1 := h
      exact d_ret E hr hw (by rw [h1]) dX2_begin_28
    · have h := qi_f c h
      refine lv_aload_n hx hb dX2_begin_7 rfl (lv_at hl 0 rfl) ?_
      refine r_getM (v := .ref (K.2.1 1013)) E hw hM 33 (by decide) q1386 rfl dX2_begin_8 ?_
      refine lv_iload_n hx hb dX2_begin_11 rfl (lv_at hl 1 rfl) ?_
      refine lv_aload_n hx hb dX2_begin_12 rfl (lv_at hl 0 rfl) ?_
      refine r_getM (v := .ref (K.2.1 1001)) E hw hM 0 (by decide) q1353 rfl dX2_begin_13 ?_
      refine lv_bipush (v := (8:Int32)) hx hb dX2_begin_16 (by decide) ?_
      refine lv_iload_n hx hb dX2_begin_18 rfl (lv_at hl 1 rfl) ?_
      refine lv_iadd hx hb dX2_begin_19 ?_
      obtain ⟨z1, h⟩ := qif_s h
      refine r_iald (j := ((8:Int32) + x1).toNatClampNeg) E hw (qi_1001 hM).at (qok_in z1) rfl dX2_begin_20 ?_
      obtain ⟨z2, h⟩ := qif_s h
      obtain ⟨B3, e4, h⟩ := qlet_s h
      refine r_iastB (j := x1.toNatClampNeg) E hw (qi_1013 hM) (qok_in z2) rfl dX2_begin_21 (fun H locs hw => ?_)
      rw [← e4] at hw
      obtain ⟨x1_5, e6, h⟩ := qlet_s h
      refine lv_iinc (v := x1_5) (lv' := [(1, .int x1_5), (0, .ref (K.2.1 1000))]) (k := 1) hx hb dX2_begin_22 hl rfl (by rw [e6]; rfl) (by decide) rfl (fun ls hl => ?_)
      refine lv_goto (tgt := 2) hx hb dX2_begin_25 (by decide) ?_
      exact ih _ _  h hw (lv_sub hl [1, 0] rfl)

def f_X2_begin (B : QA) : Option (QA) :=
  f_X2_begin_2 FU (0:Int32) B
set_option maxHeartbeats 4000000 in
theorem w_X2_begin_0 {p : Program} {l : Launch} {e : Env} {s : State} {m : MethodId} {args : Array Value} {below : List Frame} {meth : Method} {c : Code} {K : QK} {G : State → Prop} {A : QA} {rs : QX × QM} {L : QL} {Bo : QA} (hG : QG G) (hM : QMl K) (E : EV K G p s m args meth c cX2_begin "VaneCourtModel" 2) (hr : meth.sig.returnType = none) : ∀ (B : QA) {H : Heap} {locs : List Loc} {ls : Array Slot}, f_X2_begin B = some Bo → WP K (A, B, L, rs) H locs → lv_has ls 2 [(0, .ref (K.2.1 1000))] → W p l e (qrm 1 40 0 0) s m args below meth c H locs 0 0 (MQ below (QE K (QR none (A, Bo, L, rs))) args s 0 0 (qA K)) (F0 m 0 ls []) := by
  have hx := E.1
  have hb := E.2.1
  have hown := E.2.2.1
  have hts := E.2.2.2.2.1
  intro B H locs ls  h hw hl
  rw [f_X2_begin] at h
  refine lv_iconst (v := (0:Int32)) hx hb dX2_begin_0 (by decide) ?_
  refine lv_istore_n (lv' := [(1, .int (0:Int32)), (0, .ref (K.2.1 1000))]) hx hb dX2_begin_1 rfl hl (by decide) rfl (fun ls hl => ?_)
  exact w_X2_begin_2 hG hM E hr  _ _ _   h hw (lv_sub hl [1, 0] rfl)

theorem m_X2_begin (l : Launch) {K : QK} {G : State → Prop} (hG : QG G) (hM : QMl K) {A : QA} {rs : QX × QM} {L : QL} {B : QA} {Bo : QA} (h : f_X2_begin B = some Bo) : MC l K G yX2_begin (ws_ yX2_begin cX2_begin 2 none) 1 40 0 0 [.ref (K.2.1 1000)] (A, B, L, rs) (QR none (A, Bo, L, rs)) := by
  refine MC.of (by decide) (Nat.le_of_ble_eq_true rfl) (lv := [(0, .ref (K.2.1 1000))]) rfl (fun p e s m below meth c ls E hr hl hw => ?_)
  exact w_X2_begin_0 hG hM E hr _  h hw hl

def f_X2_putBack_2 : Nat → Int32 → QA → Option (QA)
  | 0, _, _ => none
  | n + 1, x1, B => if (5:Int32) ≤ x1 then (
  some (B)) else (
  qif (qok x1 13) <|
  qif (qok ((8:Int32) + x1) 3642) <|
  qlet (qu B 1001 ((8:Int32) + x1).toNatClampNeg (B 1013 x1.toNatClampNeg)) fun B3 =>
  qlet (x1 + (1:Int32)) fun x1_5 =>
  f_X2_putBack_2 n x1_5 B3)
set_option maxHeartbeats 4000000 in
theorem w_X2_putBack_2 {p : Program} {l : Launch} {e : Env} {s : State} {m : MethodId} {args : Array Value} {below : List Frame} {meth : Method} {c : Code} {K : QK} {G : State → Prop} {A : QA} {rs : QX × QM} {L : QL} {Bo : QA} (hG : QG G) (hM : QMl K) (E : EV K G p s m args meth c cX2_putBack "VaneCourtModel" 2) (hr : meth.sig.returnType = none) : ∀ (n : Nat) (x1 : Int32) (B : QA) {H : Heap} {locs : List Loc} {ls : Array Slot}, f_X2_putBack_2 n x1 B = some Bo → WP K (A, B, L, rs) H locs → lv_has ls 2 [(0, .ref (K.2.1 1000)), (1, .int x1)] → W p l e (qrm 1 40 0 0) s m args below meth c H locs 0 0 (MQ below (QE K (QR none (A, Bo, L, rs))) args s 0 0 (qA K)) (F0 m 2 ls []) := by
  have hx := E.1
  have hb := E.2.1
  have hown := E.2.2.1
  have hts := E.2.2.2.2.1
  intro n
  induction n with
  | zero =>
    intro x1 B H locs ls  h hw hl
    cases h
  | succ n ih =>
    intro x1 B H locs ls  h hw hl
    rw [f_X2_putBack_2] at h
    refine lv_iload_n hx hb dX2_putBack_2 rfl (lv_at hl 1 rfl) ?_
    refine lv_iconst (v := (5:Int32)) hx hb dX2_putBack_3 (by decide) ?_
    refine lv_icmp_ge (tgt := 28) hx hb dX2_putBack_4 (by decide) (fun c => ?_) (fun c => ?_)
    · have h := qi_t c h
      have h := Option.some.inj h
      have h1 := h
      exact d_ret E hr hw (by rw [h1]) dX2_putBack_28
    · have h := qi_f c h
      refine lv_aload_n hx hb dX2_putBack_7 rfl (lv_at hl 0 rfl) ?_
      refine r_getM (v := .ref (K.2.1 1001)) E hw hM 0 (by decide) q1353 rfl dX2_putBack_8 ?_
      refine lv_bipush (v := (8:Int32)) hx hb dX2_putBack_11 (by decide) ?_
      refine lv_iload_n hx hb dX2_putBack_13 rfl (lv_at hl 1 rfl) ?_
      refine lv_iadd hx hb dX2_putBack_14 ?_
      refine lv_aload_n hx hb dX2_putBack_15 rfl (lv_at hl 0 rfl) ?_
      refine r_getM (v := .ref (K.2.1 1013)) E hw hM 33 (by decide) q1386 rfl dX2_putBack_16 ?_
      refine lv_iload_n hx hb dX2_putBack_19 rfl (lv_at hl 1 rfl) ?_
      obtain ⟨z1, h⟩ := qif_s h
      refine r_iald (j := x1.toNatClampNeg) E hw (qi_1013 hM).at (qok_in z1) rfl dX2_putBack_20 ?_
      obtain ⟨z2, h⟩ := qif_s h
      obtain ⟨B3, e4, h⟩ := qlet_s h
      refine r_iastB (j := ((8:Int32) + x1).toNatClampNeg) E hw (qi_1001 hM) (qok_in z2) rfl dX2_putBack_21 (fun H locs hw => ?_)
      rw [← e4] at hw
      obtain ⟨x1_5, e6, h⟩ := qlet_s h
      refine lv_iinc (v := x1_5) (lv' := [(1, .int x1_5), (0, .ref (K.2.1 1000))]) (k := 1) hx hb dX2_putBack_22 hl rfl (by rw [e6]; rfl) (by decide) rfl (fun ls hl => ?_)
      refine lv_goto (tgt := 2) hx hb dX2_putBack_25 (by decide) ?_
      exact ih _ _  h hw (lv_sub hl [1, 0] rfl)

def f_X2_putBack (B : QA) : Option (QA) :=
  f_X2_putBack_2 FU (0:Int32) B
set_option maxHeartbeats 4000000 in
theorem w_X2_putBack_0 {p : Program} {l : Launch} {e : Env} {s : State} {m : MethodId} {args : Array Value} {below : List Frame} {meth : Method} {c : Code} {K : QK} {G : State → Prop} {A : QA} {rs : QX × QM} {L : QL} {Bo : QA} (hG : QG G) (hM : QMl K) (E : EV K G p s m args meth c cX2_putBack "VaneCourtModel" 2) (hr : meth.sig.returnType = none) : ∀ (B : QA) {H : Heap} {locs : List Loc} {ls : Array Slot}, f_X2_putBack B = some Bo → WP K (A, B, L, rs) H locs → lv_has ls 2 [(0, .ref (K.2.1 1000))] → W p l e (qrm 1 40 0 0) s m args below meth c H locs 0 0 (MQ below (QE K (QR none (A, Bo, L, rs))) args s 0 0 (qA K)) (F0 m 0 ls []) := by
  have hx := E.1
  have hb := E.2.1
  have hown := E.2.2.1
  have hts := E.2.2.2.2.1
  intro B H locs ls  h hw hl
  rw [f_X2_putBack] at h
  refine lv_iconst (v := (0:Int32)) hx hb dX2_putBack_0 (by decide) ?_
  refine lv_istore_n (lv' := [(1, .int (0:Int32)), (0, .ref (K.2.1 1000))]) hx hb dX2_putBack_1 rfl hl (by decide) rfl (fun ls hl => ?_)
  exact w_X2_putBack_2 hG hM E hr  _ _ _   h hw (lv_sub hl [1, 0] rfl)

theorem m_X2_putBack (l : Launch) {K : QK} {G : State → Prop} (hG : QG G) (hM : QMl K) {A : QA} {rs : QX × QM} {L : QL} {B : QA} {Bo : QA} (h : f_X2_putBack B = some Bo) : MC l K G yX2_putBack (ws_ yX2_putBack cX2_putBack 2 none) 1 40 0 0 [.ref (K.2.1 1000)] (A, B, L, rs) (QR none (A, Bo, L, rs)) := by
  refine MC.of (by decide) (Nat.le_of_ble_eq_true rfl) (lv := [(0, .ref (K.2.1 1000))]) rfl (fun p e s m below meth c ls E hr hl hw => ?_)
  exact w_X2_putBack_0 hG hM E hr _  h hw hl

def f_X2_layWinds_77 (k8 : (Int32 → Int32 → Int32 → QA → QL → Option (Int32 × QA × QL))) (x1 : Int32) (x2 : Int32) (s0 : Int32) (B : QA) (L : QL) : Option (Int32 × QA × QL) :=
  if s0 = (0:Int32) then (
  k8 x1 x2 s0 B L) else (
  qb2 (f_X2_drawn (10:Int32) B) fun u14 B15 =>
  qb2 (f_X2_turnBy u14 B15 L) fun B17 L18 =>
  k8 x1 x2 s0 B17 L18)
set_option maxHeartbeats 4000000 in
theorem w_X2_layWinds_77 {p : Program} {l : Launch} {e : Env} {s : State} {m : MethodId} {args : Array Value} {below : List Frame} {meth : Method} {c : Code} {K : QK} {G : State → Prop} {A : QA} {rs : QX × QM} {ro : Int32} {Bo : QA} {Lo : QL} (hG : QG G) (hM : QMl K) (E : EV K G p s m args meth c cX2_layWinds "VaneCourtModel" 4) (hr : meth.sig.returnType = (some .int)) {k8 : (Int32 → Int32 → Int32 → QA → QL → Option (Int32 × QA × QL))} (hk8 : ∀ (x1 : Int32) (x2 : Int32) (x3 : Int32) (B : QA) (L : QL) {H : Heap} {locs : List Loc} {ls : Array Slot}, k8 x1 x2 x3 B L = some (ro, Bo, Lo) → WP K (A, B, L, rs) H locs → lv_has ls 4 [(0, .ref (K.2.1 1000)), (1, .int x1), (2, .int x2), (3, .int x3)] → W p l e (qrm 6 162 0 0) s m args below meth c H locs 0 0 (MQ below (QE K (QR (some (.int ro)) (A, Bo, Lo, rs))) args s 0 0 (qA K)) (F0 m 8 ls [])) : ∀ (x1 : Int32) (x2 : Int32) (s0 : Int32) (B : QA) (L : QL) {H : Heap} {locs : List Loc} {ls : Array Slot}, f_X2_layWinds_77 k8 x1 x2 s0 B L = some (ro, Bo, Lo) → WP K (A, B, L, rs) H locs → lv_has ls 4 [(0, .ref (K.2.1 1000)), (1, .int x1), (2, .int x2)] → W p l e (qrm 6 162 0 0) s m args below meth c H locs 0 0 (MQ below (QE K (QR (some (.int ro)) (A, Bo, Lo, rs))) args s 0 0 (qA K)) (F0 m 77 ls [.int s0]) := by
  have hx := E.1
  have hb := E.2.1
  have hown := E.2.2.1
  have hts := E.2.2.2.2.1
  intro x1 x2 s0 B L H locs ls  h hw hl
  rw [f_X2_layWinds_77] at h
  refine lv_istore_n (lv' := [(3, .int s0), (0, .ref (K.2.1 1000)), (1, .int x1), (2, .int x2)]) hx hb dX2_layWinds_77 rfl hl (by decide) rfl (fun ls hl => ?_)
  refine lv_iload_n hx hb dX2_layWinds_78 rfl (lv_at hl 0 rfl) ?_
  refine lv_if_eq (tgt := 8) hx hb dX2_layWinds_79 (by decide) (fun c => ?_) (fun c => ?_)
  · have h := qi_t c h
    exact hk8 _ _ _ _ _  h hw (lv_sub hl [1, 2, 3, 0] rfl)
  · have h := qi_f c h
    refine lv_aload_n hx hb dX2_layWinds_82 rfl (lv_at hl 1 rfl) ?_
    refine lv_aload_n hx hb dX2_layWinds_83 rfl (lv_at hl 1 rfl) ?_
    refine lv_bipush (v := (10:Int32)) hx hb dX2_layWinds_84 (by decide) ?_
    obtain ⟨u14, B15, g16, h⟩ := qb2_s h
    refine d_V (As := [.int (10:Int32)]) (v0 := some (.int u14)) (w0 := (A, B15, L, rs)) hG E hw hl (m_X2_drawn l hG hM  g16) (qM0 hM) rfl (cwV 1 hts (lw_V q1819 q1821 qs117 q140 q1822) rfl rfl rfl ⟨rfl, kd_X2_drawn⟩ ⟨Nat.le_of_ble_eq_true rfl, Nat.le_of_ble_eq_true rfl⟩) rfl (rest := [.ref (K.2.1 1000)]) (st1 := [.int u14, .ref (K.2.1 1000)]) rfl rfl rfl dX2_layWinds_86 ⟨Nat.le_of_ble_eq_true rfl, Nat.le_of_ble_eq_true rfl⟩ (fun H locs hw => ?_)
    obtain ⟨B17, L18, g19, h⟩ := qb2_s h
    refine d_V (As := [.int u14]) (v0 := none) (w0 := (A, B17, L18, rs)) hG E hw hl (m_X2_turnBy l hG hM  g19) (qM0 hM) rfl (cwV 1 hts (lw_V q1827 q1829 qs119 q140 q1830) rfl rfl rfl ⟨rfl, kd_X2_turnBy⟩ ⟨Nat.le_of_ble_eq_true rfl, Nat.le_of_ble_eq_true rfl⟩) rfl (rest := []) (st1 := []) rfl rfl rfl dX2_layWinds_89 ⟨Nat.le_of_ble_eq_true rfl, Nat.le_of_ble_eq_true rfl⟩ (fun H locs hw => ?_)
    refine lv_goto (tgt := 8) hx hb dX2_layWinds_92 (by decide) ?_
    exact hk8 _ _ _ _ _  h hw (lv_sub hl [1, 2, 3, 0] rfl)

def f_X2_layWinds_76 (k8 : (Int32 → Int32 → Int32 → QA → QL → Option (Int32 × QA × QL))) (x1 : Int32) (x2 : Int32) (B : QA) (L : QL) : Option (Int32 × QA × QL) :=
  f_X2_layWinds_77 k8 x1 x2 (0:Int32) B L
set_option maxHeartbeats 4000000 in
theorem w_X2_layWinds_76 {p : Program} {l : Launch} {e : Env} {s : State} {m : MethodId} {args : Array Value} {below : List Frame} {meth : Method} {c : Code} {K : QK} {G : State → Prop} {A : QA} {rs : QX × QM} {ro : Int32} {Bo : QA} {Lo : QL} (hG : QG G) (hM : QMl K) (E : EV K G p s m args meth c cX2_layWinds "VaneCourtModel" 4) (hr : meth.sig.returnType = (some .int)) {k8 : (Int32 → Int32 → Int32 → QA → QL → Option (Int32 × QA × QL))} (hk8 : ∀ (x1 : Int32) (x2 : Int32) (x3 : Int32) (B : QA) (L : QL) {H : Heap} {locs : List Loc} {ls : Array Slot}, k8 x1 x2 x3 B L = some (ro, Bo, Lo) → WP K (A, B, L, rs) H locs → lv_has ls 4 [(0, .ref (K.2.1 1000)), (1, .int x1), (2, .int x2), (3, .int x3)] → W p l e (qrm 6 162 0 0) s m args below meth c H locs 0 0 (MQ below (QE K (QR (some (.int ro)) (A, Bo, Lo, rs))) args s 0 0 (qA K)) (F0 m 8 ls [])) : ∀ (x1 : Int32) (x2 : Int32) (B : QA) (L : QL) {H : Heap} {locs : List Loc} {ls : Array Slot}, f_X2_layWinds_76 k8 x1 x2 B L = some (ro, Bo, Lo) → WP K (A, B, L, rs) H locs → lv_has ls 4 [(0, .ref (K.2.1 1000)), (1, .int x1), (2, .int x2)] → W p l e (qrm 6 162 0 0) s m args below meth c H locs 0 0 (MQ below (QE K (QR (some (.int ro)) (A, Bo, Lo, rs))) args s 0 0 (qA K)) (F0 m 76 ls []) := by
  have hx := E.1
  have hb := E.2.1
  have hown := E.2.2.1
  have hts := E.2.2.2.2.1
  intro x1 x2 B L H locs ls  h hw hl
  rw [f_X2_layWinds_76] at h
  refine lv_iconst (v := (0:Int32)) hx hb dX2_layWinds_76 (by decide) ?_
  exact w_X2_layWinds_77 hG hM E hr hk8 _ _ _ _ _   h hw (lv_sub hl [0, 1, 2] rfl)

def f_X2_layWinds_8 : Nat → Int32 → Int32 → Int32 → QA → QL → Option (Int32 × QA × QL)
  | 0, _, _, _, _, _ => none
  | n + 1, x1, x2, x3, B, L => if x3 = (0:Int32) then (
  qb1 (f_X2_putBack B) fun B3 =>
  some (x2, B3, L)) else (
  qif (qok x2 100) <|
  qlet (qu B 1010 x2.toNatClampNeg (B 1001 8)) fun B6 =>
  qlet (qu B6 1011 x2.toNatClampNeg (B6 1001 9)) fun B8 =>
  qlet (qu B8 1012 x2.toNatClampNeg (B8 1001 10)) fun B10 =>
  qlet (x2 + (1:Int32)) fun x2_12 =>
  if x1 ≤ x2_12 then (
  f_X2_layWinds_76 (fun x1' x2' x3' B' L' => f_X2_layWinds_8 n x1' x2' x3' B' L') x1 x2_12 B10 L) else (
  if (9999:Int32) ≤ (B10 1001 11) then (
  f_X2_layWinds_76 (fun x1' x2' x3' B' L' => f_X2_layWinds_8 n x1' x2' x3' B' L') x1 x2_12 B10 L) else (
  f_X2_layWinds_77 (fun x1' x2' x3' B' L' => f_X2_layWinds_8 n x1' x2' x3' B' L') x1 x2_12 (1:Int32) B10 L)))
set_option maxHeartbeats 4000000 in
theorem w_X2_layWinds_8 {p : Program} {l : Launch} {e : Env} {s : State} {m : MethodId} {args : Array Value} {below : List Frame} {meth : Method} {c : Code} {K : QK} {G : State → Prop} {A : QA} {rs : QX × QM} {ro : Int32} {Bo : QA} {Lo : QL} (hG : QG G) (hM : QMl K) (E : EV K G p s m args meth c cX2_layWinds "VaneCourtModel" 4) (hr : meth.sig.returnType = (some .int)) : ∀ (n : Nat) (x1 : Int32) (x2 : Int32) (x3 : Int32) (B : QA) (L : QL) {H : Heap} {locs : List Loc} {ls : Array Slot}, f_X2_layWinds_8 n x1 x2 x3 B L = some (ro, Bo, Lo) → WP K (A, B, L, rs) H locs → lv_has ls 4 [(0, .ref (K.2.1 1000)), (1, .int x1), (2, .int x2), (3, .int x3)] → W p l e (qrm 6 162 0 0) s m args below meth c H locs 0 0 (MQ below (QE K (QR (some (.int ro)) (A, Bo, Lo, rs))) args s 0 0 (qA K)) (F0 m 8 ls []) := by
  have hx := E.1
  have hb := E.2.1
  have hown := E.2.2.1
  have hts := E.2.2.2.2.1
  intro n
  induction n with
  | zero =>
    intro x1 x2 x3 B L H locs ls  h hw hl
    cases h
  | succ n ih =>
    intro x1 x2 x3 B L H locs ls  h hw hl
    rw [f_X2_layWinds_8] at h
    refine lv_iload_n hx hb dX2_layWinds_8 rfl (lv_at hl 3 rfl) ?_
    refine lv_if_eq (tgt := 95) hx hb dX2_layWinds_9 (by decide) (fun c => ?_) (fun c => ?_)
    · have h := qi_t c h
      refine lv_aload_n hx hb dX2_layWinds_95 rfl (lv_at hl 0 rfl) ?_
      obtain ⟨B3, g4, h⟩ := qb1_s h
      refine d_V (As := []) (v0 := none) (w0 := (A, B3, L, rs)) hG E hw hl (m_X2_putBack l hG hM  g4) (qM0 hM) rfl (cwV 0 hts (lw_V q1881 q1883 qs125 q140 q1884) rfl rfl rfl ⟨rfl, kd_X2_putBack⟩ ⟨Nat.le_of_ble_eq_true rfl, Nat.le_of_ble_eq_true rfl⟩) rfl (rest := []) (st1 := []) rfl rfl rfl dX2_layWinds_96 ⟨Nat.le_of_ble_eq_true rfl, Nat.le_of_ble_eq_true rfl⟩ (fun H locs hw => ?_)
      refine lv_iload_n hx hb dX2_layWinds_99 rfl (lv_at hl 2 rfl) ?_
      have h := Option.some.inj h
      obtain ⟨h1, h2⟩ := Prod.mk.inj h
      obtain ⟨h2, h3⟩ := Prod.mk.inj h2
      exact d_iret E hr rfl hw h1 (by rw [h2, h3]) dX2_layWinds_100
    · have h := qi_f c h
      refine lv_aload_n hx hb dX2_layWinds_12 rfl (lv_at hl 0 rfl) ?_
      refine r_getM (v := .ref (K.2.1 1010)) E hw hM 30 (by decide) q1383 rfl dX2_layWinds_13 ?_
      refine lv_iload_n hx hb dX2_layWinds_16 rfl (lv_at hl 2 rfl) ?_
      refine lv_aload_n hx hb dX2_layWinds_17 rfl (lv_at hl 0 rfl) ?_
      refine r_getM (v := .ref (K.2.1 1001)) E hw hM 0 (by decide) q1353 rfl dX2_layWinds_18 ?_
      refine lv_bipush (v := (8:Int32)) hx hb dX2_layWinds_21 (by decide) ?_
      refine r_iald (j := 8) E hw (qi_1001 hM).at (q_lit (k := 8) (n := 3642) rfl rfl) (q_clamp (k := 8) rfl) dX2_layWinds_23 ?_
      obtain ⟨z5, h⟩ := qif_s h
      obtain ⟨B6, e7, h⟩ := qlet_s h
      refine r_iastB (j := x2.toNatClampNeg) E hw (qi_1010 hM) (qok_in z5) rfl dX2_layWinds_24 (fun H locs hw => ?_)
      rw [← e7] at hw
      refine lv_aload_n hx hb dX2_layWinds_25 rfl (lv_at hl 0 rfl) ?_
      refine r_getM (v := .ref (K.2.1 1011)) E hw hM 31 (by decide) q1384 rfl dX2_layWinds_26 ?_
      refine lv_iload_n hx hb dX2_layWinds_29 rfl (lv_at hl 2 rfl) ?_
      refine lv_aload_n hx hb dX2_layWinds_30 rfl (lv_at hl 0 rfl) ?_
      refine r_getM (v := .ref (K.2.1 1001)) E hw hM 0 (by decide) q1353 rfl dX2_layWinds_31 ?_
      refine lv_bipush (v := (9:Int32)) hx hb dX2_layWinds_34 (by decide) ?_
      refine r_iald (j := 9) E hw (qi_1001 hM).at (q_lit (k := 9) (n := 3642) rfl rfl) (q_clamp (k := 9) rfl) dX2_layWinds_36 ?_
      obtain ⟨B8, e9, h⟩ := qlet_s h
      refine r_iastB (j := x2.toNatClampNeg) E hw (qi_1011 hM) (qok_in z5) rfl dX2_layWinds_37 (fun H locs hw => ?_)
      rw [← e9] at hw
      refine lv_aload_n hx hb dX2_layWinds_38 rfl (lv_at hl 0 rfl) ?_
      refine r_getM (v := .ref (K.2.1 1012)) E hw hM 32 (by decide) q1385 rfl dX2_layWinds_39 ?_
      refine lv_iload_n hx hb dX2_layWinds_42 rfl (lv_at hl 2 rfl) ?_
      refine lv_aload_n hx hb dX2_layWinds_43 rfl (lv_at hl 0 rfl) ?_
      refine r_getM (v := .ref (K.2.1 1001)) E hw hM 0 (by decide) q1353 rfl dX2_layWinds_44 ?_
      refine lv_bipush (v := (10:Int32)) hx hb dX2_layWinds_47 (by decide) ?_
      refine r_iald (j := 10) E hw (qi_1001 hM).at (q_lit (k := 10) (n := 3642) rfl rfl) (q_clamp (k := 10) rfl) dX2_layWinds_49 ?_
      obtain ⟨B10, e11, h⟩ := qlet_s h
      refine r_iastB (j := x2.toNatClampNeg) E hw (qi_1012 hM) (qok_in z5) rfl dX2_layWinds_50 (fun H locs hw => ?_)
      rw [← e11] at hw
      obtain ⟨x2_12, e13, h⟩ := qlet_s h
      refine lv_iinc (v := x2_12) (lv' := [(2, .int x2_12), (0, .ref (K.2.1 1000)), (1, .int x1), (3, .int x3)]) (k := 2) hx hb dX2_layWinds_51 hl rfl (by rw [e13]; rfl) (by decide) rfl (fun ls hl => ?_)
      refine lv_iload_n hx hb dX2_layWinds_54 rfl (lv_at hl 0 rfl) ?_
      refine lv_iload_n hx hb dX2_layWinds_55 rfl (lv_at hl 2 rfl) ?_
      refine lv_icmp_ge (tgt := 76) hx hb dX2_layWinds_56 (by decide) (fun c => ?_) (fun c => ?_)
      · have h := qi_t c h
        exact w_X2_layWinds_76 hG hM E hr ih _ _ _ _   h hw (lv_sub hl [1, 2, 0] rfl)
      · have h := qi_f c h
        refine lv_aload_n hx hb dX2_layWinds_59 rfl (lv_at hl 1 rfl) ?_
        refine r_getM (v := .ref (K.2.1 1001)) E hw hM 0 (by decide) q1353 rfl dX2_layWinds_60 ?_
        refine lv_bipush (v := (11:Int32)) hx hb dX2_layWinds_63 (by decide) ?_
        refine r_iald (j := 11) E hw (qi_1001 hM).at (q_lit (k := 11) (n := 3642) rfl rfl) (q_clamp (k := 11) rfl) dX2_layWinds_65 ?_
        refine lv_sipush (v := (9999:Int32)) hx hb dX2_layWinds_66 (by decide) ?_
        refine lv_icmp_ge (tgt := 76) hx hb dX2_layWinds_69 (by decide) (fun c => ?_) (fun c => ?_)
        · have h := qi_t c h
          exact w_X2_layWinds_76 hG hM E hr ih _ _ _ _   h hw (lv_sub hl [1, 2, 0] rfl)
        · have h := qi_f c h
          refine lv_iconst (v := (1:Int32)) hx hb dX2_layWinds_72 (by decide) ?_
          refine lv_goto (tgt := 77) hx hb dX2_layWinds_73 (by decide) ?_
          exact w_X2_layWinds_77 hG hM E hr ih _ _ _ _ _   h hw (lv_sub hl [1, 2, 0] rfl)

def f_X2_layWinds (x1 : Int32) (B : QA) (L : QL) : Option (Int32 × QA × QL) :=
  qb1 (f_X2_begin B) fun B1 =>
  f_X2_layWinds_8 FU x1 (0:Int32) (1:Int32) B1 L
set_option maxHeartbeats 4000000 in
theorem w_X2_layWinds_0 {p : Program} {l : Launch} {e : Env} {s : State} {m : MethodId} {args : Array Value} {below : List Frame} {meth : Method} {c : Code} {K : QK} {G : State → Prop} {A : QA} {rs : QX × QM} {ro : Int32} {Bo : QA} {Lo : QL} (hG : QG G) (hM : QMl K) (E : EV K G p s m args meth c cX2_layWinds "VaneCourtModel" 4) (hr : meth.sig.returnType = (some .int)) : ∀ (x1 : Int32) (B : QA) (L : QL) {H : Heap} {locs : List Loc} {ls : Array Slot}, f_X2_layWinds x1 B L = some (ro, Bo, Lo) → WP K (A, B, L, rs) H locs → lv_has ls 4 [(0, .ref (K.2.1 1000)), (1, .int x1)] → W p l e (qrm 6 162 0 0) s m args below meth c H locs 0 0 (MQ below (QE K (QR (some (.int ro)) (A, Bo, Lo, rs))) args s 0 0 (qA K)) (F0 m 0 ls []) := by
  have hx := E.1
  have hb := E.2.1
  have hown := E.2.2.1
  have hts := E.2.2.2.2.1
  intro x1 B L H locs ls  h hw hl
  rw [f_X2_layWinds] at h
  refine lv_aload_n hx hb dX2_layWinds_0 rfl (lv_at hl 0 rfl) ?_
  obtain ⟨B1, g2, h⟩ := qb1_s h
  refine d_V (As := []) (v0 := none) (w0 := (A, B1, L, rs)) hG E hw hl (m_X2_begin l hG hM  g2) (qM0 hM) rfl (cwV 0 hts (lw_V q1877 q1879 qs124 q140 q1880) rfl rfl rfl ⟨rfl, kd_X2_begin⟩ ⟨Nat.le_of_ble_eq_true rfl, Nat.le_of_ble_eq_true rfl⟩) rfl (rest := []) (st1 := []) rfl rfl rfl dX2_layWinds_1 ⟨Nat.le_of_ble_eq_true rfl, Nat.le_of_ble_eq_true rfl⟩ (fun H locs hw => ?_)
  refine lv_iconst (v := (0:Int32)) hx hb dX2_layWinds_4 (by decide) ?_
  refine lv_istore_n (lv' := [(2, .int (0:Int32)), (0, .ref (K.2.1 1000)), (1, .int x1)]) hx hb dX2_layWinds_5 rfl hl (by decide) rfl (fun ls hl => ?_)
  refine lv_iconst (v := (1:Int32)) hx hb dX2_layWinds_6 (by decide) ?_
  refine lv_istore_n (lv' := [(3, .int (1:Int32)), (2, .int (0:Int32)), (0, .ref (K.2.1 1000)), (1, .int x1)]) hx hb dX2_layWinds_7 rfl hl (by decide) rfl (fun ls hl => ?_)
  exact w_X2_layWinds_8 hG hM E hr  _ _ _ _ _ _   h hw (lv_sub hl [2, 3, 1, 0] rfl)

theorem m_X2_layWinds (l : Launch) {K : QK} {G : State → Prop} (hG : QG G) (hM : QMl K) {A : QA} {rs : QX × QM} {x1 : Int32} {B : QA} {L : QL} {ro : Int32} {Bo : QA} {Lo : QL} (h : f_X2_layWinds x1 B L = some (ro, Bo, Lo)) : MC l K G yX2_layWinds (ws_ yX2_layWinds cX2_layWinds 4 (some .int)) 6 162 0 0 [.ref (K.2.1 1000), .int x1] (A, B, L, rs) (QR (some (.int ro)) (A, Bo, Lo, rs)) := by
  refine MC.of (by decide) (Nat.le_of_ble_eq_true rfl) (lv := [(0, .ref (K.2.1 1000)), (1, .int x1)]) rfl (fun p e s m below meth c ls E hr hl hw => ?_)
  exact w_X2_layWinds_0 hG hM E hr _ _ _  h hw hl

def f_X2_foretold (x1 : Int32) (x2 : Int32) (B : QA) (L : QL) : Option (Int32 × QA × QL) :=
  qb1 (f_X2_isIn x1 (1:Int32) (60:Int32)) fun u1 =>
  if u1 = (0:Int32) then (
  some ((-1:Int32), B, L)) else (
  qb1 (f_X2_isIn x2 (0:Int32) (2:Int32)) fun u3 =>
  if u3 = (0:Int32) then (
  some ((-1:Int32), B, L)) else (
  qb3 (f_X2_layWinds (x1 + (1:Int32)) B L) fun u5 B6 L7 =>
  qlet (u5 - (1:Int32)) fun x3_9 =>
  if x2 = (0:Int32) then (
  qif (qok x3_9 100) <|
  some ((B6 1010 x3_9.toNatClampNeg), B6, L7)) else (
  if x2 = (1:Int32) then (
  qif (qok x3_9 100) <|
  some ((B6 1011 x3_9.toNatClampNeg), B6, L7)) else (
  qif (qok x3_9 100) <|
  some ((B6 1012 x3_9.toNatClampNeg), B6, L7)))))
set_option maxHeartbeats 4000000 in
theorem w_X2_foretold_0 {p : Program} {l : Launch} {e : Env} {s : State} {m : MethodId} {args : Array Value} {below : List Frame} {meth : Method} {c : Code} {K : QK} {G : State → Prop} {A : QA} {rs : QX × QM} {ro : Int32} {Bo : QA} {Lo : QL} (hG : QG G) (hM : QMl K) (E : EV K G p s m args meth c cX2_foretold "VaneCourtModel" 4) (hr : meth.sig.returnType = (some .int)) : ∀ (x1 : Int32) (x2 : Int32) (B : QA) (L : QL) {H : Heap} {locs : List Loc} {ls : Array Slot}, f_X2_foretold x1 x2 B L = some (ro, Bo, Lo) → WP K (A, B, L, rs) H locs → lv_has ls 4 [(0, .ref (K.2.1 1000)), (1, .int x1), (2, .int x2)] → W p l e (qrm 7 185 0 0) s m args below meth c H locs 0 0 (MQ below (QE K (QR (some (.int ro)) (A, Bo, Lo, rs))) args s 0 0 (qA K)) (F0 m 0 ls []) := by
  have hx := E.1
  have hb := E.2.1
  have hown := E.2.2.1
  have hts := E.2.2.2.2.1
  intro x1 x2 B L H locs ls  h hw hl
  rw [f_X2_foretold] at h
  refine lv_iload_n hx hb dX2_foretold_0 rfl (lv_at hl 1 rfl) ?_
  refine lv_iconst (v := (1:Int32)) hx hb dX2_foretold_1 (by decide) ?_
  refine lv_bipush (v := (60:Int32)) hx hb dX2_foretold_2 (by decide) ?_
  obtain ⟨u1, g2, h⟩ := qb1_s h
  refine d_S (As := [.int x1, .int (1:Int32), .int (60:Int32)]) (v0 := some (.int u1)) (w0 := (A, B, L, rs)) hG E hw hl (m_X2_isIn l hG hM  g2) (va_cwS 3 hts (lw_S q1480 q1481 q140 q1482) rfl rfl rfl kd_X2_isIn ⟨Nat.le_of_ble_eq_true rfl, Nat.le_of_ble_eq_true rfl⟩) rfl (rest := []) (st1 := [.int u1]) rfl rfl rfl dX2_foretold_4 ⟨Nat.le_of_ble_eq_true rfl, Nat.le_of_ble_eq_true rfl⟩ (fun H locs hw => ?_)
  refine lv_if_eq (tgt := 19) hx hb dX2_foretold_7 (by decide) (fun c => ?_) (fun c => ?_)
  · have h := qi_t c h
    refine lv_iconst (v := (-1:Int32)) hx hb dX2_foretold_19 (by decide) ?_
    have h := Option.some.inj h
    obtain ⟨h1, h2⟩ := Prod.mk.inj h
    obtain ⟨h2, h3⟩ := Prod.mk.inj h2
    exact d_iret E hr rfl hw h1 (by rw [h2, h3]) dX2_foretold_20
  · have h := qi_f c h
    refine lv_iload_n hx hb dX2_foretold_10 rfl (lv_at hl 2 rfl) ?_
    refine lv_iconst (v := (0:Int32)) hx hb dX2_foretold_11 (by decide) ?_
    refine lv_iconst (v := (2:Int32)) hx hb dX2_foretold_12 (by decide) ?_
    obtain ⟨u3, g4, h⟩ := qb1_s h
    refine d_S (As := [.int x2, .int (0:Int32), .int (2:Int32)]) (v0 := some (.int u3)) (w0 := (A, B, L, rs)) hG E hw hl (m_X2_isIn l hG hM  g4) (va_cwS 3 hts (lw_S q1480 q1481 q140 q1482) rfl rfl rfl kd_X2_isIn ⟨Nat.le_of_ble_eq_true rfl, Nat.le_of_ble_eq_true rfl⟩) rfl (rest := []) (st1 := [.int u3]) rfl rfl rfl dX2_foretold_13 ⟨Nat.le_of_ble_eq_true rfl, Nat.le_of_ble_eq_true rfl⟩ (fun H locs hw => ?_)
    refine lv_if_ne (tgt := 21) hx hb dX2_foretold_16 (by decide) (fun c => ?_) (fun c => ?_)
    · have h := qi_f c h
      refine lv_aload_n hx hb dX2_foretold_21 rfl (lv_at hl 0 rfl) ?_
      refine lv_iload_n hx hb dX2_foretold_22 rfl (lv_at hl 1 rfl) ?_
      refine lv_iconst (v := (1:Int32)) hx hb dX2_foretold_23 (by decide) ?_
      refine lv_iadd hx hb dX2_foretold_24 ?_
      obtain ⟨u5, B6, L7, g8, h⟩ := qb3_s h
      refine d_V (As := [.int (x1 + (1:Int32))]) (v0 := some (.int u5)) (w0 := (A, B6, L7, rs)) hG E hw hl (m_X2_layWinds l hG hM  g8) (qM0 hM) rfl (cwV 1 hts (lw_V q1873 q1875 qs123 q140 q1876) rfl rfl rfl ⟨rfl, kd_X2_layWinds⟩ ⟨Nat.le_of_ble_eq_true rfl, Nat.le_of_ble_eq_true rfl⟩) rfl (rest := []) (st1 := [.int u5]) rfl rfl rfl dX2_foretold_25 ⟨Nat.le_of_ble_eq_true rfl, Nat.le_of_ble_eq_true rfl⟩ (fun H locs hw => ?_)
      refine lv_iconst (v := (1:Int32)) hx hb dX2_foretold_28 (by decide) ?_
      refine lv_isub hx hb dX2_foretold_29 ?_
      obtain ⟨x3_9, e10, h⟩ := qlet_s h
      refine r_nm e10 ?_
      refine lv_istore_n (lv' := [(3, .int x3_9), (0, .ref (K.2.1 1000)), (1, .int x1), (2, .int x2)]) hx hb dX2_foretold_30 rfl hl (by decide) rfl (fun ls hl => ?_)
      refine lv_iload_n hx hb dX2_foretold_31 rfl (lv_at hl 3 rfl) ?_
      refine lv_if_ne (tgt := 44) hx hb dX2_foretold_32 (by decide) (fun c => ?_) (fun c => ?_)
      · have h := qi_f c h
        refine lv_iload_n hx hb dX2_foretold_44 rfl (lv_at hl 3 rfl) ?_
        refine lv_iconst (v := (1:Int32)) hx hb dX2_foretold_45 (by decide) ?_
        refine lv_icmp_ne (tgt := 58) hx hb dX2_foretold_46 (by decide) (fun c => ?_) (fun c => ?_)
        · have h := qi_f c h
          refine lv_aload_n hx hb dX2_foretold_58 rfl (lv_at hl 1 rfl) ?_
          refine r_getM (v := .ref (K.2.1 1012)) E hw hM 32 (by decide) q1385 rfl dX2_foretold_59 ?_
          refine lv_iload_n hx hb dX2_foretold_62 rfl (lv_at hl 0 rfl) ?_
          obtain ⟨z11, h⟩ := qif_s h
          refine r_iald (j := x3_9.toNatClampNeg) E hw (qi_1012 hM).at (qok_in z11) rfl dX2_foretold_63 ?_
          have h := Option.some.inj h
          obtain ⟨h1, h2⟩ := Prod.mk.inj h
          obtain ⟨h2, h3⟩ := Prod.mk.inj h2
          exact d_iret E hr rfl hw h1 (by rw [h2, h3]) dX2_foretold_64
        · have h := qi_t c h
          refine lv_aload_n hx hb dX2_foretold_49 rfl (lv_at hl 1 rfl) ?_
          refine r_getM (v := .ref (K.2.1 1011)) E hw hM 31 (by decide) q1384 rfl dX2_foretold_50 ?_
          refine lv_iload_n hx hb dX2_foretold_53 rfl (lv_at hl 0 rfl) ?_
          obtain ⟨z12, h⟩ := qif_s h
          refine r_iald (j := x3_9.toNatClampNeg) E hw (qi_1011 hM).at (qok_in z12) rfl dX2_foretold_54 ?_
          refine lv_goto (tgt := 64) hx hb dX2_foretold_55 (by decide) ?_
          have h := Option.some.inj h
          obtain ⟨h1, h2⟩ := Prod.mk.inj h
          obtain ⟨h2, h3⟩ := Prod.mk.inj h2
          exact d_iret E hr rfl hw h1 (by rw [h2, h3]) dX2_foretold_64
      · have h := qi_t c h
        refine lv_aload_n hx hb dX2_foretold_35 rfl (lv_at hl 1 rfl) ?_
        refine r_getM (v := .ref (K.2.1 1010)) E hw hM 30 (by decide) q1383 rfl dX2_foretold_36 ?_
        refine lv_iload_n hx hb dX2_foretold_39 rfl (lv_at hl 0 rfl) ?_
        obtain ⟨z13, h⟩ := qif_s h
        refine r_iald (j := x3_9.toNatClampNeg) E hw (qi_1010 hM).at (qok_in z13) rfl dX2_foretold_40 ?_
        refine lv_goto (tgt := 64) hx hb dX2_foretold_41 (by decide) ?_
        have h := Option.some.inj h
        obtain ⟨h1, h2⟩ := Prod.mk.inj h
        obtain ⟨h2, h3⟩ := Prod.mk.inj h2
        exact d_iret E hr rfl hw h1 (by rw [h2, h3]) dX2_foretold_64
    · have h := qi_t c h
      refine lv_iconst (v := (-1:Int32)) hx hb dX2_foretold_19 (by decide) ?_
      have h := Option.some.inj h
      obtain ⟨h1, h2⟩ := Prod.mk.inj h
      obtain ⟨h2, h3⟩ := Prod.mk.inj h2
      exact d_iret E hr rfl hw h1 (by rw [h2, h3]) dX2_foretold_20

theorem m_X2_foretold (l : Launch) {K : QK} {G : State → Prop} (hG : QG G) (hM : QMl K) {A : QA} {rs : QX × QM} {x1 : Int32} {x2 : Int32} {B : QA} {L : QL} {ro : Int32} {Bo : QA} {Lo : QL} (h : f_X2_foretold x1 x2 B L = some (ro, Bo, Lo)) : MC l K G yX2_foretold (ws_ yX2_foretold cX2_foretold 4 (some .int)) 7 185 0 0 [.ref (K.2.1 1000), .int x1, .int x2] (A, B, L, rs) (QR (some (.int ro)) (A, Bo, Lo, rs)) := by
  refine MC.of (by decide) (Nat.le_of_ble_eq_true rfl) (lv := [(0, .ref (K.2.1 1000)), (1, .int x1), (2, .int x2)]) rfl (fun p e s m below meth c ls E hr hl hw => ?_)
  exact w_X2_foretold_0 hG hM E hr _ _ _ _  h hw hl
