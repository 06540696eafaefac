/-! written by dc.py: X0_isGuiltyBy X0_isGuilty X0_sentenceOf X0_hears X0_blows X0_passes X0_hour X0_passesAll X0_happens X0_decades X0_goes X0_foretold X0_endsTried X0_endsIn X0_ends X0_best -/
set_option maxRecDepth 100000
theorem kd_J14_bitCount : yJ14_bitCount.cls ≠ "java/lang/invoke/MethodHandle" ∧ yJ14_bitCount.cls ≠ "java/lang/invoke/VarHandle" ∧ (parseMethodDescriptor yJ14_bitCount.desc).map (fun d => d.parameters.length) = some 1 := by decide +kernel
theorem kd_X0_blows : yX0_blows.cls ≠ "java/lang/invoke/MethodHandle" ∧ yX0_blows.cls ≠ "java/lang/invoke/VarHandle" ∧ (parseMethodDescriptor yX0_blows.desc).map (fun d => d.parameters.length) = some 2 := by decide +kernel
theorem kd_X0_draw : yX0_draw.cls ≠ "java/lang/invoke/MethodHandle" ∧ yX0_draw.cls ≠ "java/lang/invoke/VarHandle" ∧ (parseMethodDescriptor yX0_draw.desc).map (fun d => d.parameters.length) = some 1 := by decide +kernel
theorem kd_X0_endsIn : yX0_endsIn.cls ≠ "java/lang/invoke/MethodHandle" ∧ yX0_endsIn.cls ≠ "java/lang/invoke/VarHandle" ∧ (parseMethodDescriptor yX0_endsIn.desc).map (fun d => d.parameters.length) = some 3 := by decide +kernel
theorem kd_X0_endsTried : yX0_endsTried.cls ≠ "java/lang/invoke/MethodHandle" ∧ yX0_endsTried.cls ≠ "java/lang/invoke/VarHandle" ∧ (parseMethodDescriptor yX0_endsTried.desc).map (fun d => d.parameters.length) = some 2 := by decide +kernel
theorem kd_X0_goes : yX0_goes.cls ≠ "java/lang/invoke/MethodHandle" ∧ yX0_goes.cls ≠ "java/lang/invoke/VarHandle" ∧ (parseMethodDescriptor yX0_goes.desc).map (fun d => d.parameters.length) = some 1 := by decide +kernel
theorem kd_X0_happens : yX0_happens.cls ≠ "java/lang/invoke/MethodHandle" ∧ yX0_happens.cls ≠ "java/lang/invoke/VarHandle" ∧ (parseMethodDescriptor yX0_happens.desc).map (fun d => d.parameters.length) = some 1 := by decide +kernel
theorem kd_X0_hears : yX0_hears.cls ≠ "java/lang/invoke/MethodHandle" ∧ yX0_hears.cls ≠ "java/lang/invoke/VarHandle" ∧ (parseMethodDescriptor yX0_hears.desc).map (fun d => d.parameters.length) = some 1 := by decide +kernel
theorem kd_X0_held : yX0_held.cls ≠ "java/lang/invoke/MethodHandle" ∧ yX0_held.cls ≠ "java/lang/invoke/VarHandle" ∧ (parseMethodDescriptor yX0_held.desc).map (fun d => d.parameters.length) = some 3 := by decide +kernel
theorem kd_X0_hour : yX0_hour.cls ≠ "java/lang/invoke/MethodHandle" ∧ yX0_hour.cls ≠ "java/lang/invoke/VarHandle" ∧ (parseMethodDescriptor yX0_hour.desc).map (fun d => d.parameters.length) = some 1 := by decide +kernel
theorem kd_X0_isGuilty : yX0_isGuilty.cls ≠ "java/lang/invoke/MethodHandle" ∧ yX0_isGuilty.cls ≠ "java/lang/invoke/VarHandle" ∧ (parseMethodDescriptor yX0_isGuilty.desc).map (fun d => d.parameters.length) = some 2 := by decide +kernel
theorem kd_X0_isGuiltyBy : yX0_isGuiltyBy.cls ≠ "java/lang/invoke/MethodHandle" ∧ yX0_isGuiltyBy.cls ≠ "java/lang/invoke/VarHandle" ∧ (parseMethodDescriptor yX0_isGuiltyBy.desc).map (fun d => d.parameters.length) = some 6 := by decide +kernel
theorem kd_X0_names : yX0_names.cls ≠ "java/lang/invoke/MethodHandle" ∧ yX0_names.cls ≠ "java/lang/invoke/VarHandle" ∧ (parseMethodDescriptor yX0_names.desc).map (fun d => d.parameters.length) = some 4 := by decide +kernel
theorem kd_X0_passes : yX0_passes.cls ≠ "java/lang/invoke/MethodHandle" ∧ yX0_passes.cls ≠ "java/lang/invoke/VarHandle" ∧ (parseMethodDescriptor yX0_passes.desc).map (fun d => d.parameters.length) = some 1 := by decide +kernel
theorem kd_X0_rules : yX0_rules.cls ≠ "java/lang/invoke/MethodHandle" ∧ yX0_rules.cls ≠ "java/lang/invoke/VarHandle" ∧ (parseMethodDescriptor yX0_rules.desc).map (fun d => d.parameters.length) = some 0 := by decide +kernel
theorem kd_X0_sentenceOf : yX0_sentenceOf.cls ≠ "java/lang/invoke/MethodHandle" ∧ yX0_sentenceOf.cls ≠ "java/lang/invoke/VarHandle" ∧ (parseMethodDescriptor yX0_sentenceOf.desc).map (fun d => d.parameters.length) = some 2 := by decide +kernel
theorem kd_X0_writes : yX0_writes.cls ≠ "java/lang/invoke/MethodHandle" ∧ yX0_writes.cls ≠ "java/lang/invoke/VarHandle" ∧ (parseMethodDescriptor yX0_writes.desc).map (fun d => d.parameters.length) = some 3 := by decide +kernel
def f_X0_isGuiltyBy (T : Int32 → Option QT) (x1 : Int32) (r2 : Nat) (x3 : Int32) (x4 : Int32) (x5 : Int32) (x6 : Int32) (A : QA) : Option (Int32 × QA) :=
  qb1 (f_X0_names r2 x3 x4 x5 A) fun A1 =>
  qlet (qu A1 4 8 x6) fun A3 =>
  qb1 (T x1) fun t5 =>
  qif (qok x3 4) <|
  qopt (t5.1 x3.toNatClampNeg) (
  if (A3 4 5) ≤ x3 then (
  some ((0:Int32), A3)) else (
  qb1 (f_X0_has x6 (0:Int32)) fun u16 =>
  if u16 = (0:Int32) then (
  some ((0:Int32), A3)) else (
  some ((1:Int32), A3)))) (fun q13 =>
  qif (qbo (b2i (q13.2 (A3 4)))) <|
  some ((b2i (q13.2 (A3 4))), A3))
set_option maxHeartbeats 4000000 in
theorem w_X0_isGuiltyBy_0 {p : Program} {l : Launch} {e : Env} {s : State} {m : MethodId} {args : Array Value} {below : List Frame} {meth : Method} {c : Code} {K : QK} {G : State → Prop} {rs : QA × QL × QX × QM} {ro : Int32} {Ao : QA} (hG : QG G) (hC : QCl K) {T : Int32 → Option QT} {ta : Int32 → Nat} (hT : QTx K G rs.2.2.1 rs.2.2.2 T ta) (E : EV K G p s m args meth c cX0_isGuiltyBy "VaneCourt" 7) (hr : meth.sig.returnType = (some .boolean)) : ∀ (x1 : Int32) (r2 : Nat) (x3 : Int32) (x4 : Int32) (x5 : Int32) (x6 : Int32) (A : QA) {H : Heap} {locs : List Loc} {ls : Array Slot}, qia K r2 154 → f_X0_isGuiltyBy T x1 r2 x3 x4 x5 x6 A = some (ro, Ao) → WP K (A, rs) H locs → lv_has ls 7 [(0, .ref (K.2.1 0)), (1, .ref (ta x1)), (2, .ref (K.2.1 r2)), (3, .int x3), (4, .int x4), (5, .int x5), (6, .int x6)] → W p l e (qrm 67 4040 0 0) s m args below meth c H locs 0 0 (MQ below (QE K (QR (some (.int ro)) (Ao, rs))) args s 0 0 (qA K)) (F0 m 0 ls []) := by
  have hx := E.1
  have hb := E.2.1
  have hown := E.2.2.1
  have hts := E.2.2.2.2.1
  intro x1 r2 x3 x4 x5 x6 A H locs ls hr2 h hw hl
  rw [f_X0_isGuiltyBy] at h
  refine lv_aload_n hx hb dX0_isGuiltyBy_0 rfl (lv_at hl 0 rfl) ?_
  refine lv_aload_n hx hb dX0_isGuiltyBy_1 rfl (lv_at hl 2 rfl) ?_
  refine lv_iload_n hx hb dX0_isGuiltyBy_2 rfl (lv_at hl 3 rfl) ?_
  refine lv_iload hx hb dX0_isGuiltyBy_3 (lv_at hl 4 rfl) ?_
  refine lv_iload hx hb dX0_isGuiltyBy_5 (lv_at hl 5 rfl) ?_
  obtain ⟨A1, g2, h⟩ := qb1_s h
  refine d_V (As := [.ref (K.2.1 r2), .int x3, .int x4, .int x5]) (v0 := none) (w0 := (A1, rs)) hG E hw hl (m_X0_names l hG hC (hr2) g2) (qX0 hC) rfl (cwV 4 hts (lw_V q920 q922 qs32 q137 q923) rfl rfl rfl ⟨rfl, kd_X0_names⟩ ⟨Nat.le_of_ble_eq_true rfl, Nat.le_of_ble_eq_true rfl⟩) rfl (rest := []) (st1 := []) rfl rfl rfl dX0_isGuiltyBy_7 ⟨Nat.le_of_ble_eq_true rfl, Nat.le_of_ble_eq_true rfl⟩ (fun H locs hw => ?_)
  refine lv_aload_n hx hb dX0_isGuiltyBy_10 rfl (lv_at hl 0 rfl) ?_
  refine r_getX (v := .ref (K.2.1 4)) E hw hC 6 (by decide) q244 rfl dX0_isGuiltyBy_11 ?_
  refine lv_bipush (v := (8:Int32)) hx hb dX0_isGuiltyBy_14 (by decide) ?_
  refine lv_iload hx hb dX0_isGuiltyBy_16 (lv_at hl 6 rfl) ?_
  obtain ⟨A3, e4, h⟩ := qlet_s h
  refine r_iastA (j := 8) E hw (qi_4 hC) (q_lit (k := 8) (n := 9) rfl rfl) (q_clamp (k := 8) rfl) dX0_isGuiltyBy_18 (fun H locs hw => ?_)
  rw [← e4] at hw
  refine lv_aload_n hx hb dX0_isGuiltyBy_19 rfl (lv_at hl 1 rfl) ?_
  obtain ⟨t5, et6, h⟩ := qb1_s h
  refine r_txc hG E hw hT et6 q378 dX0_isGuiltyBy_20 (fun ca7 cf8 hc9 hd10 => ?_)
  refine lv_iload_n hx hb dX0_isGuiltyBy_23 rfl (lv_at hl 3 rfl) ?_
  obtain ⟨z11, h⟩ := qif_s h
  rcases qopt_c h with ⟨eo12, h⟩ | ⟨q13, eo12, h⟩
  · refine r_caad (j := x3.toNatClampNeg) E hw hc9 (qok_in z11) rfl ((hd10 x3.toNatClampNeg (qok_lt z11)).no eo12) dX0_isGuiltyBy_24 ?_
    refine lv_ifnonnullN hx hb dX0_isGuiltyBy_25 ?_
    refine lv_aload_n hx hb dX0_isGuiltyBy_28 rfl (lv_at hl 0 rfl) ?_
    refine r_getX (v := .ref (K.2.1 4)) E hw hC 6 (by decide) q244 rfl dX0_isGuiltyBy_29 ?_
    refine lv_iconst (v := (5:Int32)) hx hb dX0_isGuiltyBy_32 (by decide) ?_
    refine r_iald (j := 5) E hw (qi_4 hC).at (q_lit (k := 5) (n := 9) rfl rfl) (q_clamp (k := 5) rfl) dX0_isGuiltyBy_33 ?_
    refine lv_iload_n hx hb dX0_isGuiltyBy_34 rfl (lv_at hl 3 rfl) ?_
    refine lv_icmp_le (tgt := 51) hx hb dX0_isGuiltyBy_35 (by decide) (fun c => ?_) (fun c => ?_)
    · have h := qi_t c h
      refine lv_iconst (v := (0:Int32)) hx hb dX0_isGuiltyBy_51 (by decide) ?_
      refine lv_goto (tgt := 70) hx hb dX0_isGuiltyBy_52 (by decide) ?_
      have h := Option.some.inj h
      obtain ⟨h1, h2⟩ := Prod.mk.inj h
      exact d_iret E hr rfl hw h1 (by rw [h2]) dX0_isGuiltyBy_70
    · have h := qi_f c h
      refine lv_iload hx hb dX0_isGuiltyBy_38 (lv_at hl 6 rfl) ?_
      refine lv_iconst (v := (0:Int32)) hx hb dX0_isGuiltyBy_40 (by decide) ?_
      obtain ⟨u16, g17, h⟩ := qb1_s h
      refine d_S (As := [.int x6, .int (0:Int32)]) (v0 := some (.int u16)) (w0 := (A3, rs)) hG E hw hl (m_X0_has l hG hC  g17) (va_cwS 2 hts (lw_S q907 q908 q137 q909) rfl rfl rfl kd_X0_has ⟨Nat.le_of_ble_eq_true rfl, Nat.le_of_ble_eq_true rfl⟩) rfl (rest := []) (st1 := [.int u16]) rfl rfl rfl dX0_isGuiltyBy_41 ⟨Nat.le_of_ble_eq_true rfl, Nat.le_of_ble_eq_true rfl⟩ (fun H locs hw => ?_)
      refine lv_if_eq (tgt := 51) hx hb dX0_isGuiltyBy_44 (by decide) (fun c => ?_) (fun c => ?_)
      · have h := qi_t c h
        refine lv_iconst (v := (0:Int32)) hx hb dX0_isGuiltyBy_51 (by decide) ?_
        refine lv_goto (tgt := 70) hx hb dX0_isGuiltyBy_52 (by decide) ?_
        have h := Option.some.inj h
        obtain ⟨h1, h2⟩ := Prod.mk.inj h
        exact d_iret E hr rfl hw h1 (by rw [h2]) dX0_isGuiltyBy_70
      · have h := qi_f c h
        refine lv_iconst (v := (1:Int32)) hx hb dX0_isGuiltyBy_47 (by decide) ?_
        refine lv_goto (tgt := 70) hx hb dX0_isGuiltyBy_48 (by decide) ?_
        have h := Option.some.inj h
        obtain ⟨h1, h2⟩ := Prod.mk.inj h
        exact d_iret E hr rfl hw h1 (by rw [h2]) dX0_isGuiltyBy_70
  · obtain ⟨b14, hv, hb15⟩ := (hd10 x3.toNatClampNeg (qok_lt z11)).so eo12
    refine r_caad (j := x3.toNatClampNeg) E hw hc9 (qok_in z11) rfl hv dX0_isGuiltyBy_24 ?_
    refine lv_ifnonnull (tgt := 55) hx hb dX0_isGuiltyBy_25 (by decide) ?_
    refine lv_aload_n hx hb dX0_isGuiltyBy_55 rfl (lv_at hl 1 rfl) ?_
    refine r_txc hG E hw hT et6 q378 dX0_isGuiltyBy_56 (fun ca18 cf19 hc20 hd21 => ?_)
    refine lv_iload_n hx hb dX0_isGuiltyBy_59 rfl (lv_at hl 3 rfl) ?_
    obtain ⟨b22, hv, hb23⟩ := (hd21 x3.toNatClampNeg (qok_lt z11)).so eo12
    refine r_caad (j := x3.toNatClampNeg) E hw hc20 (qok_in z11) rfl hv dX0_isGuiltyBy_60 ?_
    refine lv_aload_n hx hb dX0_isGuiltyBy_61 rfl (lv_at hl 0 rfl) ?_
    refine r_getX (v := .ref (K.2.1 4)) E hw hC 6 (by decide) q244 rfl dX0_isGuiltyBy_62 ?_
    refine r_F hG E hw hl (m_ask l hG hT.1 hC tD b22 q13.1 q13.2 hb23) q929 kd_xAsk ⟨Nat.le_of_ble_eq_true rfl, Nat.le_of_ble_eq_true rfl⟩ rfl (rest := []) (st1 := [.int (b2i (q13.2 (A3 4)))]) rfl rfl rfl dX0_isGuiltyBy_65 ⟨Nat.zero_le _, Nat.zero_le _⟩ (fun H locs hw => ?_)
    obtain ⟨z24, h⟩ := qif_s h
    have h := Option.some.inj h
    obtain ⟨h1, h2⟩ := Prod.mk.inj h
    exact d_iret E hr (qbo_n z24) hw h1 (by rw [h2]) dX0_isGuiltyBy_70

theorem m_X0_isGuiltyBy (l : Launch) {K : QK} {G : State → Prop} (hG : QG G) (hC : QCl K) {rs : QA × QL × QX × QM} {T : Int32 → Option QT} {ta : Int32 → Nat} (hT : QTx K G rs.2.2.1 rs.2.2.2 T ta) {x1 : Int32} {r2 : Nat} {x3 : Int32} {x4 : Int32} {x5 : Int32} {x6 : Int32} {A : QA} {ro : Int32} {Ao : QA} (hr2 : qia K r2 154) (h : f_X0_isGuiltyBy T x1 r2 x3 x4 x5 x6 A = some (ro, Ao)) : MC l K G yX0_isGuiltyBy (ws_ yX0_isGuiltyBy cX0_isGuiltyBy 7 (some .boolean)) 67 4040 0 0 [.ref (K.2.1 0), .ref (ta x1), .ref (K.2.1 r2), .int x3, .int x4, .int x5, .int x6] (A, rs) (QR (some (.int ro)) (Ao, rs)) := by
  refine MC.of (by decide) (Nat.le_of_ble_eq_true rfl) (lv := [(0, .ref (K.2.1 0)), (1, .ref (ta x1)), (2, .ref (K.2.1 r2)), (3, .int x3), (4, .int x4), (5, .int x5), (6, .int x6)]) rfl (fun p e s m below meth c ls E hr hl hw => ?_)
  exact w_X0_isGuiltyBy_0 hG hC hT E hr _ _ _ _ _ _ _ hr2 h hw hl

def f_X0_isGuilty_17 (T : Int32 → Option QT) : Nat → Nat → Int32 → Int32 → QA → Option (Int32 × QA)
  | 0, _, _, _, _ => none
  | n + 1, r1, x2, x3, A => if (4:Int32) ≤ x3 then (
  some ((0:Int32), A)) else (
  qb1 (f_X0_has (A r1 7) x3) fun u1 =>
  if u1 = (0:Int32) then (
  qlet (x3 + (1:Int32)) fun x3_3 =>
  f_X0_isGuilty_17 T n r1 x2 x3_3 A) else (
  qb1 (f_X0_rules T A) fun u5 =>
  qif (qok x2 8) <|
  qb2 (f_X0_isGuiltyBy T u5 r1 x3 x2 (A r1 6) (A (110 + x2.toNatClampNeg) 3) A) fun u8 A9 =>
  if u8 = (0:Int32) then (
  qlet (x3 + (1:Int32)) fun x3_11 =>
  f_X0_isGuilty_17 T n r1 x2 x3_11 A9) else (
  some ((1:Int32), A9))))
set_option maxHeartbeats 4000000 in
theorem w_X0_isGuilty_17 {p : Program} {l : Launch} {e : Env} {s : State} {m : MethodId} {args : Array Value} {below : List Frame} {meth : Method} {c : Code} {K : QK} {G : State → Prop} {rs : QA × QL × QX × QM} {ro : Int32} {Ao : QA} (hG : QG G) (hC : QCl K) {T : Int32 → Option QT} {ta : Int32 → Nat} (hT : QTx K G rs.2.2.1 rs.2.2.2 T ta) (E : EV K G p s m args meth c cX0_isGuilty "VaneCourt" 4) (hr : meth.sig.returnType = (some .boolean)) : ∀ (n : Nat) (r1 : Nat) (x2 : Int32) (x3 : Int32) (A : QA) {H : Heap} {locs : List Loc} {ls : Array Slot}, qia K r1 154 → f_X0_isGuilty_17 T n r1 x2 x3 A = some (ro, Ao) → WP K (A, rs) H locs → lv_has ls 4 [(0, .ref (K.2.1 0)), (1, .ref (K.2.1 r1)), (2, .int x2), (3, .int x3)] → W p l e (qrm 68 4066 0 0) s m args below meth c H locs 0 0 (MQ below (QE K (QR (some (.int ro)) (Ao, rs))) args s 0 0 (qA K)) (F0 m 17 ls []) := by
  have hx := E.1
  have hb := E.2.1
  have hown := E.2.2.1
  have hts := E.2.2.2.2.1
  intro n
  induction n with
  | zero =>
    intro r1 x2 x3 A H locs ls hr1 h hw hl
    cases h
  | succ n ih =>
    intro r1 x2 x3 A H locs ls hr1 h hw hl
    rw [f_X0_isGuilty_17] at h
    refine lv_iload_n hx hb dX0_isGuilty_17 rfl (lv_at hl 3 rfl) ?_
    refine lv_iconst (v := (4:Int32)) hx hb dX0_isGuilty_18 (by decide) ?_
    refine lv_icmp_ge (tgt := 70) hx hb dX0_isGuilty_19 (by decide) (fun c => ?_) (fun c => ?_)
    · have h := qi_t c h
      refine lv_iconst (v := (0:Int32)) hx hb dX0_isGuilty_70 (by decide) ?_
      have h := Option.some.inj h
      obtain ⟨h1, h2⟩ := Prod.mk.inj h
      exact d_iret E hr rfl hw h1 (by rw [h2]) dX0_isGuilty_71
    · have h := qi_f c h
      refine lv_aload_n hx hb dX0_isGuilty_22 rfl (lv_at hl 1 rfl) ?_
      refine lv_bipush (v := (7:Int32)) hx hb dX0_isGuilty_23 (by decide) ?_
      refine r_iald (j := 7) E hw (hr1).at (q_lit (k := 7) (n := 154) rfl rfl) (q_clamp (k := 7) rfl) dX0_isGuilty_25 ?_
      refine lv_iload_n hx hb dX0_isGuilty_26 rfl (lv_at hl 3 rfl) ?_
      obtain ⟨u1, g2, h⟩ := qb1_s h
      refine d_S (As := [.int (A r1 7), .int x3]) (v0 := some (.int u1)) (w0 := (A, rs)) hG E hw hl (m_X0_has l hG hC  g2) (va_cwS 2 hts (lw_S q907 q908 q137 q909) rfl rfl rfl kd_X0_has ⟨Nat.le_of_ble_eq_true rfl, Nat.le_of_ble_eq_true rfl⟩) rfl (rest := []) (st1 := [.int u1]) rfl rfl rfl dX0_isGuilty_27 ⟨Nat.le_of_ble_eq_true rfl, Nat.le_of_ble_eq_true rfl⟩ (fun H locs hw => ?_)
      refine lv_if_eq (tgt := 64) hx hb dX0_isGuilty_30 (by decide) (fun c => ?_) (fun c => ?_)
      · have h := qi_t c h
        obtain ⟨x3_3, e4, h⟩ := qlet_s h
        refine lv_iinc (v := x3_3) (lv' := [(3, .int x3_3), (0, .ref (K.2.1 0)), (1, .ref (K.2.1 r1)), (2, .int x2)]) (k := 3) hx hb dX0_isGuilty_64 hl rfl (by rw [e4]; rfl) (by decide) rfl (fun ls hl => ?_)
        refine lv_goto (tgt := 17) hx hb dX0_isGuilty_67 (by decide) ?_
        exact ih _ _ _ _ (hr1) h hw (lv_sub hl [1, 2, 3, 0] rfl)
      · have h := qi_f c h
        refine lv_aload_n hx hb dX0_isGuilty_33 rfl (lv_at hl 0 rfl) ?_
        refine lv_aload_n hx hb dX0_isGuilty_34 rfl (lv_at hl 0 rfl) ?_
        obtain ⟨u5, g6, h⟩ := qb1_s h
        refine d_V (As := []) (v0 := some (.ref (ta u5))) (w0 := (A, rs)) hG E hw hl (m_X0_rules l hG hC hT  g6) (qX0 hC) rfl (cwV 0 hts (lw_V q910 q912 qs30 q137 q913) rfl rfl rfl ⟨rfl, kd_X0_rules⟩ ⟨Nat.le_of_ble_eq_true rfl, Nat.le_of_ble_eq_true rfl⟩) rfl (rest := [.ref (K.2.1 0)]) (st1 := [.ref (ta u5), .ref (K.2.1 0)]) rfl rfl rfl dX0_isGuilty_35 ⟨Nat.le_of_ble_eq_true rfl, Nat.le_of_ble_eq_true rfl⟩ (fun H locs hw => ?_)
        refine lv_aload_n hx hb dX0_isGuilty_38 rfl (lv_at hl 1 rfl) ?_
        refine lv_iload_n hx hb dX0_isGuilty_39 rfl (lv_at hl 3 rfl) ?_
        refine lv_iload_n hx hb dX0_isGuilty_40 rfl (lv_at hl 2 rfl) ?_
        refine lv_aload_n hx hb dX0_isGuilty_41 rfl (lv_at hl 1 rfl) ?_
        refine lv_bipush (v := (6:Int32)) hx hb dX0_isGuilty_42 (by decide) ?_
        refine r_iald (j := 6) E hw (hr1).at (q_lit (k := 6) (n := 154) rfl rfl) (q_clamp (k := 6) rfl) dX0_isGuilty_44 ?_
        refine lv_aload_n hx hb dX0_isGuilty_45 rfl (lv_at hl 0 rfl) ?_
        refine r_getX (v := .ref (K.2.1 1)) E hw hC 0 (by decide) q238 rfl dX0_isGuilty_46 ?_
        refine r_getS1 (v := .ref (K.2.1 102)) hG E hw hC 2 (by decide) q195 rfl dX0_isGuilty_49 ?_
        refine lv_iload_n hx hb dX0_isGuilty_52 rfl (lv_at hl 2 rfl) ?_
        obtain ⟨z7, h⟩ := qif_s h
        refine r_gald (j := x2.toNatClampNeg) E hw (qg_102 hC).at (qok_in z7) rfl dX0_isGuilty_53 ?_
        refine lv_iconst (v := (3:Int32)) hx hb dX0_isGuilty_54 (by decide) ?_
        refine r_iald (j := 3) E hw (qi_f110 hC (k := x2.toNatClampNeg) (qok_lt z7)).at (q_lit (k := 3) (n := 4) rfl rfl) (q_clamp (k := 3) rfl) dX0_isGuilty_55 ?_
        obtain ⟨u8, A9, g10, h⟩ := qb2_s h
        refine d_V (As := [.ref (ta u5), .ref (K.2.1 r1), .int x3, .int x2, .int (A r1 6), .int (A (110 + x2.toNatClampNeg) 3)]) (v0 := some (.int u8)) (w0 := (A9, rs)) hG E hw hl (m_X0_isGuiltyBy l hG hC hT (hr1) g10) (qX0 hC) rfl (cwV 6 hts (lw_V q916 q918 qs31 q137 q919) rfl rfl rfl ⟨rfl, kd_X0_isGuiltyBy⟩ ⟨Nat.le_of_ble_eq_true rfl, Nat.le_of_ble_eq_true rfl⟩) rfl (rest := []) (st1 := [.int u8]) rfl rfl rfl dX0_isGuilty_56 ⟨Nat.le_of_ble_eq_true rfl, Nat.le_of_ble_eq_true rfl⟩ (fun H locs hw => ?_)
        refine lv_if_eq (tgt := 64) hx hb dX0_isGuilty_59 (by decide) (fun c => ?_) (fun c => ?_)
        · have h := qi_t c h
          obtain ⟨x3_11, e12, h⟩ := qlet_s h
          refine lv_iinc (v := x3_11) (lv' := [(3, .int x3_11), (0, .ref (K.2.1 0)), (1, .ref (K.2.1 r1)), (2, .int x2)]) (k := 3) hx hb dX0_isGuilty_64 hl rfl (by rw [e12]; rfl) (by decide) rfl (fun ls hl => ?_)
          refine lv_goto (tgt := 17) hx hb dX0_isGuilty_67 (by decide) ?_
          exact ih _ _ _ _ (hr1) h hw (lv_sub hl [1, 2, 3, 0] rfl)
        · have h := qi_f c h
          refine lv_iconst (v := (1:Int32)) hx hb dX0_isGuilty_62 (by decide) ?_
          have h := Option.some.inj h
          obtain ⟨h1, h2⟩ := Prod.mk.inj h
          exact d_iret E hr rfl hw h1 (by rw [h2]) dX0_isGuilty_63

def f_X0_isGuilty (T : Int32 → Option QT) (r1 : Nat) (x2 : Int32) (A : QA) : Option (Int32 × QA) :=
  if (A r1 1) = (0:Int32) then (
  some ((0:Int32), A)) else (
  if (A r1 2) = (1:Int32) then (
  some ((0:Int32), A)) else (
  f_X0_isGuilty_17 T FU r1 x2 (0:Int32) A))
set_option maxHeartbeats 4000000 in
theorem w_X0_isGuilty_0 {p : Program} {l : Launch} {e : Env} {s : State} {m : MethodId} {args : Array Value} {below : List Frame} {meth : Method} {c : Code} {K : QK} {G : State → Prop} {rs : QA × QL × QX × QM} {ro : Int32} {Ao : QA} (hG : QG G) (hC : QCl K) {T : Int32 → Option QT} {ta : Int32 → Nat} (hT : QTx K G rs.2.2.1 rs.2.2.2 T ta) (E : EV K G p s m args meth c cX0_isGuilty "VaneCourt" 4) (hr : meth.sig.returnType = (some .boolean)) : ∀ (r1 : Nat) (x2 : Int32) (A : QA) {H : Heap} {locs : List Loc} {ls : Array Slot}, qia K r1 154 → f_X0_isGuilty T r1 x2 A = some (ro, Ao) → WP K (A, rs) H locs → lv_has ls 4 [(0, .ref (K.2.1 0)), (1, .ref (K.2.1 r1)), (2, .int x2)] → W p l e (qrm 68 4066 0 0) s m args below meth c H locs 0 0 (MQ below (QE K (QR (some (.int ro)) (Ao, rs))) args s 0 0 (qA K)) (F0 m 0 ls []) := by
  have hx := E.1
  have hb := E.2.1
  have hown := E.2.2.1
  have hts := E.2.2.2.2.1
  intro r1 x2 A H locs ls hr1 h hw hl
  rw [f_X0_isGuilty] at h
  refine lv_aload_n hx hb dX0_isGuilty_0 rfl (lv_at hl 1 rfl) ?_
  refine lv_iconst (v := (1:Int32)) hx hb dX0_isGuilty_1 (by decide) ?_
  refine r_iald (j := 1) E hw (hr1).at (q_lit (k := 1) (n := 154) rfl rfl) (q_clamp (k := 1) rfl) dX0_isGuilty_2 ?_
  refine lv_if_eq (tgt := 13) hx hb dX0_isGuilty_3 (by decide) (fun c => ?_) (fun c => ?_)
  · have h := qi_t c h
    refine lv_iconst (v := (0:Int32)) hx hb dX0_isGuilty_13 (by decide) ?_
    have h := Option.some.inj h
    obtain ⟨h1, h2⟩ := Prod.mk.inj h
    exact d_iret E hr rfl hw h1 (by rw [h2]) dX0_isGuilty_14
  · have h := qi_f c h
    refine lv_aload_n hx hb dX0_isGuilty_6 rfl (lv_at hl 1 rfl) ?_
    refine lv_iconst (v := (2:Int32)) hx hb dX0_isGuilty_7 (by decide) ?_
    refine r_iald (j := 2) E hw (hr1).at (q_lit (k := 2) (n := 154) rfl rfl) (q_clamp (k := 2) rfl) dX0_isGuilty_8 ?_
    refine lv_iconst (v := (1:Int32)) hx hb dX0_isGuilty_9 (by decide) ?_
    refine lv_icmp_ne (tgt := 15) hx hb dX0_isGuilty_10 (by decide) (fun c => ?_) (fun c => ?_)
    · have h := qi_f c h
      refine lv_iconst (v := (0:Int32)) hx hb dX0_isGuilty_15 (by decide) ?_
      refine lv_istore_n (lv' := [(3, .int (0:Int32)), (0, .ref (K.2.1 0)), (1, .ref (K.2.1 r1)), (2, .int x2)]) hx hb dX0_isGuilty_16 rfl hl (by decide) rfl (fun ls hl => ?_)
      exact w_X0_isGuilty_17 hG hC hT E hr  _ _ _ _ _  (hr1) h hw (lv_sub hl [1, 2, 3, 0] rfl)
    · have h := qi_t c h
      refine lv_iconst (v := (0:Int32)) hx hb dX0_isGuilty_13 (by decide) ?_
      have h := Option.some.inj h
      obtain ⟨h1, h2⟩ := Prod.mk.inj h
      exact d_iret E hr rfl hw h1 (by rw [h2]) dX0_isGuilty_14

theorem m_X0_isGuilty (l : Launch) {K : QK} {G : State → Prop} (hG : QG G) (hC : QCl K) {rs : QA × QL × QX × QM} {T : Int32 → Option QT} {ta : Int32 → Nat} (hT : QTx K G rs.2.2.1 rs.2.2.2 T ta) {r1 : Nat} {x2 : Int32} {A : QA} {ro : Int32} {Ao : QA} (hr1 : qia K r1 154) (h : f_X0_isGuilty T r1 x2 A = some (ro, Ao)) : MC l K G yX0_isGuilty (ws_ yX0_isGuilty cX0_isGuilty 4 (some .boolean)) 68 4066 0 0 [.ref (K.2.1 0), .ref (K.2.1 r1), .int x2] (A, rs) (QR (some (.int ro)) (Ao, rs)) := by
  refine MC.of (by decide) (Nat.le_of_ble_eq_true rfl) (lv := [(0, .ref (K.2.1 0)), (1, .ref (K.2.1 r1)), (2, .int x2)]) rfl (fun p e s m below meth c ls E hr hl hw => ?_)
  exact w_X0_isGuilty_0 hG hC hT E hr _ _ _ hr1 h hw hl

def f_X0_sentenceOf (T : Int32 → Option QT) (r1 : Nat) (x2 : Int32) (A : QA) : Option (Int32 × QA) :=
  qb1 (f_X0_rules T A) fun u1 =>
  qb1 (T u1) fun t3 =>
  qopt t3.2.2.2.1 (
  qb1 (f_X0_names r1 (A r1 0) x2 (A r1 6) A) fun A13 =>
  qb1 (f_J14_bitCount (A13 r1 7)) fun u15 =>
  qlet (qu A13 4 7 u15) fun A17 =>
  some (((A17 4 5) * (A17 4 6)), A17)) (fun q10 =>
  qb1 (f_X0_names r1 (A r1 0) x2 (A r1 6) A) fun A19 =>
  qb1 (f_J14_bitCount (A19 r1 7)) fun u21 =>
  qlet (qu A19 4 7 u21) fun A23 =>
  qb1 (f_X0_held (q10.2 (A23 4)) (0:Int32) (999:Int32)) fun u25 =>
  some (u25, A23))
set_option maxHeartbeats 4000000 in
theorem w_X0_sentenceOf_0 {p : Program} {l : Launch} {e : Env} {s : State} {m : MethodId} {args : Array Value} {below : List Frame} {meth : Method} {c : Code} {K : QK} {G : State → Prop} {rs : QA × QL × QX × QM} {ro : Int32} {Ao : QA} (hG : QG G) (hC : QCl K) {T : Int32 → Option QT} {ta : Int32 → Nat} (hT : QTx K G rs.2.2.1 rs.2.2.2 T ta) (E : EV K G p s m args meth c cX0_sentenceOf "VaneCourt" 4) (hr : meth.sig.returnType = (some .int)) : ∀ (r1 : Nat) (x2 : Int32) (A : QA) {H : Heap} {locs : List Loc} {ls : Array Slot}, qia K r1 154 → f_X0_sentenceOf T r1 x2 A = some (ro, Ao) → WP K (A, rs) H locs → lv_has ls 4 [(0, .ref (K.2.1 0)), (1, .ref (K.2.1 r1)), (2, .int x2)] → W p l e (qrm 67 4040 0 0) s m args below meth c H locs 0 0 (MQ below (QE K (QR (some (.int ro)) (Ao, rs))) args s 0 0 (qA K)) (F0 m 0 ls []) := by
  have hx := E.1
  have hb := E.2.1
  have hown := E.2.2.1
  have hts := E.2.2.2.2.1
  intro r1 x2 A H locs ls hr1 h hw hl
  rw [f_X0_sentenceOf] at h
  refine lv_aload_n hx hb dX0_sentenceOf_0 rfl (lv_at hl 0 rfl) ?_
  obtain ⟨u1, g2, h⟩ := qb1_s h
  refine d_V (As := []) (v0 := some (.ref (ta u1))) (w0 := (A, rs)) hG E hw hl (m_X0_rules l hG hC hT  g2) (qX0 hC) rfl (cwV 0 hts (lw_V q910 q912 qs30 q137 q913) rfl rfl rfl ⟨rfl, kd_X0_rules⟩ ⟨Nat.le_of_ble_eq_true rfl, Nat.le_of_ble_eq_true rfl⟩) rfl (rest := []) (st1 := [.ref (ta u1)]) rfl rfl rfl dX0_sentenceOf_1 ⟨Nat.le_of_ble_eq_true rfl, Nat.le_of_ble_eq_true rfl⟩ (fun H locs hw => ?_)
  obtain ⟨t3, et4, h⟩ := qb1_s h
  refine r_txv hG E hw hT et4 3 (by decide) q384 dX0_sentenceOf_4 (fun ve8 bl8 se8 fo8 p5 p6 p7 p8 => ?_)
  rcases qopt_c h with ⟨eo9, h⟩ | ⟨q10, eo9, h⟩
  · have hv := p7.no eo9
    subst hv
    refine W.eq (g2 := F0 m 7 ls [.null]) rfl ?_
    refine lv_astore_nN (lv' := [(3, .null), (0, .ref (K.2.1 0)), (1, .ref (K.2.1 r1)), (2, .int x2)]) hx hb dX0_sentenceOf_7 rfl hl (by decide) rfl (fun ls hl => ?_)
    refine lv_aload_n hx hb dX0_sentenceOf_8 rfl (lv_at hl 1 rfl) ?_
    refine lv_aload_n hx hb dX0_sentenceOf_9 rfl (lv_at hl 2 rfl) ?_
    refine lv_aload_n hx hb dX0_sentenceOf_10 rfl (lv_at hl 2 rfl) ?_
    refine lv_iconst (v := (0:Int32)) hx hb dX0_sentenceOf_11 (by decide) ?_
    refine r_iald (j := 0) E hw (hr1).at (q_lit (k := 0) (n := 154) rfl rfl) (q_clamp (k := 0) rfl) dX0_sentenceOf_12 ?_
    refine lv_iload_n hx hb dX0_sentenceOf_13 rfl (lv_at hl 3 rfl) ?_
    refine lv_aload_n hx hb dX0_sentenceOf_14 rfl (lv_at hl 2 rfl) ?_
    refine lv_bipush (v := (6:Int32)) hx hb dX0_sentenceOf_15 (by decide) ?_
    refine r_iald (j := 6) E hw (hr1).at (q_lit (k := 6) (n := 154) rfl rfl) (q_clamp (k := 6) rfl) dX0_sentenceOf_17 ?_
    obtain ⟨A13, g14, h⟩ := qb1_s h
    refine d_V (As := [.ref (K.2.1 r1), .int (A r1 0), .int x2, .int (A r1 6)]) (v0 := none) (w0 := (A13, rs)) hG E hw hl (m_X0_names l hG hC (hr1) g14) (qX0 hC) rfl (cwV 4 hts (lw_V q920 q922 qs32 q137 q923) rfl rfl rfl ⟨rfl, kd_X0_names⟩ ⟨Nat.le_of_ble_eq_true rfl, Nat.le_of_ble_eq_true rfl⟩) rfl (rest := []) (st1 := []) rfl rfl rfl dX0_sentenceOf_18 ⟨Nat.le_of_ble_eq_true rfl, Nat.le_of_ble_eq_true rfl⟩ (fun H locs hw => ?_)
    refine lv_aload_n hx hb dX0_sentenceOf_21 rfl (lv_at hl 1 rfl) ?_
    refine r_getX (v := .ref (K.2.1 4)) E hw hC 6 (by decide) q244 rfl dX0_sentenceOf_22 ?_
    refine lv_bipush (v := (7:Int32)) hx hb dX0_sentenceOf_25 (by decide) ?_
    refine lv_aload_n hx hb dX0_sentenceOf_27 rfl (lv_at hl 2 rfl) ?_
    refine lv_bipush (v := (7:Int32)) hx hb dX0_sentenceOf_28 (by decide) ?_
    refine r_iald (j := 7) E hw (hr1).at (q_lit (k := 7) (n := 154) rfl rfl) (q_clamp (k := 7) rfl) dX0_sentenceOf_30 ?_
    obtain ⟨u15, g16, h⟩ := qb1_s h
    refine d_S (As := [.int (A13 r1 7)]) (v0 := some (.int u15)) (w0 := (A13, rs)) hG E hw hl (m_J14_bitCount l hG   g16) (va_cwS 1 hts (lw_S q1035 q1036 q165 q1037) rfl rfl rfl kd_J14_bitCount ⟨Nat.le_of_ble_eq_true rfl, Nat.le_of_ble_eq_true rfl⟩) rfl (rest := [.int (7:Int32), .ref (K.2.1 4)]) (st1 := [.int u15, .int (7:Int32), .ref (K.2.1 4)]) rfl rfl rfl dX0_sentenceOf_31 ⟨Nat.le_of_ble_eq_true rfl, Nat.le_of_ble_eq_true rfl⟩ (fun H locs hw => ?_)
    obtain ⟨A17, e18, h⟩ := qlet_s h
    refine r_iastA (j := 7) E hw (qi_4 hC) (q_lit (k := 7) (n := 9) rfl rfl) (q_clamp (k := 7) rfl) dX0_sentenceOf_34 (fun H locs hw => ?_)
    rw [← e18] at hw
    refine lv_aload_nN hx hb dX0_sentenceOf_35 rfl (lv_at hl 0 rfl) ?_
    refine lv_ifnonnullN hx hb dX0_sentenceOf_36 ?_
    refine lv_aload_n hx hb dX0_sentenceOf_39 rfl (lv_at hl 1 rfl) ?_
    refine r_getX (v := .ref (K.2.1 4)) E hw hC 6 (by decide) q244 rfl dX0_sentenceOf_40 ?_
    refine lv_iconst (v := (5:Int32)) hx hb dX0_sentenceOf_43 (by decide) ?_
    refine r_iald (j := 5) E hw (qi_4 hC).at (q_lit (k := 5) (n := 9) rfl rfl) (q_clamp (k := 5) rfl) dX0_sentenceOf_44 ?_
    refine lv_aload_n hx hb dX0_sentenceOf_45 rfl (lv_at hl 1 rfl) ?_
    refine r_getX (v := .ref (K.2.1 4)) E hw hC 6 (by decide) q244 rfl dX0_sentenceOf_46 ?_
    refine lv_bipush (v := (6:Int32)) hx hb dX0_sentenceOf_49 (by decide) ?_
    refine r_iald (j := 6) E hw (qi_4 hC).at (q_lit (k := 6) (n := 9) rfl rfl) (q_clamp (k := 6) rfl) dX0_sentenceOf_51 ?_
    refine lv_imul hx hb dX0_sentenceOf_52 ?_
    refine lv_goto (tgt := 73) hx hb dX0_sentenceOf_53 (by decide) ?_
    have h := Option.some.inj h
    obtain ⟨h1, h2⟩ := Prod.mk.inj h
    exact d_iret E hr rfl hw h1 (by rw [h2]) dX0_sentenceOf_73
  · obtain ⟨b11, hv, hb12⟩ := p7.so eo9
    subst hv
    refine W.eq (g2 := F0 m 7 ls [.ref b11]) rfl ?_
    refine lv_astore_n (lv' := [(3, .ref b11), (0, .ref (K.2.1 0)), (1, .ref (K.2.1 r1)), (2, .int x2)]) hx hb dX0_sentenceOf_7 rfl hl (by decide) rfl (fun ls hl => ?_)
    refine lv_aload_n hx hb dX0_sentenceOf_8 rfl (lv_at hl 1 rfl) ?_
    refine lv_aload_n hx hb dX0_sentenceOf_9 rfl (lv_at hl 2 rfl) ?_
    refine lv_aload_n hx hb dX0_sentenceOf_10 rfl (lv_at hl 2 rfl) ?_
    refine lv_iconst (v := (0:Int32)) hx hb dX0_sentenceOf_11 (by decide) ?_
    refine r_iald (j := 0) E hw (hr1).at (q_lit (k := 0) (n := 154) rfl rfl) (q_clamp (k := 0) rfl) dX0_sentenceOf_12 ?_
    refine lv_iload_n hx hb dX0_sentenceOf_13 rfl (lv_at hl 3 rfl) ?_
    refine lv_aload_n hx hb dX0_sentenceOf_14 rfl (lv_at hl 2 rfl) ?_
    refine lv_bipush (v := (6:Int32)) hx hb dX0_sentenceOf_15 (by decide) ?_
    refine r_iald (j := 6) E hw (hr1).at (q_lit (k := 6) (n := 154) rfl rfl) (q_clamp (k := 6) rfl) dX0_sentenceOf_17 ?_
    obtain ⟨A19, g20, h⟩ := qb1_s h
    refine d_V (As := [.ref (K.2.1 r1), .int (A r1 0), .int x2, .int (A r1 6)]) (v0 := none) (w0 := (A19, rs)) hG E hw hl (m_X0_names l hG hC (hr1) g20) (qX0 hC) rfl (cwV 4 hts (lw_V q920 q922 qs32 q137 q923) rfl rfl rfl ⟨rfl, kd_X0_names⟩ ⟨Nat.le_of_ble_eq_true rfl, Nat.le_of_ble_eq_true rfl⟩) rfl (rest := []) (st1 := []) rfl rfl rfl dX0_sentenceOf_18 ⟨Nat.le_of_ble_eq_true rfl, Nat.le_of_ble_eq_true rfl⟩ (fun H locs hw => ?_)
    refine lv_aload_n hx hb dX0_sentenceOf_21 rfl (lv_at hl 1 rfl) ?_
    refine r_getX (v := .ref (K.2.1 4)) E hw hC 6 (by decide) q244 rfl dX0_sentenceOf_22 ?_
    refine lv_bipush (v := (7:Int32)) hx hb dX0_sentenceOf_25 (by decide) ?_
    refine lv_aload_n hx hb dX0_sentenceOf_27 rfl (lv_at hl 2 rfl) ?_
    refine lv_bipush (v := (7:Int32)) hx hb dX0_sentenceOf_28 (by decide) ?_
    refine r_iald (j := 7) E hw (hr1).at (q_lit (k := 7) (n := 154) rfl rfl) (q_clamp (k := 7) rfl) dX0_sentenceOf_30 ?_
    obtain ⟨u21, g22, h⟩ := qb1_s h
    refine d_S (As := [.int (A19 r1 7)]) (v0 := some (.int u21)) (w0 := (A19, rs)) hG E hw hl (m_J14_bitCount l hG   g22) (va_cwS 1 hts (lw_S q1035 q1036 q165 q1037) rfl rfl rfl kd_J14_bitCount ⟨Nat.le_of_ble_eq_true rfl, Nat.le_of_ble_eq_true rfl⟩) rfl (rest := [.int (7:Int32), .ref (K.2.1 4)]) (st1 := [.int u21, .int (7:Int32), .ref (K.2.1 4)]) rfl rfl rfl dX0_sentenceOf_31 ⟨Nat.le_of_ble_eq_true rfl, Nat.le_of_ble_eq_true rfl⟩ (fun H locs hw => ?_)
    obtain ⟨A23, e24, h⟩ := qlet_s h
    refine r_iastA (j := 7) E hw (qi_4 hC) (q_lit (k := 7) (n := 9) rfl rfl) (q_clamp (k := 7) rfl) dX0_sentenceOf_34 (fun H locs hw => ?_)
    rw [← e24] at hw
    refine lv_aload_n hx hb dX0_sentenceOf_35 rfl (lv_at hl 0 rfl) ?_
    refine lv_ifnonnull (tgt := 56) hx hb dX0_sentenceOf_36 (by decide) ?_
    refine lv_aload_n hx hb dX0_sentenceOf_56 rfl (lv_at hl 0 rfl) ?_
    refine lv_aload_n hx hb dX0_sentenceOf_57 rfl (lv_at hl 1 rfl) ?_
    refine r_getX (v := .ref (K.2.1 4)) E hw hC 6 (by decide) q244 rfl dX0_sentenceOf_58 ?_
    refine r_F hG E hw hl (m_sum l hG hT.1 hC tD b11 q10.1 q10.2 hb12) q1042 kd_xSum ⟨Nat.le_of_ble_eq_true rfl, Nat.le_of_ble_eq_true rfl⟩ rfl (rest := []) (st1 := [.long (q10.2 (A23 4))]) rfl rfl rfl dX0_sentenceOf_61 ⟨Nat.zero_le _, Nat.zero_le _⟩ (fun H locs hw => ?_)
    refine lv_iconst (v := (0:Int32)) hx hb dX0_sentenceOf_66 (by decide) ?_
    refine lv_sipush (v := (999:Int32)) hx hb dX0_sentenceOf_67 (by decide) ?_
    obtain ⟨u25, g26, h⟩ := qb1_s h
    refine d_S (As := [.long (q10.2 (A23 4)), .int (0:Int32), .int (999:Int32)]) (v0 := some (.int u25)) (w0 := (A23, rs)) hG E hw hl (m_X0_held l hG hC  g26) (va_cwS 3 hts (lw_S q1043 q1044 q137 q1045) rfl rfl rfl kd_X0_held ⟨Nat.le_of_ble_eq_true rfl, Nat.le_of_ble_eq_true rfl⟩) rfl (rest := []) (st1 := [.int u25]) rfl rfl rfl dX0_sentenceOf_70 ⟨Nat.le_of_ble_eq_true rfl, Nat.le_of_ble_eq_true rfl⟩ (fun H locs hw => ?_)
    have h := Option.some.inj h
    obtain ⟨h1, h2⟩ := Prod.mk.inj h
    exact d_iret E hr rfl hw h1 (by rw [h2]) dX0_sentenceOf_73

theorem m_X0_sentenceOf (l : Launch) {K : QK} {G : State → Prop} (hG : QG G) (hC : QCl K) {rs : QA × QL × QX × QM} {T : Int32 → Option QT} {ta : Int32 → Nat} (hT : QTx K G rs.2.2.1 rs.2.2.2 T ta) {r1 : Nat} {x2 : Int32} {A : QA} {ro : Int32} {Ao : QA} (hr1 : qia K r1 154) (h : f_X0_sentenceOf T r1 x2 A = some (ro, Ao)) : MC l K G yX0_sentenceOf (ws_ yX0_sentenceOf cX0_sentenceOf 4 (some .int)) 67 4040 0 0 [.ref (K.2.1 0), .ref (K.2.1 r1), .int x2] (A, rs) (QR (some (.int ro)) (Ao, rs)) := by
  refine MC.of (by decide) (Nat.le_of_ble_eq_true rfl) (lv := [(0, .ref (K.2.1 0)), (1, .ref (K.2.1 r1)), (2, .int x2)]) rfl (fun p e s m below meth c ls E hr hl hw => ?_)
  exact w_X0_sentenceOf_0 hG hC hT E hr _ _ _ hr1 h hw hl

def f_X0_hears_109 (T : Int32 → Option QT) (r1 : Nat) (rs0 : Nat) (s1 : Int32) (s2 : Int32) (A : QA) : Option (Int32 × QA) :=
  qb1 (f_X0_writes rs0 s1 s2 A) fun A17 =>
  qb1 (f_X0_leaves r1 A17) fun A19 =>
  some ((1:Int32), A19)
set_option maxHeartbeats 4000000 in
theorem w_X0_hears_109 {p : Program} {l : Launch} {e : Env} {s : State} {m : MethodId} {args : Array Value} {below : List Frame} {meth : Method} {c : Code} {K : QK} {G : State → Prop} {rs : QA × QL × QX × QM} {ro : Int32} {Ao : QA} (hG : QG G) (hC : QCl K) {T : Int32 → Option QT} {ta : Int32 → Nat} (hT : QTx K G rs.2.2.1 rs.2.2.2 T ta) (E : EV K G p s m args meth c cX0_hears "VaneCourt" 4) (hr : meth.sig.returnType = (some .boolean)) : ∀ (r1 : Nat) (rs0 : Nat) (s1 : Int32) (s2 : Int32) (A : QA) {H : Heap} {locs : List Loc} {ls : Array Slot}, qia K r1 154 → qia K rs0 154 → f_X0_hears_109 T r1 rs0 s1 s2 A = some (ro, Ao) → WP K (A, rs) H locs → lv_has ls 4 [(1, .ref (K.2.1 r1))] → W p l e (qrm 69 4089 0 0) s m args below meth c H locs 0 0 (MQ below (QE K (QR (some (.int ro)) (Ao, rs))) args s 0 0 (qA K)) (F0 m 109 ls [.int s2, .int s1, .ref (K.2.1 rs0)]) := by
  have hx := E.1
  have hb := E.2.1
  have hown := E.2.2.1
  have hts := E.2.2.2.2.1
  intro r1 rs0 s1 s2 A H locs ls hr1 hrs0 h hw hl
  rw [f_X0_hears_109] at h
  obtain ⟨A17, g18, h⟩ := qb1_s h
  refine d_S (As := [.ref (K.2.1 rs0), .int s1, .int s2]) (v0 := none) (w0 := (A17, rs)) hG E hw hl (m_X0_writes l hG hC (hrs0) g18) (va_cwS 3 hts (lw_S q1048 q1049 q137 q1050) rfl rfl rfl kd_X0_writes ⟨Nat.le_of_ble_eq_true rfl, Nat.le_of_ble_eq_true rfl⟩) rfl (rest := []) (st1 := []) rfl rfl rfl dX0_hears_109 ⟨Nat.le_of_ble_eq_true rfl, Nat.le_of_ble_eq_true rfl⟩ (fun H locs hw => ?_)
  refine lv_aload_n hx hb dX0_hears_112 rfl (lv_at hl 0 rfl) ?_
  obtain ⟨A19, g20, h⟩ := qb1_s h
  refine d_S (As := [.ref (K.2.1 r1)]) (v0 := none) (w0 := (A19, rs)) hG E hw hl (m_X0_leaves l hG hC (hr1) g20) (va_cwS 1 hts (lw_S q1052 q1053 q137 q1054) rfl rfl rfl kd_X0_leaves ⟨Nat.le_of_ble_eq_true rfl, Nat.le_of_ble_eq_true rfl⟩) rfl (rest := []) (st1 := []) rfl rfl rfl dX0_hears_113 ⟨Nat.le_of_ble_eq_true rfl, Nat.le_of_ble_eq_true rfl⟩ (fun H locs hw => ?_)
  refine lv_iconst (v := (1:Int32)) hx hb dX0_hears_116 (by decide) ?_
  have h := Option.some.inj h
  obtain ⟨h1, h2⟩ := Prod.mk.inj h
  exact d_iret E hr rfl hw h1 (by rw [h2]) dX0_hears_117

def f_X0_hears_97 (T : Int32 → Option QT) (r1 : Nat) (x2 : Int32) (x3 : Int32) (rs0 : Nat) (s1 : Int32) (s2 : Int32) (A : QA) : Option (Int32 × QA) :=
  qif (qok s1 154) <|
  qlet (qu A rs0 s1.toNatClampNeg s2) fun A15 =>
  if x3 = (0:Int32) then (
  f_X0_hears_109 T r1 r1 x2 (0:Int32) A15) else (
  f_X0_hears_109 T r1 r1 x2 (1:Int32) A15)
set_option maxHeartbeats 4000000 in
theorem w_X0_hears_97 {p : Program} {l : Launch} {e : Env} {s : State} {m : MethodId} {args : Array Value} {below : List Frame} {meth : Method} {c : Code} {K : QK} {G : State → Prop} {rs : QA × QL × QX × QM} {ro : Int32} {Ao : QA} (hG : QG G) (hC : QCl K) {T : Int32 → Option QT} {ta : Int32 → Nat} (hT : QTx K G rs.2.2.1 rs.2.2.2 T ta) (E : EV K G p s m args meth c cX0_hears "VaneCourt" 4) (hr : meth.sig.returnType = (some .boolean)) : ∀ (r1 : Nat) (x2 : Int32) (x3 : Int32) (rs0 : Nat) (s1 : Int32) (s2 : Int32) (A : QA) {H : Heap} {locs : List Loc} {ls : Array Slot}, qia K r1 154 → qia K rs0 154 → f_X0_hears_97 T r1 x2 x3 rs0 s1 s2 A = some (ro, Ao) → WP K (A, rs) H locs → lv_has ls 4 [(1, .ref (K.2.1 r1)), (2, .int x2), (3, .int x3)] → W p l e (qrm 69 4089 0 0) s m args below meth c H locs 0 0 (MQ below (QE K (QR (some (.int ro)) (Ao, rs))) args s 0 0 (qA K)) (F0 m 97 ls [.int s2, .int s1, .ref (K.2.1 rs0)]) := by
  have hx := E.1
  have hb := E.2.1
  have hown := E.2.2.1
  have hts := E.2.2.2.2.1
  intro r1 x2 x3 rs0 s1 s2 A H locs ls hr1 hrs0 h hw hl
  rw [f_X0_hears_97] at h
  obtain ⟨z14, h⟩ := qif_s h
  obtain ⟨A15, e16, h⟩ := qlet_s h
  refine r_iastA (j := s1.toNatClampNeg) E hw (hrs0) (qok_in z14) rfl dX0_hears_97 (fun H locs hw => ?_)
  rw [← e16] at hw
  refine lv_aload_n hx hb dX0_hears_98 rfl (lv_at hl 0 rfl) ?_
  refine lv_iload_n hx hb dX0_hears_99 rfl (lv_at hl 1 rfl) ?_
  refine lv_iload_n hx hb dX0_hears_100 rfl (lv_at hl 2 rfl) ?_
  refine lv_if_eq (tgt := 108) hx hb dX0_hears_101 (by decide) (fun c => ?_) (fun c => ?_)
  · have h := qi_t c h
    refine lv_iconst (v := (0:Int32)) hx hb dX0_hears_108 (by decide) ?_
    exact w_X0_hears_109 hG hC hT E hr  _ _ _ _ _  (hr1) (hr1) h hw (lv_sub hl [0] rfl)
  · have h := qi_f c h
    refine lv_iconst (v := (1:Int32)) hx hb dX0_hears_104 (by decide) ?_
    refine lv_goto (tgt := 109) hx hb dX0_hears_105 (by decide) ?_
    exact w_X0_hears_109 hG hC hT E hr  _ _ _ _ _  (hr1) (hr1) h hw (lv_sub hl [0] rfl)

def f_X0_hears_77 (T : Int32 → Option QT) (r1 : Nat) (x2 : Int32) (x3 : Int32) (rs0 : Nat) (s1 : Int32) (s2 : Int32) (A : QA) : Option (Int32 × QA) :=
  qif (qok s1 154) <|
  qlet (qu A rs0 s1.toNatClampNeg s2) fun A12 =>
  if x3 = (0:Int32) then (
  f_X0_hears_97 T r1 x2 x3 r1 ((17:Int32) + x2) (0:Int32) A12) else (
  qb2 (f_X0_sentenceOf T r1 x2 A12) fun u21 A22 =>
  f_X0_hears_97 T r1 x2 x3 r1 ((17:Int32) + x2) u21 A22)
set_option maxHeartbeats 4000000 in
theorem w_X0_hears_77 {p : Program} {l : Launch} {e : Env} {s : State} {m : MethodId} {args : Array Value} {below : List Frame} {meth : Method} {c : Code} {K : QK} {G : State → Prop} {rs : QA × QL × QX × QM} {ro : Int32} {Ao : QA} (hG : QG G) (hC : QCl K) {T : Int32 → Option QT} {ta : Int32 → Nat} (hT : QTx K G rs.2.2.1 rs.2.2.2 T ta) (E : EV K G p s m args meth c cX0_hears "VaneCourt" 4) (hr : meth.sig.returnType = (some .boolean)) : ∀ (r1 : Nat) (x2 : Int32) (x3 : Int32) (rs0 : Nat) (s1 : Int32) (s2 : Int32) (A : QA) {H : Heap} {locs : List Loc} {ls : Array Slot}, qia K r1 154 → qia K rs0 154 → f_X0_hears_77 T r1 x2 x3 rs0 s1 s2 A = some (ro, Ao) → WP K (A, rs) H locs → lv_has ls 4 [(0, .ref (K.2.1 0)), (1, .ref (K.2.1 r1)), (2, .int x2), (3, .int x3)] → W p l e (qrm 69 4089 0 0) s m args below meth c H locs 0 0 (MQ below (QE K (QR (some (.int ro)) (Ao, rs))) args s 0 0 (qA K)) (F0 m 77 ls [.int s2, .int s1, .ref (K.2.1 rs0)]) := by
  have hx := E.1
  have hb := E.2.1
  have hown := E.2.2.1
  have hts := E.2.2.2.2.1
  intro r1 x2 x3 rs0 s1 s2 A H locs ls hr1 hrs0 h hw hl
  rw [f_X0_hears_77] at h
  obtain ⟨z11, h⟩ := qif_s h
  obtain ⟨A12, e13, h⟩ := qlet_s h
  refine r_iastA (j := s1.toNatClampNeg) E hw (hrs0) (qok_in z11) rfl dX0_hears_77 (fun H locs hw => ?_)
  rw [← e13] at hw
  refine lv_aload_n hx hb dX0_hears_78 rfl (lv_at hl 1 rfl) ?_
  refine lv_bipush (v := (17:Int32)) hx hb dX0_hears_79 (by decide) ?_
  refine lv_iload_n hx hb dX0_hears_81 rfl (lv_at hl 2 rfl) ?_
  refine lv_iadd hx hb dX0_hears_82 ?_
  refine lv_iload_n hx hb dX0_hears_83 rfl (lv_at hl 3 rfl) ?_
  refine lv_if_eq (tgt := 96) hx hb dX0_hears_84 (by decide) (fun c => ?_) (fun c => ?_)
  · have h := qi_t c h
    refine lv_iconst (v := (0:Int32)) hx hb dX0_hears_96 (by decide) ?_
    exact w_X0_hears_97 hG hC hT E hr  _ _ _ _ _ _ _  (hr1) (hr1) h hw (lv_sub hl [1, 2, 3] rfl)
  · have h := qi_f c h
    refine lv_aload_n hx hb dX0_hears_87 rfl (lv_at hl 0 rfl) ?_
    refine lv_aload_n hx hb dX0_hears_88 rfl (lv_at hl 1 rfl) ?_
    refine lv_iload_n hx hb dX0_hears_89 rfl (lv_at hl 2 rfl) ?_
    obtain ⟨u21, A22, g23, h⟩ := qb2_s h
    refine d_V (As := [.ref (K.2.1 r1), .int x2]) (v0 := some (.int u21)) (w0 := (A22, rs)) hG E hw hl (m_X0_sentenceOf l hG hC hT (hr1) g23) (qX0 hC) rfl (cwV 2 hts (lw_V q1031 q1033 qs34 q137 q1034) rfl rfl rfl ⟨rfl, kd_X0_sentenceOf⟩ ⟨Nat.le_of_ble_eq_true rfl, Nat.le_of_ble_eq_true rfl⟩) rfl (rest := [.int ((17:Int32) + x2), .ref (K.2.1 r1)]) (st1 := [.int u21, .int ((17:Int32) + x2), .ref (K.2.1 r1)]) rfl rfl rfl dX0_hears_90 ⟨Nat.le_of_ble_eq_true rfl, Nat.le_of_ble_eq_true rfl⟩ (fun H locs hw => ?_)
    refine lv_goto (tgt := 97) hx hb dX0_hears_93 (by decide) ?_
    exact w_X0_hears_97 hG hC hT E hr  _ _ _ _ _ _ _  (hr1) (hr1) h hw (lv_sub hl [1, 2, 3] rfl)

def f_X0_hears (T : Int32 → Option QT) (r1 : Nat) (A : QA) : Option (Int32 × QA) :=
  qlet (A r1 5) fun x2_1 =>
  if x2_1 = (-1:Int32) then (
  some ((0:Int32), A)) else (
  qlet (qu A r1 6 ((A r1 6) + (1:Int32))) fun A3 =>
  qlet (qu A3 r1 7 ((A3 r1 7) ||| ((1:Int32) <<< ((A3 r1 0) &&& 31)))) fun A5 =>
  qif (qok x2_1 8) <|
  if ((A5 (110 + x2_1.toNatClampNeg) 2) + (A5 r1 8)) ≤ (A5 r1 6) then (
  qb2 (f_X0_isGuilty T r1 x2_1 A5) fun u8 A9 =>
  if u8 = (0:Int32) then (
  f_X0_hears_77 T r1 x2_1 u8 r1 ((9:Int32) + x2_1) (2:Int32) A9) else (
  f_X0_hears_77 T r1 x2_1 u8 r1 ((9:Int32) + x2_1) (3:Int32) A9)) else (
  some ((0:Int32), A5)))
set_option maxHeartbeats 4000000 in
theorem w_X0_hears_0 {p : Program} {l : Launch} {e : Env} {s : State} {m : MethodId} {args : Array Value} {below : List Frame} {meth : Method} {c : Code} {K : QK} {G : State → Prop} {rs : QA × QL × QX × QM} {ro : Int32} {Ao : QA} (hG : QG G) (hC : QCl K) {T : Int32 → Option QT} {ta : Int32 → Nat} (hT : QTx K G rs.2.2.1 rs.2.2.2 T ta) (E : EV K G p s m args meth c cX0_hears "VaneCourt" 4) (hr : meth.sig.returnType = (some .boolean)) : ∀ (r1 : Nat) (A : QA) {H : Heap} {locs : List Loc} {ls : Array Slot}, qia K r1 154 → f_X0_hears T r1 A = some (ro, Ao) → WP K (A, rs) H locs → lv_has ls 4 [(0, .ref (K.2.1 0)), (1, .ref (K.2.1 r1))] → W p l e (qrm 69 4089 0 0) s m args below meth c H locs 0 0 (MQ below (QE K (QR (some (.int ro)) (Ao, rs))) args s 0 0 (qA K)) (F0 m 0 ls []) := by
  have hx := E.1
  have hb := E.2.1
  have hown := E.2.2.1
  have hts := E.2.2.2.2.1
  intro r1 A H locs ls hr1 h hw hl
  rw [f_X0_hears] at h
  refine lv_aload_n hx hb dX0_hears_0 rfl (lv_at hl 1 rfl) ?_
  refine lv_iconst (v := (5:Int32)) hx hb dX0_hears_1 (by decide) ?_
  refine r_iald (j := 5) E hw (hr1).at (q_lit (k := 5) (n := 154) rfl rfl) (q_clamp (k := 5) rfl) dX0_hears_2 ?_
  obtain ⟨x2_1, e2, h⟩ := qlet_s h
  refine r_nm e2 ?_
  refine lv_istore_n (lv' := [(2, .int x2_1), (0, .ref (K.2.1 0)), (1, .ref (K.2.1 r1))]) hx hb dX0_hears_3 rfl hl (by decide) rfl (fun ls hl => ?_)
  refine lv_iload_n hx hb dX0_hears_4 rfl (lv_at hl 0 rfl) ?_
  refine lv_iconst (v := (-1:Int32)) hx hb dX0_hears_5 (by decide) ?_
  refine lv_icmp_ne (tgt := 11) hx hb dX0_hears_6 (by decide) (fun c => ?_) (fun c => ?_)
  · have h := qi_f c h
    refine lv_aload_n hx hb dX0_hears_11 rfl (lv_at hl 2 rfl) ?_
    refine lv_bipush (v := (6:Int32)) hx hb dX0_hears_12 (by decide) ?_
    refine lv_dup2_11 hx hb dX0_hears_14 rfl rfl ?_
    refine r_iald (j := 6) E hw (hr1).at (q_lit (k := 6) (n := 154) rfl rfl) (q_clamp (k := 6) rfl) dX0_hears_15 ?_
    refine lv_iconst (v := (1:Int32)) hx hb dX0_hears_16 (by decide) ?_
    refine lv_iadd hx hb dX0_hears_17 ?_
    obtain ⟨A3, e4, h⟩ := qlet_s h
    refine r_iastA (j := 6) E hw (hr1) (q_lit (k := 6) (n := 154) rfl rfl) (q_clamp (k := 6) rfl) dX0_hears_18 (fun H locs hw => ?_)
    rw [← e4] at hw
    refine lv_aload_n hx hb dX0_hears_19 rfl (lv_at hl 2 rfl) ?_
    refine lv_bipush (v := (7:Int32)) hx hb dX0_hears_20 (by decide) ?_
    refine lv_dup2_11 hx hb dX0_hears_22 rfl rfl ?_
    refine r_iald (j := 7) E hw (hr1).at (q_lit (k := 7) (n := 154) rfl rfl) (q_clamp (k := 7) rfl) dX0_hears_23 ?_
    refine lv_iconst (v := (1:Int32)) hx hb dX0_hears_24 (by decide) ?_
    refine lv_aload_n hx hb dX0_hears_25 rfl (lv_at hl 2 rfl) ?_
    refine lv_iconst (v := (0:Int32)) hx hb dX0_hears_26 (by decide) ?_
    refine r_iald (j := 0) E hw (hr1).at (q_lit (k := 0) (n := 154) rfl rfl) (q_clamp (k := 0) rfl) dX0_hears_27 ?_
    refine lv_ishl hx hb dX0_hears_28 ?_
    refine lv_ior hx hb dX0_hears_29 ?_
    obtain ⟨A5, e6, h⟩ := qlet_s h
    refine r_iastA (j := 7) E hw (hr1) (q_lit (k := 7) (n := 154) rfl rfl) (q_clamp (k := 7) rfl) dX0_hears_30 (fun H locs hw => ?_)
    rw [← e6] at hw
    refine lv_aload_n hx hb dX0_hears_31 rfl (lv_at hl 2 rfl) ?_
    refine lv_bipush (v := (6:Int32)) hx hb dX0_hears_32 (by decide) ?_
    refine r_iald (j := 6) E hw (hr1).at (q_lit (k := 6) (n := 154) rfl rfl) (q_clamp (k := 6) rfl) dX0_hears_34 ?_
    refine lv_aload_n hx hb dX0_hears_35 rfl (lv_at hl 1 rfl) ?_
    refine r_getX (v := .ref (K.2.1 1)) E hw hC 0 (by decide) q238 rfl dX0_hears_36 ?_
    refine r_getS1 (v := .ref (K.2.1 102)) hG E hw hC 2 (by decide) q195 rfl dX0_hears_39 ?_
    refine lv_iload_n hx hb dX0_hears_42 rfl (lv_at hl 0 rfl) ?_
    obtain ⟨z7, h⟩ := qif_s h
    refine r_gald (j := x2_1.toNatClampNeg) E hw (qg_102 hC).at (qok_in z7) rfl dX0_hears_43 ?_
    refine lv_iconst (v := (2:Int32)) hx hb dX0_hears_44 (by decide) ?_
    refine r_iald (j := 2) E hw (qi_f110 hC (k := x2_1.toNatClampNeg) (qok_lt z7)).at (q_lit (k := 2) (n := 4) rfl rfl) (q_clamp (k := 2) rfl) dX0_hears_45 ?_
    refine lv_aload_n hx hb dX0_hears_46 rfl (lv_at hl 2 rfl) ?_
    refine lv_bipush (v := (8:Int32)) hx hb dX0_hears_47 (by decide) ?_
    refine r_iald (j := 8) E hw (hr1).at (q_lit (k := 8) (n := 154) rfl rfl) (q_clamp (k := 8) rfl) dX0_hears_49 ?_
    refine lv_iadd hx hb dX0_hears_50 ?_
    refine lv_icmp_ge (tgt := 56) hx hb dX0_hears_51 (by decide) (fun c => ?_) (fun c => ?_)
    · have h := qi_t c h
      refine lv_aload_n hx hb dX0_hears_56 rfl (lv_at hl 1 rfl) ?_
      refine lv_aload_n hx hb dX0_hears_57 rfl (lv_at hl 2 rfl) ?_
      refine lv_iload_n hx hb dX0_hears_58 rfl (lv_at hl 0 rfl) ?_
      obtain ⟨u8, A9, g10, h⟩ := qb2_s h
      refine d_V (As := [.ref (K.2.1 r1), .int x2_1]) (v0 := some (.int u8)) (w0 := (A9, rs)) hG E hw hl (m_X0_isGuilty l hG hC hT (hr1) g10) (qX0 hC) rfl (cwV 2 hts (lw_V q903 q905 qs29 q137 q906) rfl rfl rfl ⟨rfl, kd_X0_isGuilty⟩ ⟨Nat.le_of_ble_eq_true rfl, Nat.le_of_ble_eq_true rfl⟩) rfl (rest := []) (st1 := [.int u8]) rfl rfl rfl dX0_hears_59 ⟨Nat.le_of_ble_eq_true rfl, Nat.le_of_ble_eq_true rfl⟩ (fun H locs hw => ?_)
      refine lv_istore_n (lv' := [(3, .int u8), (2, .int x2_1), (0, .ref (K.2.1 0)), (1, .ref (K.2.1 r1))]) hx hb dX0_hears_62 rfl hl (by decide) rfl (fun ls hl => ?_)
      refine lv_aload_n hx hb dX0_hears_63 rfl (lv_at hl 3 rfl) ?_
      refine lv_bipush (v := (9:Int32)) hx hb dX0_hears_64 (by decide) ?_
      refine lv_iload_n hx hb dX0_hears_66 rfl (lv_at hl 1 rfl) ?_
      refine lv_iadd hx hb dX0_hears_67 ?_
      refine lv_iload_n hx hb dX0_hears_68 rfl (lv_at hl 0 rfl) ?_
      refine lv_if_eq (tgt := 76) hx hb dX0_hears_69 (by decide) (fun c => ?_) (fun c => ?_)
      · have h := qi_t c h
        refine lv_iconst (v := (2:Int32)) hx hb dX0_hears_76 (by decide) ?_
        exact w_X0_hears_77 hG hC hT E hr  _ _ _ _ _ _ _  (hr1) (hr1) h hw (lv_sub hl [2, 3, 1, 0] rfl)
      · have h := qi_f c h
        refine lv_iconst (v := (3:Int32)) hx hb dX0_hears_72 (by decide) ?_
        refine lv_goto (tgt := 77) hx hb dX0_hears_73 (by decide) ?_
        exact w_X0_hears_77 hG hC hT E hr  _ _ _ _ _ _ _  (hr1) (hr1) h hw (lv_sub hl [2, 3, 1, 0] rfl)
    · have h := qi_f c h
      refine lv_iconst (v := (0:Int32)) hx hb dX0_hears_54 (by decide) ?_
      have h := Option.some.inj h
      obtain ⟨h1, h2⟩ := Prod.mk.inj h
      exact d_iret E hr rfl hw h1 (by rw [h2]) dX0_hears_55
  · have h := qi_t c h
    refine lv_iconst (v := (0:Int32)) hx hb dX0_hears_9 (by decide) ?_
    have h := Option.some.inj h
    obtain ⟨h1, h2⟩ := Prod.mk.inj h
    exact d_iret E hr rfl hw h1 (by rw [h2]) dX0_hears_10

theorem m_X0_hears (l : Launch) {K : QK} {G : State → Prop} (hG : QG G) (hC : QCl K) {rs : QA × QL × QX × QM} {T : Int32 → Option QT} {ta : Int32 → Nat} (hT : QTx K G rs.2.2.1 rs.2.2.2 T ta) {r1 : Nat} {A : QA} {ro : Int32} {Ao : QA} (hr1 : qia K r1 154) (h : f_X0_hears T r1 A = some (ro, Ao)) : MC l K G yX0_hears (ws_ yX0_hears cX0_hears 4 (some .boolean)) 69 4089 0 0 [.ref (K.2.1 0), .ref (K.2.1 r1)] (A, rs) (QR (some (.int ro)) (Ao, rs)) := by
  refine MC.of (by decide) (Nat.le_of_ble_eq_true rfl) (lv := [(0, .ref (K.2.1 0)), (1, .ref (K.2.1 r1))]) rfl (fun p e s m below meth c ls E hr hl hw => ?_)
  exact w_X0_hears_0 hG hC hT E hr _ _ hr1 h hw hl

def f_X0_blows_181 (T : Int32 → Option QT) (r1 : Nat) (s0 : Int32) (A : QA) : Option (QA) :=
  if s0 = (0:Int32) then (
  qlet (qu A r1 2 (0:Int32)) fun A48 =>
  some (A48)) else (
  qlet (qu A r1 2 (1:Int32)) fun A50 =>
  some (A50))
set_option maxHeartbeats 4000000 in
theorem w_X0_blows_181 {p : Program} {l : Launch} {e : Env} {s : State} {m : MethodId} {args : Array Value} {below : List Frame} {meth : Method} {c : Code} {K : QK} {G : State → Prop} {rs : QA × QL × QX × QM} {Ao : QA} (hG : QG G) (hC : QCl K) {T : Int32 → Option QT} {ta : Int32 → Nat} (hT : QTx K G rs.2.2.1 rs.2.2.2 T ta) (E : EV K G p s m args meth c cX0_blows "VaneCourt" 6) (hr : meth.sig.returnType = none) : ∀ (r1 : Nat) (s0 : Int32) (A : QA) {H : Heap} {locs : List Loc} {ls : Array Slot}, qia K r1 154 → f_X0_blows_181 T r1 s0 A = some Ao → WP K (A, rs) H locs → lv_has ls 6 [(1, .ref (K.2.1 r1))] → W p l e (qrm 67 4040 0 0) s m args below meth c H locs 0 0 (MQ below (QE K (QR none (Ao, rs))) args s 0 0 (qA K)) (F0 m 181 ls [.int s0]) := by
  have hx := E.1
  have hb := E.2.1
  have hown := E.2.2.1
  have hts := E.2.2.2.2.1
  intro r1 s0 A H locs ls hr1 h hw hl
  rw [f_X0_blows_181] at h
  refine lv_istore (lv' := [(5, .int s0), (1, .ref (K.2.1 r1))]) hx hb dX0_blows_181 hl (by decide) rfl (fun ls hl => ?_)
  refine lv_aload_n hx hb dX0_blows_183 rfl (lv_at hl 1 rfl) ?_
  refine lv_iconst (v := (2:Int32)) hx hb dX0_blows_184 (by decide) ?_
  refine lv_iload hx hb dX0_blows_185 (lv_at hl 0 rfl) ?_
  refine lv_if_eq (tgt := 194) hx hb dX0_blows_187 (by decide) (fun c => ?_) (fun c => ?_)
  · have h := qi_t c h
    refine lv_iconst (v := (0:Int32)) hx hb dX0_blows_194 (by decide) ?_
    obtain ⟨A48, e49, h⟩ := qlet_s h
    refine r_iastA (j := 2) E hw (hr1) (q_lit (k := 2) (n := 154) rfl rfl) (q_clamp (k := 2) rfl) dX0_blows_195 (fun H locs hw => ?_)
    rw [← e49] at hw
    have h := Option.some.inj h
    have h1 := h
    exact d_ret E hr hw (by rw [h1]) dX0_blows_196
  · have h := qi_f c h
    refine lv_iconst (v := (1:Int32)) hx hb dX0_blows_190 (by decide) ?_
    refine lv_goto (tgt := 195) hx hb dX0_blows_191 (by decide) ?_
    obtain ⟨A50, e51, h⟩ := qlet_s h
    refine r_iastA (j := 2) E hw (hr1) (q_lit (k := 2) (n := 154) rfl rfl) (q_clamp (k := 2) rfl) dX0_blows_195 (fun H locs hw => ?_)
    rw [← e51] at hw
    have h := Option.some.inj h
    have h1 := h
    exact d_ret E hr hw (by rw [h1]) dX0_blows_196

def f_X0_blows_164 (T : Int32 → Option QT) (r1 : Nat) (A : QA) : Option (QA) :=
  f_X0_blows_181 T r1 (0:Int32) A
set_option maxHeartbeats 4000000 in
theorem w_X0_blows_164 {p : Program} {l : Launch} {e : Env} {s : State} {m : MethodId} {args : Array Value} {below : List Frame} {meth : Method} {c : Code} {K : QK} {G : State → Prop} {rs : QA × QL × QX × QM} {Ao : QA} (hG : QG G) (hC : QCl K) {T : Int32 → Option QT} {ta : Int32 → Nat} (hT : QTx K G rs.2.2.1 rs.2.2.2 T ta) (E : EV K G p s m args meth c cX0_blows "VaneCourt" 6) (hr : meth.sig.returnType = none) : ∀ (r1 : Nat) (A : QA) {H : Heap} {locs : List Loc} {ls : Array Slot}, qia K r1 154 → f_X0_blows_164 T r1 A = some Ao → WP K (A, rs) H locs → lv_has ls 6 [(1, .ref (K.2.1 r1))] → W p l e (qrm 67 4040 0 0) s m args below meth c H locs 0 0 (MQ below (QE K (QR none (Ao, rs))) args s 0 0 (qA K)) (F0 m 164 ls []) := by
  have hx := E.1
  have hb := E.2.1
  have hown := E.2.2.1
  have hts := E.2.2.2.2.1
  intro r1 A H locs ls hr1 h hw hl
  rw [f_X0_blows_164] at h
  refine lv_iconst (v := (0:Int32)) hx hb dX0_blows_164 (by decide) ?_
  refine lv_goto (tgt := 181) hx hb dX0_blows_165 (by decide) ?_
  exact w_X0_blows_181 hG hC hT E hr  _ _ _  (hr1) h hw (lv_sub hl [0] rfl)

def f_X0_blows_127 (T : Int32 → Option QT) (r1 : Nat) (x3 : Int32) (rs0 : Nat) (s1 : Int32) (s2 : Int32) (A : QA) : Option (QA) :=
  qif (qok s1 154) <|
  qlet (qu A rs0 s1.toNatClampNeg s2) fun A34 =>
  qb1 (f_X0_names_2 r1 (A34 r1 0) A34) fun A36 =>
  qb1 (T x3) fun t38 =>
  qopt t38.2.2.2.2.1 (
  if (2:Int32) ≤ (A36 r1 1) then (
  f_X0_blows_164 T r1 A36) else (
  if (3:Int32) ≤ ((A36 r1 3) - (A36 r1 3) / (10:Int32) * (10:Int32)) then (
  f_X0_blows_164 T r1 A36) else (
  f_X0_blows_181 T r1 (1:Int32) A36))) (fun q45 =>
  f_X0_blows_181 T r1 (b2i (q45.2 (A36 4))) A36)
set_option maxHeartbeats 4000000 in
theorem w_X0_blows_127 {p : Program} {l : Launch} {e : Env} {s : State} {m : MethodId} {args : Array Value} {below : List Frame} {meth : Method} {c : Code} {K : QK} {G : State → Prop} {rs : QA × QL × QX × QM} {Ao : QA} (hG : QG G) (hC : QCl K) {T : Int32 → Option QT} {ta : Int32 → Nat} (hT : QTx K G rs.2.2.1 rs.2.2.2 T ta) (E : EV K G p s m args meth c cX0_blows "VaneCourt" 6) (hr : meth.sig.returnType = none) : ∀ (r1 : Nat) (x3 : Int32) (rs0 : Nat) (s1 : Int32) (s2 : Int32) (A : QA) {H : Heap} {locs : List Loc} {ls : Array Slot}, qia K r1 154 → qia K rs0 154 → f_X0_blows_127 T r1 x3 rs0 s1 s2 A = some Ao → WP K (A, rs) H locs → lv_has ls 6 [(0, .ref (K.2.1 0)), (1, .ref (K.2.1 r1)), (3, .ref (ta x3))] → W p l e (qrm 67 4040 0 0) s m args below meth c H locs 0 0 (MQ below (QE K (QR none (Ao, rs))) args s 0 0 (qA K)) (F0 m 127 ls [.int s2, .int s1, .ref (K.2.1 rs0)]) := by
  have hx := E.1
  have hb := E.2.1
  have hown := E.2.2.1
  have hts := E.2.2.2.2.1
  intro r1 x3 rs0 s1 s2 A H locs ls hr1 hrs0 h hw hl
  rw [f_X0_blows_127] at h
  obtain ⟨z33, h⟩ := qif_s h
  obtain ⟨A34, e35, h⟩ := qlet_s h
  refine r_iastA (j := s1.toNatClampNeg) E hw (hrs0) (qok_in z33) rfl dX0_blows_127 (fun H locs hw => ?_)
  rw [← e35] at hw
  refine lv_aload_n hx hb dX0_blows_128 rfl (lv_at hl 0 rfl) ?_
  refine lv_aload_n hx hb dX0_blows_129 rfl (lv_at hl 1 rfl) ?_
  refine lv_aload_n hx hb dX0_blows_130 rfl (lv_at hl 1 rfl) ?_
  refine lv_iconst (v := (0:Int32)) hx hb dX0_blows_131 (by decide) ?_
  refine r_iald (j := 0) E hw (hr1).at (q_lit (k := 0) (n := 154) rfl rfl) (q_clamp (k := 0) rfl) dX0_blows_132 ?_
  obtain ⟨A36, g37, h⟩ := qb1_s h
  refine d_V (As := [.ref (K.2.1 r1), .int (A34 r1 0)]) (v0 := none) (w0 := (A36, rs)) hG E hw hl (m_X0_names_2 l hG hC (hr1) g37) (qX0 hC) rfl (cwV 2 hts (lw_V q924 q926 qs33 q137 q927) rfl rfl rfl ⟨rfl, kd_X0_names_2⟩ ⟨Nat.le_of_ble_eq_true rfl, Nat.le_of_ble_eq_true rfl⟩) rfl (rest := []) (st1 := []) rfl rfl rfl dX0_blows_133 ⟨Nat.le_of_ble_eq_true rfl, Nat.le_of_ble_eq_true rfl⟩ (fun H locs hw => ?_)
  refine lv_aload_n hx hb dX0_blows_136 rfl (lv_at hl 2 rfl) ?_
  obtain ⟨t38, et39, h⟩ := qb1_s h
  refine r_txv hG E hw hT et39 4 (by decide) q386 dX0_blows_137 (fun ve43 bl43 se43 fo43 p40 p41 p42 p43 => ?_)
  rcases qopt_c h with ⟨eo44, h⟩ | ⟨q45, eo44, h⟩
  · have hv := p43.no eo44
    subst hv
    refine W.eq (g2 := F0 m 140 ls [.null]) rfl ?_
    refine lv_ifnonnullN hx hb dX0_blows_140 ?_
    refine lv_aload_n hx hb dX0_blows_143 rfl (lv_at hl 1 rfl) ?_
    refine lv_iconst (v := (1:Int32)) hx hb dX0_blows_144 (by decide) ?_
    refine r_iald (j := 1) E hw (hr1).at (q_lit (k := 1) (n := 154) rfl rfl) (q_clamp (k := 1) rfl) dX0_blows_145 ?_
    refine lv_iconst (v := (2:Int32)) hx hb dX0_blows_146 (by decide) ?_
    refine lv_icmp_ge (tgt := 164) hx hb dX0_blows_147 (by decide) (fun c => ?_) (fun c => ?_)
    · have h := qi_t c h
      exact w_X0_blows_164 hG hC hT E hr  _ _  (hr1) h hw (lv_sub hl [1] rfl)
    · have h := qi_f c h
      refine lv_aload_n hx hb dX0_blows_150 rfl (lv_at hl 1 rfl) ?_
      refine lv_iconst (v := (3:Int32)) hx hb dX0_blows_151 (by decide) ?_
      refine r_iald (j := 3) E hw (hr1).at (q_lit (k := 3) (n := 154) rfl rfl) (q_clamp (k := 3) rfl) dX0_blows_152 ?_
      refine lv_bipush (v := (10:Int32)) hx hb dX0_blows_153 (by decide) ?_
      refine lv_irem hx hb dX0_blows_155 (by decide) ?_
      refine lv_iconst (v := (3:Int32)) hx hb dX0_blows_156 (by decide) ?_
      refine lv_icmp_ge (tgt := 164) hx hb dX0_blows_157 (by decide) (fun c => ?_) (fun c => ?_)
      · have h := qi_t c h
        exact w_X0_blows_164 hG hC hT E hr  _ _  (hr1) h hw (lv_sub hl [1] rfl)
      · have h := qi_f c h
        refine lv_iconst (v := (1:Int32)) hx hb dX0_blows_160 (by decide) ?_
        refine lv_goto (tgt := 181) hx hb dX0_blows_161 (by decide) ?_
        exact w_X0_blows_181 hG hC hT E hr  _ _ _  (hr1) h hw (lv_sub hl [1] rfl)
  · obtain ⟨b46, hv, hb47⟩ := p43.so eo44
    subst hv
    refine W.eq (g2 := F0 m 140 ls [.ref b46]) rfl ?_
    refine lv_ifnonnull (tgt := 168) hx hb dX0_blows_140 (by decide) ?_
    refine lv_aload_n hx hb dX0_blows_168 rfl (lv_at hl 2 rfl) ?_
    refine r_txv hG E hw hT et39 4 (by decide) q386 dX0_blows_169 (fun ve55 bl55 se55 fo55 p52 p53 p54 p55 => ?_)
    obtain ⟨b56, hv, hb57⟩ := p55.so eo44
    subst hv
    refine W.eq (g2 := F0 m 172 ls [.ref b56]) rfl ?_
    refine lv_aload_n hx hb dX0_blows_172 rfl (lv_at hl 0 rfl) ?_
    refine r_getX (v := .ref (K.2.1 4)) E hw hC 6 (by decide) q244 rfl dX0_blows_173 ?_
    refine r_F hG E hw hl (m_ask l hG hT.1 hC tD b56 q45.1 q45.2 hb57) q929 kd_xAsk ⟨Nat.le_of_ble_eq_true rfl, Nat.le_of_ble_eq_true rfl⟩ rfl (rest := []) (st1 := [.int (b2i (q45.2 (A36 4)))]) rfl rfl rfl dX0_blows_176 ⟨Nat.zero_le _, Nat.zero_le _⟩ (fun H locs hw => ?_)
    exact w_X0_blows_181 hG hC hT E hr  _ _ _  (hr1) h hw (lv_sub hl [1] rfl)

def f_X0_blows_74 (T : Int32 → Option QT) (r1 : Nat) (x2 : Int32) (x3 : Int32) (s0 : Int32) (A : QA) : Option (QA) :=
  qlet (qu A r1 0 (((A r1 0) + s0) &&& (3:Int32))) fun A19 =>
  qb1 (f_X0_names_2 r1 (A19 r1 0) A19) fun A21 =>
  qb1 (T x3) fun t23 =>
  qopt t23.2.2.1 (
  f_X0_blows_127 T r1 x3 r1 (1:Int32) x2 A21) (fun q30 =>
  qb1 (f_X0_held (q30.2 (A21 4)) (0:Int32) (9:Int32)) fun u64 =>
  f_X0_blows_127 T r1 x3 r1 (1:Int32) u64 A21)
set_option maxHeartbeats 4000000 in
theorem w_X0_blows_74 {p : Program} {l : Launch} {e : Env} {s : State} {m : MethodId} {args : Array Value} {below : List Frame} {meth : Method} {c : Code} {K : QK} {G : State → Prop} {rs : QA × QL × QX × QM} {Ao : QA} (hG : QG G) (hC : QCl K) {T : Int32 → Option QT} {ta : Int32 → Nat} (hT : QTx K G rs.2.2.1 rs.2.2.2 T ta) (E : EV K G p s m args meth c cX0_blows "VaneCourt" 6) (hr : meth.sig.returnType = none) : ∀ (r1 : Nat) (x2 : Int32) (x3 : Int32) (s0 : Int32) (A : QA) {H : Heap} {locs : List Loc} {ls : Array Slot}, qia K r1 154 → f_X0_blows_74 T r1 x2 x3 s0 A = some Ao → WP K (A, rs) H locs → lv_has ls 6 [(0, .ref (K.2.1 0)), (1, .ref (K.2.1 r1)), (2, .int x2), (3, .ref (ta x3))] → W p l e (qrm 67 4040 0 0) s m args below meth c H locs 0 0 (MQ below (QE K (QR none (Ao, rs))) args s 0 0 (qA K)) (F0 m 74 ls [.int s0]) := by
  have hx := E.1
  have hb := E.2.1
  have hown := E.2.2.1
  have hts := E.2.2.2.2.1
  intro r1 x2 x3 s0 A H locs ls hr1 h hw hl
  rw [f_X0_blows_74] at h
  refine lv_istore (lv' := [(4, .int s0), (0, .ref (K.2.1 0)), (1, .ref (K.2.1 r1)), (2, .int x2), (3, .ref (ta x3))]) hx hb dX0_blows_74 hl (by decide) rfl (fun ls hl => ?_)
  refine lv_aload_n hx hb dX0_blows_76 rfl (lv_at hl 2 rfl) ?_
  refine lv_iconst (v := (0:Int32)) hx hb dX0_blows_77 (by decide) ?_
  refine lv_aload_n hx hb dX0_blows_78 rfl (lv_at hl 2 rfl) ?_
  refine lv_iconst (v := (0:Int32)) hx hb dX0_blows_79 (by decide) ?_
  refine r_iald (j := 0) E hw (hr1).at (q_lit (k := 0) (n := 154) rfl rfl) (q_clamp (k := 0) rfl) dX0_blows_80 ?_
  refine lv_iload hx hb dX0_blows_81 (lv_at hl 0 rfl) ?_
  refine lv_iadd hx hb dX0_blows_83 ?_
  refine lv_iconst (v := (3:Int32)) hx hb dX0_blows_84 (by decide) ?_
  refine lv_iand hx hb dX0_blows_85 ?_
  obtain ⟨A19, e20, h⟩ := qlet_s h
  refine r_iastA (j := 0) E hw (hr1) (q_lit (k := 0) (n := 154) rfl rfl) (q_clamp (k := 0) rfl) dX0_blows_86 (fun H locs hw => ?_)
  rw [← e20] at hw
  refine lv_aload_n hx hb dX0_blows_87 rfl (lv_at hl 1 rfl) ?_
  refine lv_aload_n hx hb dX0_blows_88 rfl (lv_at hl 2 rfl) ?_
  refine lv_aload_n hx hb dX0_blows_89 rfl (lv_at hl 2 rfl) ?_
  refine lv_iconst (v := (0:Int32)) hx hb dX0_blows_90 (by decide) ?_
  refine r_iald (j := 0) E hw (hr1).at (q_lit (k := 0) (n := 154) rfl rfl) (q_clamp (k := 0) rfl) dX0_blows_91 ?_
  obtain ⟨A21, g22, h⟩ := qb1_s h
  refine d_V (As := [.ref (K.2.1 r1), .int (A19 r1 0)]) (v0 := none) (w0 := (A21, rs)) hG E hw hl (m_X0_names_2 l hG hC (hr1) g22) (qX0 hC) rfl (cwV 2 hts (lw_V q924 q926 qs33 q137 q927) rfl rfl rfl ⟨rfl, kd_X0_names_2⟩ ⟨Nat.le_of_ble_eq_true rfl, Nat.le_of_ble_eq_true rfl⟩) rfl (rest := []) (st1 := []) rfl rfl rfl dX0_blows_92 ⟨Nat.le_of_ble_eq_true rfl, Nat.le_of_ble_eq_true rfl⟩ (fun H locs hw => ?_)
  refine lv_aload_n hx hb dX0_blows_95 rfl (lv_at hl 2 rfl) ?_
  refine lv_iconst (v := (1:Int32)) hx hb dX0_blows_96 (by decide) ?_
  refine lv_aload_n hx hb dX0_blows_97 rfl (lv_at hl 4 rfl) ?_
  obtain ⟨t23, et24, h⟩ := qb1_s h
  refine r_txv hG E hw hT et24 2 (by decide) q382 dX0_blows_98 (fun ve28 bl28 se28 fo28 p25 p26 p27 p28 => ?_)
  rcases qopt_c h with ⟨eo29, h⟩ | ⟨q30, eo29, h⟩
  · have hv := p26.no eo29
    subst hv
    refine W.eq (g2 := F0 m 101 ls [.null, .int (1:Int32), .ref (K.2.1 r1)]) rfl ?_
    refine lv_ifnonnullN hx hb dX0_blows_101 ?_
    refine lv_iload_n hx hb dX0_blows_104 rfl (lv_at hl 3 rfl) ?_
    refine lv_goto (tgt := 127) hx hb dX0_blows_105 (by decide) ?_
    exact w_X0_blows_127 hG hC hT E hr  _ _ _ _ _ _  (hr1) (hr1) h hw (lv_sub hl [1, 2, 4] rfl)
  · obtain ⟨b31, hv, hb32⟩ := p26.so eo29
    subst hv
    refine W.eq (g2 := F0 m 101 ls [.ref b31, .int (1:Int32), .ref (K.2.1 r1)]) rfl ?_
    refine lv_ifnonnull (tgt := 108) hx hb dX0_blows_101 (by decide) ?_
    refine lv_aload_n hx hb dX0_blows_108 rfl (lv_at hl 4 rfl) ?_
    refine r_txv hG E hw hT et24 2 (by decide) q382 dX0_blows_109 (fun ve61 bl61 se61 fo61 p58 p59 p60 p61 => ?_)
    obtain ⟨b62, hv, hb63⟩ := p59.so eo29
    subst hv
    refine W.eq (g2 := F0 m 112 ls [.ref b62, .int (1:Int32), .ref (K.2.1 r1)]) rfl ?_
    refine lv_aload_n hx hb dX0_blows_112 rfl (lv_at hl 1 rfl) ?_
    refine r_getX (v := .ref (K.2.1 4)) E hw hC 6 (by decide) q244 rfl dX0_blows_113 ?_
    refine r_F hG E hw hl (m_sum l hG hT.1 hC tD b62 q30.1 q30.2 hb63) q1042 kd_xSum ⟨Nat.le_of_ble_eq_true rfl, Nat.le_of_ble_eq_true rfl⟩ rfl (rest := [.int (1:Int32), .ref (K.2.1 r1)]) (st1 := [.long (q30.2 (A21 4)), .int (1:Int32), .ref (K.2.1 r1)]) rfl rfl rfl dX0_blows_116 ⟨Nat.zero_le _, Nat.zero_le _⟩ (fun H locs hw => ?_)
    refine lv_iconst (v := (0:Int32)) hx hb dX0_blows_121 (by decide) ?_
    refine lv_bipush (v := (9:Int32)) hx hb dX0_blows_122 (by decide) ?_
    obtain ⟨u64, g65, h⟩ := qb1_s h
    refine d_S (As := [.long (q30.2 (A21 4)), .int (0:Int32), .int (9:Int32)]) (v0 := some (.int u64)) (w0 := (A21, rs)) hG E hw hl (m_X0_held l hG hC  g65) (va_cwS 3 hts (lw_S q1043 q1044 q137 q1045) rfl rfl rfl kd_X0_held ⟨Nat.le_of_ble_eq_true rfl, Nat.le_of_ble_eq_true rfl⟩) rfl (rest := [.int (1:Int32), .ref (K.2.1 r1)]) (st1 := [.int u64, .int (1:Int32), .ref (K.2.1 r1)]) rfl rfl rfl dX0_blows_124 ⟨Nat.le_of_ble_eq_true rfl, Nat.le_of_ble_eq_true rfl⟩ (fun H locs hw => ?_)
    exact w_X0_blows_127 hG hC hT E hr  _ _ _ _ _ _  (hr1) (hr1) h hw (lv_sub hl [1, 2, 4] rfl)

def f_X0_blows (T : Int32 → Option QT) (r1 : Nat) (x2 : Int32) (A : QA) : Option (QA) :=
  qb1 (f_X0_rules T A) fun u1 =>
  qlet (qu A r1 3 ((A r1 3) + (1:Int32))) fun A3 =>
  qb1 (f_X0_names_2 r1 (A3 r1 0) A3) fun A5 =>
  qlet (qu A5 4 3 x2) fun A7 =>
  qb1 (T u1) fun t9 =>
  qopt t9.2.1 (
  if x2 = (0:Int32) then (
  f_X0_blows_74 T r1 x2 u1 (1:Int32) A7) else (
  if x2 = (1:Int32) then (
  f_X0_blows_74 T r1 x2 u1 (-1:Int32) A7) else (
  f_X0_blows_74 T r1 x2 u1 (0:Int32) A7))) (fun q16 =>
  qb1 (f_X0_held (q16.2 (A7 4)) (-3:Int32) (3:Int32)) fun u72 =>
  f_X0_blows_74 T r1 x2 u1 u72 A7)
set_option maxHeartbeats 4000000 in
theorem w_X0_blows_0 {p : Program} {l : Launch} {e : Env} {s : State} {m : MethodId} {args : Array Value} {below : List Frame} {meth : Method} {c : Code} {K : QK} {G : State → Prop} {rs : QA × QL × QX × QM} {Ao : QA} (hG : QG G) (hC : QCl K) {T : Int32 → Option QT} {ta : Int32 → Nat} (hT : QTx K G rs.2.2.1 rs.2.2.2 T ta) (E : EV K G p s m args meth c cX0_blows "VaneCourt" 6) (hr : meth.sig.returnType = none) : ∀ (r1 : Nat) (x2 : Int32) (A : QA) {H : Heap} {locs : List Loc} {ls : Array Slot}, qia K r1 154 → f_X0_blows T r1 x2 A = some Ao → WP K (A, rs) H locs → lv_has ls 6 [(0, .ref (K.2.1 0)), (1, .ref (K.2.1 r1)), (2, .int x2)] → W p l e (qrm 67 4040 0 0) s m args below meth c H locs 0 0 (MQ below (QE K (QR none (Ao, rs))) args s 0 0 (qA K)) (F0 m 0 ls []) := by
  have hx := E.1
  have hb := E.2.1
  have hown := E.2.2.1
  have hts := E.2.2.2.2.1
  intro r1 x2 A H locs ls hr1 h hw hl
  rw [f_X0_blows] at h
  refine lv_aload_n hx hb dX0_blows_0 rfl (lv_at hl 0 rfl) ?_
  obtain ⟨u1, g2, h⟩ := qb1_s h
  refine d_V (As := []) (v0 := some (.ref (ta u1))) (w0 := (A, rs)) hG E hw hl (m_X0_rules l hG hC hT  g2) (qX0 hC) rfl (cwV 0 hts (lw_V q910 q912 qs30 q137 q913) rfl rfl rfl ⟨rfl, kd_X0_rules⟩ ⟨Nat.le_of_ble_eq_true rfl, Nat.le_of_ble_eq_true rfl⟩) rfl (rest := []) (st1 := [.ref (ta u1)]) rfl rfl rfl dX0_blows_1 ⟨Nat.le_of_ble_eq_true rfl, Nat.le_of_ble_eq_true rfl⟩ (fun H locs hw => ?_)
  refine lv_astore_n (lv' := [(3, .ref (ta u1)), (0, .ref (K.2.1 0)), (1, .ref (K.2.1 r1)), (2, .int x2)]) hx hb dX0_blows_4 rfl hl (by decide) rfl (fun ls hl => ?_)
  refine lv_aload_n hx hb dX0_blows_5 rfl (lv_at hl 2 rfl) ?_
  refine lv_iconst (v := (3:Int32)) hx hb dX0_blows_6 (by decide) ?_
  refine lv_dup2_11 hx hb dX0_blows_7 rfl rfl ?_
  refine r_iald (j := 3) E hw (hr1).at (q_lit (k := 3) (n := 154) rfl rfl) (q_clamp (k := 3) rfl) dX0_blows_8 ?_
  refine lv_iconst (v := (1:Int32)) hx hb dX0_blows_9 (by decide) ?_
  refine lv_iadd hx hb dX0_blows_10 ?_
  obtain ⟨A3, e4, h⟩ := qlet_s h
  refine r_iastA (j := 3) E hw (hr1) (q_lit (k := 3) (n := 154) rfl rfl) (q_clamp (k := 3) rfl) dX0_blows_11 (fun H locs hw => ?_)
  rw [← e4] at hw
  refine lv_aload_n hx hb dX0_blows_12 rfl (lv_at hl 1 rfl) ?_
  refine lv_aload_n hx hb dX0_blows_13 rfl (lv_at hl 2 rfl) ?_
  refine lv_aload_n hx hb dX0_blows_14 rfl (lv_at hl 2 rfl) ?_
  refine lv_iconst (v := (0:Int32)) hx hb dX0_blows_15 (by decide) ?_
  refine r_iald (j := 0) E hw (hr1).at (q_lit (k := 0) (n := 154) rfl rfl) (q_clamp (k := 0) rfl) dX0_blows_16 ?_
  obtain ⟨A5, g6, h⟩ := qb1_s h
  refine d_V (As := [.ref (K.2.1 r1), .int (A3 r1 0)]) (v0 := none) (w0 := (A5, rs)) hG E hw hl (m_X0_names_2 l hG hC (hr1) g6) (qX0 hC) rfl (cwV 2 hts (lw_V q924 q926 qs33 q137 q927) rfl rfl rfl ⟨rfl, kd_X0_names_2⟩ ⟨Nat.le_of_ble_eq_true rfl, Nat.le_of_ble_eq_true rfl⟩) rfl (rest := []) (st1 := []) rfl rfl rfl dX0_blows_17 ⟨Nat.le_of_ble_eq_true rfl, Nat.le_of_ble_eq_true rfl⟩ (fun H locs hw => ?_)
  refine lv_aload_n hx hb dX0_blows_20 rfl (lv_at hl 1 rfl) ?_
  refine r_getX (v := .ref (K.2.1 4)) E hw hC 6 (by decide) q244 rfl dX0_blows_21 ?_
  refine lv_iconst (v := (3:Int32)) hx hb dX0_blows_24 (by decide) ?_
  refine lv_iload_n hx hb dX0_blows_25 rfl (lv_at hl 3 rfl) ?_
  obtain ⟨A7, e8, h⟩ := qlet_s h
  refine r_iastA (j := 3) E hw (qi_4 hC) (q_lit (k := 3) (n := 9) rfl rfl) (q_clamp (k := 3) rfl) dX0_blows_26 (fun H locs hw => ?_)
  rw [← e8] at hw
  refine lv_aload_n hx hb dX0_blows_27 rfl (lv_at hl 0 rfl) ?_
  obtain ⟨t9, et10, h⟩ := qb1_s h
  refine r_txv hG E hw hT et10 1 (by decide) q380 dX0_blows_28 (fun ve14 bl14 se14 fo14 p11 p12 p13 p14 => ?_)
  rcases qopt_c h with ⟨eo15, h⟩ | ⟨q16, eo15, h⟩
  · have hv := p11.no eo15
    subst hv
    refine W.eq (g2 := F0 m 31 ls [.null]) rfl ?_
    refine lv_ifnonnullN hx hb dX0_blows_31 ?_
    refine lv_iload_n hx hb dX0_blows_34 rfl (lv_at hl 3 rfl) ?_
    refine lv_if_ne (tgt := 42) hx hb dX0_blows_35 (by decide) (fun c => ?_) (fun c => ?_)
    · have h := qi_f c h
      refine lv_iload_n hx hb dX0_blows_42 rfl (lv_at hl 3 rfl) ?_
      refine lv_iconst (v := (1:Int32)) hx hb dX0_blows_43 (by decide) ?_
      refine lv_icmp_ne (tgt := 51) hx hb dX0_blows_44 (by decide) (fun c => ?_) (fun c => ?_)
      · have h := qi_f c h
        refine lv_iconst (v := (0:Int32)) hx hb dX0_blows_51 (by decide) ?_
        refine lv_goto (tgt := 74) hx hb dX0_blows_52 (by decide) ?_
        exact w_X0_blows_74 hG hC hT E hr  _ _ _ _ _  (hr1) h hw (lv_sub hl [1, 2, 3, 0] rfl)
      · have h := qi_t c h
        refine lv_iconst (v := (-1:Int32)) hx hb dX0_blows_47 (by decide) ?_
        refine lv_goto (tgt := 74) hx hb dX0_blows_48 (by decide) ?_
        exact w_X0_blows_74 hG hC hT E hr  _ _ _ _ _  (hr1) h hw (lv_sub hl [1, 2, 3, 0] rfl)
    · have h := qi_t c h
      refine lv_iconst (v := (1:Int32)) hx hb dX0_blows_38 (by decide) ?_
      refine lv_goto (tgt := 74) hx hb dX0_blows_39 (by decide) ?_
      exact w_X0_blows_74 hG hC hT E hr  _ _ _ _ _  (hr1) h hw (lv_sub hl [1, 2, 3, 0] rfl)
  · obtain ⟨b17, hv, hb18⟩ := p11.so eo15
    subst hv
    refine W.eq (g2 := F0 m 31 ls [.ref b17]) rfl ?_
    refine lv_ifnonnull (tgt := 55) hx hb dX0_blows_31 (by decide) ?_
    refine lv_aload_n hx hb dX0_blows_55 rfl (lv_at hl 0 rfl) ?_
    refine r_txv hG E hw hT et10 1 (by decide) q380 dX0_blows_56 (fun ve69 bl69 se69 fo69 p66 p67 p68 p69 => ?_)
    obtain ⟨b70, hv, hb71⟩ := p66.so eo15
    subst hv
    refine W.eq (g2 := F0 m 59 ls [.ref b70]) rfl ?_
    refine lv_aload_n hx hb dX0_blows_59 rfl (lv_at hl 1 rfl) ?_
    refine r_getX (v := .ref (K.2.1 4)) E hw hC 6 (by decide) q244 rfl dX0_blows_60 ?_
    refine r_F hG E hw hl (m_sum l hG hT.1 hC tD b70 q16.1 q16.2 hb71) q1042 kd_xSum ⟨Nat.le_of_ble_eq_true rfl, Nat.le_of_ble_eq_true rfl⟩ rfl (rest := []) (st1 := [.long (q16.2 (A7 4))]) rfl rfl rfl dX0_blows_63 ⟨Nat.zero_le _, Nat.zero_le _⟩ (fun H locs hw => ?_)
    refine lv_bipush (v := (-3:Int32)) hx hb dX0_blows_68 (by decide) ?_
    refine lv_iconst (v := (3:Int32)) hx hb dX0_blows_70 (by decide) ?_
    obtain ⟨u72, g73, h⟩ := qb1_s h
    refine d_S (As := [.long (q16.2 (A7 4)), .int (-3:Int32), .int (3:Int32)]) (v0 := some (.int u72)) (w0 := (A7, rs)) hG E hw hl (m_X0_held l hG hC  g73) (va_cwS 3 hts (lw_S q1043 q1044 q137 q1045) rfl rfl rfl kd_X0_held ⟨Nat.le_of_ble_eq_true rfl, Nat.le_of_ble_eq_true rfl⟩) rfl (rest := []) (st1 := [.int u72]) rfl rfl rfl dX0_blows_71 ⟨Nat.le_of_ble_eq_true rfl, Nat.le_of_ble_eq_true rfl⟩ (fun H locs hw => ?_)
    exact w_X0_blows_74 hG hC hT E hr  _ _ _ _ _  (hr1) h hw (lv_sub hl [1, 2, 3, 0] rfl)

theorem m_X0_blows (l : Launch) {K : QK} {G : State → Prop} (hG : QG G) (hC : QCl K) {rs : QA × QL × QX × QM} {T : Int32 → Option QT} {ta : Int32 → Nat} (hT : QTx K G rs.2.2.1 rs.2.2.2 T ta) {r1 : Nat} {x2 : Int32} {A : QA} {Ao : QA} (hr1 : qia K r1 154) (h : f_X0_blows T r1 x2 A = some Ao) : MC l K G yX0_blows (ws_ yX0_blows cX0_blows 6 none) 67 4040 0 0 [.ref (K.2.1 0), .ref (K.2.1 r1), .int x2] (A, rs) (QR none (Ao, rs)) := by
  refine MC.of (by decide) (Nat.le_of_ble_eq_true rfl) (lv := [(0, .ref (K.2.1 0)), (1, .ref (K.2.1 r1)), (2, .int x2)]) rfl (fun p e s m below meth c ls E hr hl hw => ?_)
  exact w_X0_blows_0 hG hC hT E hr _ _ _ hr1 h hw hl

def f_X0_passes (T : Int32 → Option QT) (r1 : Nat) (A : QA) : Option (Int32 × QA) :=
  qb2 (f_X0_hears T r1 A) fun u1 A2 =>
  qb2 (f_X0_draw r1 A2) fun u4 A5 =>
  qb1 (f_X0_blows T r1 u4 A5) fun A7 =>
  qif (qbo u1) <|
  some (u1, A7)
set_option maxHeartbeats 4000000 in
theorem w_X0_passes_0 {p : Program} {l : Launch} {e : Env} {s : State} {m : MethodId} {args : Array Value} {below : List Frame} {meth : Method} {c : Code} {K : QK} {G : State → Prop} {rs : QA × QL × QX × QM} {ro : Int32} {Ao : QA} (hG : QG G) (hC : QCl K) {T : Int32 → Option QT} {ta : Int32 → Nat} (hT : QTx K G rs.2.2.1 rs.2.2.2 T ta) (E : EV K G p s m args meth c cX0_passes "VaneCourt" 3) (hr : meth.sig.returnType = (some .boolean)) : ∀ (r1 : Nat) (A : QA) {H : Heap} {locs : List Loc} {ls : Array Slot}, qia K r1 154 → f_X0_passes T r1 A = some (ro, Ao) → WP K (A, rs) H locs → lv_has ls 3 [(0, .ref (K.2.1 0)), (1, .ref (K.2.1 r1))] → W p l e (qrm 70 4112 0 0) s m args below meth c H locs 0 0 (MQ below (QE K (QR (some (.int ro)) (Ao, rs))) args s 0 0 (qA K)) (F0 m 0 ls []) := by
  have hx := E.1
  have hb := E.2.1
  have hown := E.2.2.1
  have hts := E.2.2.2.2.1
  intro r1 A H locs ls hr1 h hw hl
  rw [f_X0_passes] at h
  refine lv_aload_n hx hb dX0_passes_0 rfl (lv_at hl 0 rfl) ?_
  refine lv_aload_n hx hb dX0_passes_1 rfl (lv_at hl 1 rfl) ?_
  obtain ⟨u1, A2, g3, h⟩ := qb2_s h
  refine d_V (As := [.ref (K.2.1 r1)]) (v0 := some (.int u1)) (w0 := (A2, rs)) hG E hw hl (m_X0_hears l hG hC hT (hr1) g3) (qX0 hC) rfl (cwV 1 hts (lw_V q899 q901 qs28 q137 q902) rfl rfl rfl ⟨rfl, kd_X0_hears⟩ ⟨Nat.le_of_ble_eq_true rfl, Nat.le_of_ble_eq_true rfl⟩) rfl (rest := []) (st1 := [.int u1]) rfl rfl rfl dX0_passes_2 ⟨Nat.le_of_ble_eq_true rfl, Nat.le_of_ble_eq_true rfl⟩ (fun H locs hw => ?_)
  refine lv_istore_n (lv' := [(2, .int u1), (0, .ref (K.2.1 0)), (1, .ref (K.2.1 r1))]) hx hb dX0_passes_5 rfl hl (by decide) rfl (fun ls hl => ?_)
  refine lv_aload_n hx hb dX0_passes_6 rfl (lv_at hl 1 rfl) ?_
  refine lv_aload_n hx hb dX0_passes_7 rfl (lv_at hl 2 rfl) ?_
  refine lv_aload_n hx hb dX0_passes_8 rfl (lv_at hl 2 rfl) ?_
  obtain ⟨u4, A5, g6, h⟩ := qb2_s h
  refine d_S (As := [.ref (K.2.1 r1)]) (v0 := some (.int u4)) (w0 := (A5, rs)) hG E hw hl (m_X0_draw l hG hC (hr1) g6) (va_cwS 1 hts (lw_S q1055 q1056 q137 q1057) rfl rfl rfl kd_X0_draw ⟨Nat.le_of_ble_eq_true rfl, Nat.le_of_ble_eq_true rfl⟩) rfl (rest := [.ref (K.2.1 r1), .ref (K.2.1 0)]) (st1 := [.int u4, .ref (K.2.1 r1), .ref (K.2.1 0)]) rfl rfl rfl dX0_passes_9 ⟨Nat.le_of_ble_eq_true rfl, Nat.le_of_ble_eq_true rfl⟩ (fun H locs hw => ?_)
  obtain ⟨A7, g8, h⟩ := qb1_s h
  refine d_V (As := [.ref (K.2.1 r1), .int u4]) (v0 := none) (w0 := (A7, rs)) hG E hw hl (m_X0_blows l hG hC hT (hr1) g8) (qX0 hC) rfl (cwV 2 hts (lw_V q1061 q1063 qs35 q137 q1064) rfl rfl rfl ⟨rfl, kd_X0_blows⟩ ⟨Nat.le_of_ble_eq_true rfl, Nat.le_of_ble_eq_true rfl⟩) rfl (rest := []) (st1 := []) rfl rfl rfl dX0_passes_12 ⟨Nat.le_of_ble_eq_true rfl, Nat.le_of_ble_eq_true rfl⟩ (fun H locs hw => ?_)
  refine lv_iload_n hx hb dX0_passes_15 rfl (lv_at hl 0 rfl) ?_
  obtain ⟨z9, h⟩ := qif_s h
  have h := Option.some.inj h
  obtain ⟨h1, h2⟩ := Prod.mk.inj h
  exact d_iret E hr (qbo_n z9) hw h1 (by rw [h2]) dX0_passes_16

theorem m_X0_passes (l : Launch) {K : QK} {G : State → Prop} (hG : QG G) (hC : QCl K) {rs : QA × QL × QX × QM} {T : Int32 → Option QT} {ta : Int32 → Nat} (hT : QTx K G rs.2.2.1 rs.2.2.2 T ta) {r1 : Nat} {A : QA} {ro : Int32} {Ao : QA} (hr1 : qia K r1 154) (h : f_X0_passes T r1 A = some (ro, Ao)) : MC l K G yX0_passes (ws_ yX0_passes cX0_passes 3 (some .boolean)) 70 4112 0 0 [.ref (K.2.1 0), .ref (K.2.1 r1)] (A, rs) (QR (some (.int ro)) (Ao, rs)) := by
  refine MC.of (by decide) (Nat.le_of_ble_eq_true rfl) (lv := [(0, .ref (K.2.1 0)), (1, .ref (K.2.1 r1))]) rfl (fun p e s m below meth c ls E hr hl hw => ?_)
  exact w_X0_passes_0 hG hC hT E hr _ _ hr1 h hw hl

def f_X0_hour_33 (T : Int32 → Option QT) : Nat → Int32 → Int32 → Int32 → QA → Option (Int32 × QA)
  | 0, _, _, _, _ => none
  | n + 1, x1, x2, x3, A => if x1 ≤ x3 then (
  some (x2, A)) else (
  qb1 (f_X1_keeps A) fun A3 =>
  qb2 (f_X0_passes T 101 A3) fun u5 A6 =>
  if u5 = (0:Int32) then (
  qlet (x2 + (0:Int32)) fun x2_8 =>
  qlet (x3 + (1:Int32)) fun x3_10 =>
  f_X0_hour_33 T n x1 x2_8 x3_10 A6) else (
  qlet (x2 + (1:Int32)) fun x2_12 =>
  qlet (x3 + (1:Int32)) fun x3_14 =>
  f_X0_hour_33 T n x1 x2_12 x3_14 A6))
set_option maxHeartbeats 4000000 in
theorem w_X0_hour_33 {p : Program} {l : Launch} {e : Env} {s : State} {m : MethodId} {args : Array Value} {below : List Frame} {meth : Method} {c : Code} {K : QK} {G : State → Prop} {rs : QA × QL × QX × QM} {ro : Int32} {Ao : QA} (hG : QG G) (hC : QCl K) {T : Int32 → Option QT} {ta : Int32 → Nat} (hT : QTx K G rs.2.2.1 rs.2.2.2 T ta) (E : EV K G p s m args meth c cX0_hour "VaneCourt" 4) (hr : meth.sig.returnType = (some .int)) : ∀ (n : Nat) (x1 : Int32) (x2 : Int32) (x3 : Int32) (A : QA) {H : Heap} {locs : List Loc} {ls : Array Slot}, f_X0_hour_33 T n x1 x2 x3 A = some (ro, Ao) → WP K (A, rs) H locs → lv_has ls 4 [(0, .ref (K.2.1 0)), (1, .int x1), (2, .int x2), (3, .int x3)] → W p l e (qrm 71 4134 0 0) s m args below meth c H locs 0 0 (MQ below (QE K (QR (some (.int ro)) (Ao, rs))) args s 0 0 (qA K)) (F0 m 33 ls []) := by
  have hx := E.1
  have hb := E.2.1
  have hown := E.2.2.1
  have hts := E.2.2.2.2.1
  intro n
  induction n with
  | zero =>
    intro x1 x2 x3 A H locs ls  h hw hl
    cases h
  | succ n ih =>
    intro x1 x2 x3 A H locs ls  h hw hl
    rw [f_X0_hour_33] at h
    refine lv_iload_n hx hb dX0_hour_33 rfl (lv_at hl 3 rfl) ?_
    refine lv_iload_n hx hb dX0_hour_34 rfl (lv_at hl 1 rfl) ?_
    refine lv_icmp_ge (tgt := 73) hx hb dX0_hour_35 (by decide) (fun c => ?_) (fun c => ?_)
    · have h := qi_t c h
      refine lv_iload_n hx hb dX0_hour_73 rfl (lv_at hl 2 rfl) ?_
      have h := Option.some.inj h
      obtain ⟨h1, h2⟩ := Prod.mk.inj h
      exact d_iret E hr rfl hw h1 (by rw [h2]) dX0_hour_74
    · have h := qi_f c h
      refine lv_aload_n hx hb dX0_hour_38 rfl (lv_at hl 0 rfl) ?_
      refine r_getX (v := .ref (K.2.1 1)) E hw hC 0 (by decide) q238 rfl dX0_hour_39 ?_
      obtain ⟨A3, g4, h⟩ := qb1_s h
      refine d_V (As := []) (v0 := none) (w0 := (A3, rs)) hG E hw hl (m_X1_keeps l hG hC  g4) (qS1 hC) rfl (cwV 0 hts (lw_V q891 q892 q893 q138 q894) rfl rfl rfl ⟨rfl, kd_X1_keeps⟩ ⟨Nat.le_of_ble_eq_true rfl, Nat.le_of_ble_eq_true rfl⟩) rfl (rest := []) (st1 := []) rfl rfl rfl dX0_hour_42 ⟨Nat.le_of_ble_eq_true rfl, Nat.le_of_ble_eq_true rfl⟩ (fun H locs hw => ?_)
      refine lv_iload_n hx hb dX0_hour_45 rfl (lv_at hl 2 rfl) ?_
      refine lv_aload_n hx hb dX0_hour_46 rfl (lv_at hl 0 rfl) ?_
      refine lv_aload_n hx hb dX0_hour_47 rfl (lv_at hl 0 rfl) ?_
      refine r_getX (v := .ref (K.2.1 1)) E hw hC 0 (by decide) q238 rfl dX0_hour_48 ?_
      refine r_getS1 (v := .ref (K.2.1 101)) hG E hw hC 1 (by decide) q193 rfl dX0_hour_51 ?_
      obtain ⟨u5, A6, g7, h⟩ := qb2_s h
      refine d_V (As := [.ref (K.2.1 101)]) (v0 := some (.int u5)) (w0 := (A6, rs)) hG E hw hl (m_X0_passes l hG hC hT (qi_101 hC) g7) (qX0 hC) rfl (cwV 1 hts (lw_V q895 q897 qs27 q137 q898) rfl rfl rfl ⟨rfl, kd_X0_passes⟩ ⟨Nat.le_of_ble_eq_true rfl, Nat.le_of_ble_eq_true rfl⟩) rfl (rest := [.int x2]) (st1 := [.int u5, .int x2]) rfl rfl rfl dX0_hour_54 ⟨Nat.le_of_ble_eq_true rfl, Nat.le_of_ble_eq_true rfl⟩ (fun H locs hw => ?_)
      refine lv_if_eq (tgt := 64) hx hb dX0_hour_57 (by decide) (fun c => ?_) (fun c => ?_)
      · have h := qi_t c h
        refine lv_iconst (v := (0:Int32)) hx hb dX0_hour_64 (by decide) ?_
        refine lv_iadd hx hb dX0_hour_65 ?_
        obtain ⟨x2_8, e9, h⟩ := qlet_s h
        refine r_nm e9 ?_
        refine lv_istore_n (lv' := [(2, .int x2_8), (0, .ref (K.2.1 0)), (1, .int x1), (3, .int x3)]) hx hb dX0_hour_66 rfl hl (by decide) rfl (fun ls hl => ?_)
        obtain ⟨x3_10, e11, h⟩ := qlet_s h
        refine lv_iinc (v := x3_10) (lv' := [(3, .int x3_10), (2, .int x2_8), (0, .ref (K.2.1 0)), (1, .int x1)]) (k := 3) hx hb dX0_hour_67 hl rfl (by rw [e11]; rfl) (by decide) rfl (fun ls hl => ?_)
        refine lv_goto (tgt := 33) hx hb dX0_hour_70 (by decide) ?_
        exact ih _ _ _ _  h hw (lv_sub hl [2, 3, 1, 0] rfl)
      · have h := qi_f c h
        refine lv_iconst (v := (1:Int32)) hx hb dX0_hour_60 (by decide) ?_
        refine lv_goto (tgt := 65) hx hb dX0_hour_61 (by decide) ?_
        refine lv_iadd hx hb dX0_hour_65 ?_
        obtain ⟨x2_12, e13, h⟩ := qlet_s h
        refine r_nm e13 ?_
        refine lv_istore_n (lv' := [(2, .int x2_12), (0, .ref (K.2.1 0)), (1, .int x1), (3, .int x3)]) hx hb dX0_hour_66 rfl hl (by decide) rfl (fun ls hl => ?_)
        obtain ⟨x3_14, e15, h⟩ := qlet_s h
        refine lv_iinc (v := x3_14) (lv' := [(3, .int x3_14), (2, .int x2_12), (0, .ref (K.2.1 0)), (1, .int x1)]) (k := 3) hx hb dX0_hour_67 hl rfl (by rw [e15]; rfl) (by decide) rfl (fun ls hl => ?_)
        refine lv_goto (tgt := 33) hx hb dX0_hour_70 (by decide) ?_
        exact ih _ _ _ _  h hw (lv_sub hl [2, 3, 1, 0] rfl)

def f_X0_hour (T : Int32 → Option QT) (x1 : Int32) (A : QA) : Option (Int32 × QA) :=
  qb1 (f_X0_in x1 (1:Int32) (60:Int32)) fun u1 =>
  if u1 = (0:Int32) then (
  some ((-1:Int32), A)) else (
  if ((A 101 3) + x1) ≤ (9999:Int32) then (
  f_X0_hour_33 T FU x1 (0:Int32) (0:Int32) A) else (
  some ((-1:Int32), A)))
set_option maxHeartbeats 4000000 in
theorem w_X0_hour_0 {p : Program} {l : Launch} {e : Env} {s : State} {m : MethodId} {args : Array Value} {below : List Frame} {meth : Method} {c : Code} {K : QK} {G : State → Prop} {rs : QA × QL × QX × QM} {ro : Int32} {Ao : QA} (hG : QG G) (hC : QCl K) {T : Int32 → Option QT} {ta : Int32 → Nat} (hT : QTx K G rs.2.2.1 rs.2.2.2 T ta) (E : EV K G p s m args meth c cX0_hour "VaneCourt" 4) (hr : meth.sig.returnType = (some .int)) : ∀ (x1 : Int32) (A : QA) {H : Heap} {locs : List Loc} {ls : Array Slot}, f_X0_hour T x1 A = some (ro, Ao) → WP K (A, rs) H locs → lv_has ls 4 [(0, .ref (K.2.1 0)), (1, .int x1)] → W p l e (qrm 71 4134 0 0) s m args below meth c H locs 0 0 (MQ below (QE K (QR (some (.int ro)) (Ao, rs))) args s 0 0 (qA K)) (F0 m 0 ls []) := by
  have hx := E.1
  have hb := E.2.1
  have hown := E.2.2.1
  have hts := E.2.2.2.2.1
  intro x1 A H locs ls  h hw hl
  rw [f_X0_hour] at h
  refine lv_iload_n hx hb dX0_hour_0 rfl (lv_at hl 1 rfl) ?_
  refine lv_iconst (v := (1:Int32)) hx hb dX0_hour_1 (by decide) ?_
  refine lv_bipush (v := (60:Int32)) hx hb dX0_hour_2 (by decide) ?_
  obtain ⟨u1, g2, h⟩ := qb1_s h
  refine d_S (As := [.int x1, .int (1:Int32), .int (60:Int32)]) (v0 := some (.int u1)) (w0 := (A, rs)) hG E hw hl (m_X0_in l hG hC  g2) (va_cwS 3 hts (lw_S q283 q284 q137 q285) rfl rfl rfl kd_X0_in ⟨Nat.le_of_ble_eq_true rfl, Nat.le_of_ble_eq_true rfl⟩) rfl (rest := []) (st1 := [.int u1]) rfl rfl rfl dX0_hour_4 ⟨Nat.le_of_ble_eq_true rfl, Nat.le_of_ble_eq_true rfl⟩ (fun H locs hw => ?_)
  refine lv_if_eq (tgt := 27) hx hb dX0_hour_7 (by decide) (fun c => ?_) (fun c => ?_)
  · have h := qi_t c h
    refine lv_iconst (v := (-1:Int32)) hx hb dX0_hour_27 (by decide) ?_
    have h := Option.some.inj h
    obtain ⟨h1, h2⟩ := Prod.mk.inj h
    exact d_iret E hr rfl hw h1 (by rw [h2]) dX0_hour_28
  · have h := qi_f c h
    refine lv_aload_n hx hb dX0_hour_10 rfl (lv_at hl 0 rfl) ?_
    refine r_getX (v := .ref (K.2.1 1)) E hw hC 0 (by decide) q238 rfl dX0_hour_11 ?_
    refine r_getS1 (v := .ref (K.2.1 101)) hG E hw hC 1 (by decide) q193 rfl dX0_hour_14 ?_
    refine lv_iconst (v := (3:Int32)) hx hb dX0_hour_17 (by decide) ?_
    refine r_iald (j := 3) E hw (qi_101 hC).at (q_lit (k := 3) (n := 154) rfl rfl) (q_clamp (k := 3) rfl) dX0_hour_18 ?_
    refine lv_iload_n hx hb dX0_hour_19 rfl (lv_at hl 1 rfl) ?_
    refine lv_iadd hx hb dX0_hour_20 ?_
    refine lv_sipush (v := (9999:Int32)) hx hb dX0_hour_21 (by decide) ?_
    refine lv_icmp_le (tgt := 29) hx hb dX0_hour_24 (by decide) (fun c => ?_) (fun c => ?_)
    · have h := qi_t c h
      refine lv_iconst (v := (0:Int32)) hx hb dX0_hour_29 (by decide) ?_
      refine lv_istore_n (lv' := [(2, .int (0:Int32)), (0, .ref (K.2.1 0)), (1, .int x1)]) hx hb dX0_hour_30 rfl hl (by decide) rfl (fun ls hl => ?_)
      refine lv_iconst (v := (0:Int32)) hx hb dX0_hour_31 (by decide) ?_
      refine lv_istore_n (lv' := [(3, .int (0:Int32)), (2, .int (0:Int32)), (0, .ref (K.2.1 0)), (1, .int x1)]) hx hb dX0_hour_32 rfl hl (by decide) rfl (fun ls hl => ?_)
      exact w_X0_hour_33 hG hC hT E hr  _ _ _ _ _   h hw (lv_sub hl [2, 3, 1, 0] rfl)
    · have h := qi_f c h
      refine lv_iconst (v := (-1:Int32)) hx hb dX0_hour_27 (by decide) ?_
      have h := Option.some.inj h
      obtain ⟨h1, h2⟩ := Prod.mk.inj h
      exact d_iret E hr rfl hw h1 (by rw [h2]) dX0_hour_28

theorem m_X0_hour (l : Launch) {K : QK} {G : State → Prop} (hG : QG G) (hC : QCl K) {rs : QA × QL × QX × QM} {T : Int32 → Option QT} {ta : Int32 → Nat} (hT : QTx K G rs.2.2.1 rs.2.2.2 T ta) {x1 : Int32} {A : QA} {ro : Int32} {Ao : QA} (h : f_X0_hour T x1 A = some (ro, Ao)) : MC l K G yX0_hour (ws_ yX0_hour cX0_hour 4 (some .int)) 71 4134 0 0 [.ref (K.2.1 0), .int x1] (A, rs) (QR (some (.int ro)) (Ao, rs)) := by
  refine MC.of (by decide) (Nat.le_of_ble_eq_true rfl) (lv := [(0, .ref (K.2.1 0)), (1, .int x1)]) rfl (fun p e s m below meth c ls E hr hl hw => ?_)
  exact w_X0_hour_0 hG hC hT E hr _ _  h hw hl

def f_X0_passesAll_2 (T : Int32 → Option QT) : Nat → Int32 → Int32 → QA → Option (Int32 × QA)
  | 0, _, _, _ => none
  | n + 1, x1, x2, A => if x1 ≤ x2 then (
  some ((1:Int32), A)) else (
  qb2 (f_X0_hour T (1:Int32) A) fun u1 A2 =>
  if u1 = (-1:Int32) then (
  some ((0:Int32), A2)) else (
  qlet (x2 + (1:Int32)) fun x2_4 =>
  f_X0_passesAll_2 T n x1 x2_4 A2))
set_option maxHeartbeats 4000000 in
theorem w_X0_passesAll_2 {p : Program} {l : Launch} {e : Env} {s : State} {m : MethodId} {args : Array Value} {below : List Frame} {meth : Method} {c : Code} {K : QK} {G : State → Prop} {rs : QA × QL × QX × QM} {ro : Int32} {Ao : QA} (hG : QG G) (hC : QCl K) {T : Int32 → Option QT} {ta : Int32 → Nat} (hT : QTx K G rs.2.2.1 rs.2.2.2 T ta) (E : EV K G p s m args meth c cX0_passesAll "VaneCourt" 3) (hr : meth.sig.returnType = (some .boolean)) : ∀ (n : Nat) (x1 : Int32) (x2 : Int32) (A : QA) {H : Heap} {locs : List Loc} {ls : Array Slot}, f_X0_passesAll_2 T n x1 x2 A = some (ro, Ao) → WP K (A, rs) H locs → lv_has ls 3 [(0, .ref (K.2.1 0)), (1, .int x1), (2, .int x2)] → W p l e (qrm 72 4157 0 0) s m args below meth c H locs 0 0 (MQ below (QE K (QR (some (.int ro)) (Ao, rs))) args s 0 0 (qA K)) (F0 m 2 ls []) := by
  have hx := E.1
  have hb := E.2.1
  have hown := E.2.2.1
  have hts := E.2.2.2.2.1
  intro n
  induction n with
  | zero =>
    intro x1 x2 A H locs ls  h hw hl
    cases h
  | succ n ih =>
    intro x1 x2 A H locs ls  h hw hl
    rw [f_X0_passesAll_2] at h
    refine lv_iload_n hx hb dX0_passesAll_2 rfl (lv_at hl 2 rfl) ?_
    refine lv_iload_n hx hb dX0_passesAll_3 rfl (lv_at hl 1 rfl) ?_
    refine lv_icmp_ge (tgt := 24) hx hb dX0_passesAll_4 (by decide) (fun c => ?_) (fun c => ?_)
    · have h := qi_t c h
      refine lv_iconst (v := (1:Int32)) hx hb dX0_passesAll_24 (by decide) ?_
      have h := Option.some.inj h
      obtain ⟨h1, h2⟩ := Prod.mk.inj h
      exact d_iret E hr rfl hw h1 (by rw [h2]) dX0_passesAll_25
    · have h := qi_f c h
      refine lv_aload_n hx hb dX0_passesAll_7 rfl (lv_at hl 0 rfl) ?_
      refine lv_iconst (v := (1:Int32)) hx hb dX0_passesAll_8 (by decide) ?_
      obtain ⟨u1, A2, g3, h⟩ := qb2_s h
      refine d_V (As := [.int (1:Int32)]) (v0 := some (.int u1)) (w0 := (A2, rs)) hG E hw hl (m_X0_hour l hG hC hT  g3) (qX0 hC) rfl (cwV 1 hts (lw_V q1152 q888 q889 q137 q890) rfl rfl rfl ⟨rfl, kd_X0_hour⟩ ⟨Nat.le_of_ble_eq_true rfl, Nat.le_of_ble_eq_true rfl⟩) rfl (rest := []) (st1 := [.int u1]) rfl rfl rfl dX0_passesAll_9 ⟨Nat.le_of_ble_eq_true rfl, Nat.le_of_ble_eq_true rfl⟩ (fun H locs hw => ?_)
      refine lv_iconst (v := (-1:Int32)) hx hb dX0_passesAll_12 (by decide) ?_
      refine lv_icmp_ne (tgt := 18) hx hb dX0_passesAll_13 (by decide) (fun c => ?_) (fun c => ?_)
      · have h := qi_f c h
        obtain ⟨x2_4, e5, h⟩ := qlet_s h
        refine lv_iinc (v := x2_4) (lv' := [(2, .int x2_4), (0, .ref (K.2.1 0)), (1, .int x1)]) (k := 2) hx hb dX0_passesAll_18 hl rfl (by rw [e5]; rfl) (by decide) rfl (fun ls hl => ?_)
        refine lv_goto (tgt := 2) hx hb dX0_passesAll_21 (by decide) ?_
        exact ih _ _ _  h hw (lv_sub hl [1, 2, 0] rfl)
      · have h := qi_t c h
        refine lv_iconst (v := (0:Int32)) hx hb dX0_passesAll_16 (by decide) ?_
        have h := Option.some.inj h
        obtain ⟨h1, h2⟩ := Prod.mk.inj h
        exact d_iret E hr rfl hw h1 (by rw [h2]) dX0_passesAll_17

def f_X0_passesAll (T : Int32 → Option QT) (x1 : Int32) (A : QA) : Option (Int32 × QA) :=
  f_X0_passesAll_2 T FU x1 (0:Int32) A
set_option maxHeartbeats 4000000 in
theorem w_X0_passesAll_0 {p : Program} {l : Launch} {e : Env} {s : State} {m : MethodId} {args : Array Value} {below : List Frame} {meth : Method} {c : Code} {K : QK} {G : State → Prop} {rs : QA × QL × QX × QM} {ro : Int32} {Ao : QA} (hG : QG G) (hC : QCl K) {T : Int32 → Option QT} {ta : Int32 → Nat} (hT : QTx K G rs.2.2.1 rs.2.2.2 T ta) (E : EV K G p s m args meth c cX0_passesAll "VaneCourt" 3) (hr : meth.sig.returnType = (some .boolean)) : ∀ (x1 : Int32) (A : QA) {H : Heap} {locs : List Loc} {ls : Array Slot}, f_X0_passesAll T x1 A = some (ro, Ao) → WP K (A, rs) H locs → lv_has ls 3 [(0, .ref (K.2.1 0)), (1, .int x1)] → W p l e (qrm 72 4157 0 0) s m args below meth c H locs 0 0 (MQ below (QE K (QR (some (.int ro)) (Ao, rs))) args s 0 0 (qA K)) (F0 m 0 ls []) := by
  have hx := E.1
  have hb := E.2.1
  have hown := E.2.2.1
  have hts := E.2.2.2.2.1
  intro x1 A H locs ls  h hw hl
  rw [f_X0_passesAll] at h
  refine lv_iconst (v := (0:Int32)) hx hb dX0_passesAll_0 (by decide) ?_
  refine lv_istore_n (lv' := [(2, .int (0:Int32)), (0, .ref (K.2.1 0)), (1, .int x1)]) hx hb dX0_passesAll_1 rfl hl (by decide) rfl (fun ls hl => ?_)
  exact w_X0_passesAll_2 hG hC hT E hr  _ _ _ _   h hw (lv_sub hl [1, 2, 0] rfl)

theorem m_X0_passesAll (l : Launch) {K : QK} {G : State → Prop} (hG : QG G) (hC : QCl K) {rs : QA × QL × QX × QM} {T : Int32 → Option QT} {ta : Int32 → Nat} (hT : QTx K G rs.2.2.1 rs.2.2.2 T ta) {x1 : Int32} {A : QA} {ro : Int32} {Ao : QA} (h : f_X0_passesAll T x1 A = some (ro, Ao)) : MC l K G yX0_passesAll (ws_ yX0_passesAll cX0_passesAll 3 (some .boolean)) 72 4157 0 0 [.ref (K.2.1 0), .int x1] (A, rs) (QR (some (.int ro)) (Ao, rs)) := by
  refine MC.of (by decide) (Nat.le_of_ble_eq_true rfl) (lv := [(0, .ref (K.2.1 0)), (1, .int x1)]) rfl (fun p e s m below meth c ls E hr hl hw => ?_)
  exact w_X0_passesAll_0 hG hC hT E hr _ _  h hw hl

def f_X0_happens (T : Int32 → Option QT) (x1 : Int32) (A : QA) : Option (QA) :=
  qif (decide (¬ (A 100 0) = 0)) <|
  qlet (x1 - x1 / (A 100 0) * (A 100 0)) fun x2_2 =>
  if (x1 - x1 / (7:Int32) * (7:Int32)) = (0:Int32) then (
  qb1 (f_X0_canCall x2_2 A) fun u4 =>
  if u4 = (0:Int32) then (
  some (A)) else (
  qb1 (f_X0_calls 101 x2_2 A) fun A6 =>
  some (A6))) else (
  if (x1 - x1 / (7:Int32) * (7:Int32)) = (1:Int32) then (
  qb1 (f_X0_canCall x2_2 A) fun u8 =>
  if u8 = (0:Int32) then (
  some (A)) else (
  qb1 (f_X0_calls 101 x2_2 A) fun A10 =>
  some (A10))) else (
  if (x1 - x1 / (7:Int32) * (7:Int32)) = (2:Int32) then (
  qb1 (f_X0_canDelay A) fun u12 =>
  if u12 = (0:Int32) then (
  some (A)) else (
  qlet (qu A 101 8 ((A 101 8) + (1:Int32))) fun A14 =>
  some (A14))) else (
  if (x1 - x1 / (7:Int32) * (7:Int32)) = (3:Int32) then (
  qb1 (f_X0_canAppeal x2_2 A) fun u16 =>
  if u16 = (0:Int32) then (
  some (A)) else (
  qb1 (f_X0_appeals x2_2 A) fun A18 =>
  some (A18))) else (
  if (9999:Int32) ≤ (A 101 3) then (
  some (A)) else (
  qb2 (f_X0_passes T 101 A) fun u20 A21 =>
  if u20 = (0:Int32) then (
  some (A21)) else (
  some (A21)))))))
set_option maxHeartbeats 4000000 in
theorem w_X0_happens_0 {p : Program} {l : Launch} {e : Env} {s : State} {m : MethodId} {args : Array Value} {below : List Frame} {meth : Method} {c : Code} {K : QK} {G : State → Prop} {rs : QA × QL × QX × QM} {Ao : QA} (hG : QG G) (hC : QCl K) {T : Int32 → Option QT} {ta : Int32 → Nat} (hT : QTx K G rs.2.2.1 rs.2.2.2 T ta) (E : EV K G p s m args meth c cX0_happens "VaneCourt" 4) (hr : meth.sig.returnType = none) : ∀ (x1 : Int32) (A : QA) {H : Heap} {locs : List Loc} {ls : Array Slot}, f_X0_happens T x1 A = some Ao → WP K (A, rs) H locs → lv_has ls 4 [(0, .ref (K.2.1 0)), (1, .int x1)] → W p l e (qrm 71 4134 0 0) s m args below meth c H locs 0 0 (MQ below (QE K (QR none (Ao, rs))) args s 0 0 (qA K)) (F0 m 0 ls []) := by
  have hx := E.1
  have hb := E.2.1
  have hown := E.2.2.1
  have hts := E.2.2.2.2.1
  intro x1 A H locs ls  h hw hl
  rw [f_X0_happens] at h
  refine lv_iload_n hx hb dX0_happens_0 rfl (lv_at hl 1 rfl) ?_
  refine lv_aload_n hx hb dX0_happens_1 rfl (lv_at hl 0 rfl) ?_
  refine r_getX (v := .ref (K.2.1 1)) E hw hC 0 (by decide) q238 rfl dX0_happens_2 ?_
  refine r_getS1 (v := .ref (K.2.1 100)) hG E hw hC 0 (by decide) q191 rfl dX0_happens_5 ?_
  refine lv_iconst (v := (0:Int32)) hx hb dX0_happens_8 (by decide) ?_
  refine r_iald (j := 0) E hw (qi_100 hC).at (q_lit (k := 0) (n := 7) rfl rfl) (q_clamp (k := 0) rfl) dX0_happens_9 ?_
  obtain ⟨z1, h⟩ := qif_s h
  refine lv_irem hx hb dX0_happens_10 (of_decide_eq_true z1) ?_
  obtain ⟨x2_2, e3, h⟩ := qlet_s h
  refine r_nm e3 ?_
  refine lv_istore_n (lv' := [(2, .int x2_2), (0, .ref (K.2.1 0)), (1, .int x1)]) hx hb dX0_happens_11 rfl hl (by decide) rfl (fun ls hl => ?_)
  refine lv_iload_n hx hb dX0_happens_12 rfl (lv_at hl 2 rfl) ?_
  refine lv_bipush (v := (7:Int32)) hx hb dX0_happens_13 (by decide) ?_
  refine lv_irem hx hb dX0_happens_15 (by decide) ?_
  by_cases c : (x1 - x1 / (7:Int32) * (7:Int32)) = (0:Int32)
  · have h := qi_t c h
    refine lv_tableIn (tgt := 48) (off := 32) hx hb dX0_happens_16 (by rw [c]; decide) (by rw [c]; decide) (by rw [c]; rfl) (by decide) ?_
    refine lv_aload_n hx hb dX0_happens_48 rfl (lv_at hl 1 rfl) ?_
    refine lv_iload_n hx hb dX0_happens_49 rfl (lv_at hl 0 rfl) ?_
    obtain ⟨u4, g5, h⟩ := qb1_s h
    refine d_V (As := [.int x2_2]) (v0 := some (.int u4)) (w0 := (A, rs)) hG E hw hl (m_X0_canCall l hG hC  g5) (qX0 hC) rfl (cwV 1 hts (lw_V q1069 q1071 qs36 q137 q1072) rfl rfl rfl ⟨rfl, kd_X0_canCall⟩ ⟨Nat.le_of_ble_eq_true rfl, Nat.le_of_ble_eq_true rfl⟩) rfl (rest := []) (st1 := [.int u4]) rfl rfl rfl dX0_happens_50 ⟨Nat.le_of_ble_eq_true rfl, Nat.le_of_ble_eq_true rfl⟩ (fun H locs hw => ?_)
    refine lv_if_eq (tgt := 148) hx hb dX0_happens_53 (by decide) (fun c => ?_) (fun c => ?_)
    · have h := qi_t c h
      have h := Option.some.inj h
      have h1 := h
      exact d_ret E hr hw (by rw [h1]) dX0_happens_148
    · have h := qi_f c h
      refine lv_aload_n hx hb dX0_happens_56 rfl (lv_at hl 1 rfl) ?_
      refine r_getX (v := .ref (K.2.1 1)) E hw hC 0 (by decide) q238 rfl dX0_happens_57 ?_
      refine r_getS1 (v := .ref (K.2.1 101)) hG E hw hC 1 (by decide) q193 rfl dX0_happens_60 ?_
      refine lv_iload_n hx hb dX0_happens_63 rfl (lv_at hl 0 rfl) ?_
      obtain ⟨A6, g7, h⟩ := qb1_s h
      refine d_S (As := [.ref (K.2.1 101), .int x2_2]) (v0 := none) (w0 := (A6, rs)) hG E hw hl (m_X0_calls l hG hC (qi_101 hC) g7) (va_cwS 2 hts (lw_S q1081 q1082 q137 q1083) rfl rfl rfl kd_X0_calls ⟨Nat.le_of_ble_eq_true rfl, Nat.le_of_ble_eq_true rfl⟩) rfl (rest := []) (st1 := []) rfl rfl rfl dX0_happens_64 ⟨Nat.le_of_ble_eq_true rfl, Nat.le_of_ble_eq_true rfl⟩ (fun H locs hw => ?_)
      refine lv_goto (tgt := 148) hx hb dX0_happens_67 (by decide) ?_
      have h := Option.some.inj h
      have h1 := h
      exact d_ret E hr hw (by rw [h1]) dX0_happens_148
  · have h := qi_f c h
    have n0 := qne32 c
    by_cases c : (x1 - x1 / (7:Int32) * (7:Int32)) = (1:Int32)
    · have h := qi_t c h
      refine lv_tableIn (tgt := 48) (off := 32) hx hb dX0_happens_16 (by rw [c]; decide) (by rw [c]; decide) (by rw [c]; rfl) (by decide) ?_
      refine lv_aload_n hx hb dX0_happens_48 rfl (lv_at hl 1 rfl) ?_
      refine lv_iload_n hx hb dX0_happens_49 rfl (lv_at hl 0 rfl) ?_
      obtain ⟨u8, g9, h⟩ := qb1_s h
      refine d_V (As := [.int x2_2]) (v0 := some (.int u8)) (w0 := (A, rs)) hG E hw hl (m_X0_canCall l hG hC  g9) (qX0 hC) rfl (cwV 1 hts (lw_V q1069 q1071 qs36 q137 q1072) rfl rfl rfl ⟨rfl, kd_X0_canCall⟩ ⟨Nat.le_of_ble_eq_true rfl, Nat.le_of_ble_eq_true rfl⟩) rfl (rest := []) (st1 := [.int u8]) rfl rfl rfl dX0_happens_50 ⟨Nat.le_of_ble_eq_true rfl, Nat.le_of_ble_eq_true rfl⟩ (fun H locs hw => ?_)
      refine lv_if_eq (tgt := 148) hx hb dX0_happens_53 (by decide) (fun c => ?_) (fun c => ?_)
      · have h := qi_t c h
        have h := Option.some.inj h
        have h1 := h
        exact d_ret E hr hw (by rw [h1]) dX0_happens_148
      · have h := qi_f c h
        refine lv_aload_n hx hb dX0_happens_56 rfl (lv_at hl 1 rfl) ?_
        refine r_getX (v := .ref (K.2.1 1)) E hw hC 0 (by decide) q238 rfl dX0_happens_57 ?_
        refine r_getS1 (v := .ref (K.2.1 101)) hG E hw hC 1 (by decide) q193 rfl dX0_happens_60 ?_
        refine lv_iload_n hx hb dX0_happens_63 rfl (lv_at hl 0 rfl) ?_
        obtain ⟨A10, g11, h⟩ := qb1_s h
        refine d_S (As := [.ref (K.2.1 101), .int x2_2]) (v0 := none) (w0 := (A10, rs)) hG E hw hl (m_X0_calls l hG hC (qi_101 hC) g11) (va_cwS 2 hts (lw_S q1081 q1082 q137 q1083) rfl rfl rfl kd_X0_calls ⟨Nat.le_of_ble_eq_true rfl, Nat.le_of_ble_eq_true rfl⟩) rfl (rest := []) (st1 := []) rfl rfl rfl dX0_happens_64 ⟨Nat.le_of_ble_eq_true rfl, Nat.le_of_ble_eq_true rfl⟩ (fun H locs hw => ?_)
        refine lv_goto (tgt := 148) hx hb dX0_happens_67 (by decide) ?_
        have h := Option.some.inj h
        have h1 := h
        exact d_ret E hr hw (by rw [h1]) dX0_happens_148
    · have h := qi_f c h
      have n1 := qne32 c
      by_cases c : (x1 - x1 / (7:Int32) * (7:Int32)) = (2:Int32)
      · have h := qi_t c h
        refine lv_tableIn (tgt := 70) (off := 54) hx hb dX0_happens_16 (by rw [c]; decide) (by rw [c]; decide) (by rw [c]; rfl) (by decide) ?_
        refine lv_aload_n hx hb dX0_happens_70 rfl (lv_at hl 1 rfl) ?_
        obtain ⟨u12, g13, h⟩ := qb1_s h
        refine d_V (As := []) (v0 := some (.int u12)) (w0 := (A, rs)) hG E hw hl (m_X0_canDelay l hG hC  g13) (qX0 hC) rfl (cwV 0 hts (lw_V q1088 q1090 qs39 q137 q1091) rfl rfl rfl ⟨rfl, kd_X0_canDelay⟩ ⟨Nat.le_of_ble_eq_true rfl, Nat.le_of_ble_eq_true rfl⟩) rfl (rest := []) (st1 := [.int u12]) rfl rfl rfl dX0_happens_71 ⟨Nat.le_of_ble_eq_true rfl, Nat.le_of_ble_eq_true rfl⟩ (fun H locs hw => ?_)
        refine lv_if_eq (tgt := 148) hx hb dX0_happens_74 (by decide) (fun c => ?_) (fun c => ?_)
        · have h := qi_t c h
          have h := Option.some.inj h
          have h1 := h
          exact d_ret E hr hw (by rw [h1]) dX0_happens_148
        · have h := qi_f c h
          refine lv_aload_n hx hb dX0_happens_77 rfl (lv_at hl 1 rfl) ?_
          refine r_getX (v := .ref (K.2.1 1)) E hw hC 0 (by decide) q238 rfl dX0_happens_78 ?_
          refine r_getS1 (v := .ref (K.2.1 101)) hG E hw hC 1 (by decide) q193 rfl dX0_happens_81 ?_
          refine lv_bipush (v := (8:Int32)) hx hb dX0_happens_84 (by decide) ?_
          refine lv_dup2_11 hx hb dX0_happens_86 rfl rfl ?_
          refine r_iald (j := 8) E hw (qi_101 hC).at (q_lit (k := 8) (n := 154) rfl rfl) (q_clamp (k := 8) rfl) dX0_happens_87 ?_
          refine lv_iconst (v := (1:Int32)) hx hb dX0_happens_88 (by decide) ?_
          refine lv_iadd hx hb dX0_happens_89 ?_
          obtain ⟨A14, e15, h⟩ := qlet_s h
          refine r_iastA (j := 8) E hw (qi_101 hC) (q_lit (k := 8) (n := 154) rfl rfl) (q_clamp (k := 8) rfl) dX0_happens_90 (fun H locs hw => ?_)
          rw [← e15] at hw
          refine lv_goto (tgt := 148) hx hb dX0_happens_91 (by decide) ?_
          have h := Option.some.inj h
          have h1 := h
          exact d_ret E hr hw (by rw [h1]) dX0_happens_148
      · have h := qi_f c h
        have n2 := qne32 c
        by_cases c : (x1 - x1 / (7:Int32) * (7:Int32)) = (3:Int32)
        · have h := qi_t c h
          refine lv_tableIn (tgt := 94) (off := 78) hx hb dX0_happens_16 (by rw [c]; decide) (by rw [c]; decide) (by rw [c]; rfl) (by decide) ?_
          refine lv_aload_n hx hb dX0_happens_94 rfl (lv_at hl 1 rfl) ?_
          refine lv_iload_n hx hb dX0_happens_95 rfl (lv_at hl 0 rfl) ?_
          obtain ⟨u16, g17, h⟩ := qb1_s h
          refine d_V (As := [.int x2_2]) (v0 := some (.int u16)) (w0 := (A, rs)) hG E hw hl (m_X0_canAppeal l hG hC  g17) (qX0 hC) rfl (cwV 1 hts (lw_V q1096 q1098 qs40 q137 q1099) rfl rfl rfl ⟨rfl, kd_X0_canAppeal⟩ ⟨Nat.le_of_ble_eq_true rfl, Nat.le_of_ble_eq_true rfl⟩) rfl (rest := []) (st1 := [.int u16]) rfl rfl rfl dX0_happens_96 ⟨Nat.le_of_ble_eq_true rfl, Nat.le_of_ble_eq_true rfl⟩ (fun H locs hw => ?_)
          refine lv_if_eq (tgt := 148) hx hb dX0_happens_99 (by decide) (fun c => ?_) (fun c => ?_)
          · have h := qi_t c h
            have h := Option.some.inj h
            have h1 := h
            exact d_ret E hr hw (by rw [h1]) dX0_happens_148
          · have h := qi_f c h
            refine lv_aload_n hx hb dX0_happens_102 rfl (lv_at hl 1 rfl) ?_
            refine lv_iload_n hx hb dX0_happens_103 rfl (lv_at hl 0 rfl) ?_
            obtain ⟨A18, g19, h⟩ := qb1_s h
            refine d_V (As := [.int x2_2]) (v0 := none) (w0 := (A18, rs)) hG E hw hl (m_X0_appeals l hG hC  g19) (qX0 hC) rfl (cwV 1 hts (lw_V q1100 q1102 qs41 q137 q1103) rfl rfl rfl ⟨rfl, kd_X0_appeals⟩ ⟨Nat.le_of_ble_eq_true rfl, Nat.le_of_ble_eq_true rfl⟩) rfl (rest := []) (st1 := []) rfl rfl rfl dX0_happens_104 ⟨Nat.le_of_ble_eq_true rfl, Nat.le_of_ble_eq_true rfl⟩ (fun H locs hw => ?_)
            refine lv_goto (tgt := 148) hx hb dX0_happens_107 (by decide) ?_
            have h := Option.some.inj h
            have h1 := h
            exact d_ret E hr hw (by rw [h1]) dX0_happens_148
        · have h := qi_f c h
          have n3 := qne32 c
          refine lv_tableOut (tgt := 110) hx hb dX0_happens_16 (by have m0 : ((x1 - x1 / (7:Int32) * (7:Int32))).toInt ≠ 0 := n0; have m1 : ((x1 - x1 / (7:Int32) * (7:Int32))).toInt ≠ 1 := n1; have m2 : ((x1 - x1 / (7:Int32) * (7:Int32))).toInt ≠ 2 := n2; have m3 : ((x1 - x1 / (7:Int32) * (7:Int32))).toInt ≠ 3 := n3; omega) (by decide) ?_
          refine lv_aload_n hx hb dX0_happens_110 rfl (lv_at hl 1 rfl) ?_
          refine r_getX (v := .ref (K.2.1 1)) E hw hC 0 (by decide) q238 rfl dX0_happens_111 ?_
          refine r_getS1 (v := .ref (K.2.1 101)) hG E hw hC 1 (by decide) q193 rfl dX0_happens_114 ?_
          refine lv_iconst (v := (3:Int32)) hx hb dX0_happens_117 (by decide) ?_
          refine r_iald (j := 3) E hw (qi_101 hC).at (q_lit (k := 3) (n := 154) rfl rfl) (q_clamp (k := 3) rfl) dX0_happens_118 ?_
          refine lv_sipush (v := (9999:Int32)) hx hb dX0_happens_119 (by decide) ?_
          refine lv_icmp_ge (tgt := 143) hx hb dX0_happens_122 (by decide) (fun c => ?_) (fun c => ?_)
          · have h := qi_t c h
            refine lv_iconst (v := (0:Int32)) hx hb dX0_happens_143 (by decide) ?_
            refine lv_istore_n (lv' := [(3, .int (0:Int32)), (2, .int x2_2), (0, .ref (K.2.1 0)), (1, .int x1)]) hx hb dX0_happens_144 rfl hl (by decide) rfl (fun ls hl => ?_)
            refine lv_goto (tgt := 148) hx hb dX0_happens_145 (by decide) ?_
            have h := Option.some.inj h
            have h1 := h
            exact d_ret E hr hw (by rw [h1]) dX0_happens_148
          · have h := qi_f c h
            refine lv_aload_n hx hb dX0_happens_125 rfl (lv_at hl 1 rfl) ?_
            refine lv_aload_n hx hb dX0_happens_126 rfl (lv_at hl 1 rfl) ?_
            refine r_getX (v := .ref (K.2.1 1)) E hw hC 0 (by decide) q238 rfl dX0_happens_127 ?_
            refine r_getS1 (v := .ref (K.2.1 101)) hG E hw hC 1 (by decide) q193 rfl dX0_happens_130 ?_
            obtain ⟨u20, A21, g22, h⟩ := qb2_s h
            refine d_V (As := [.ref (K.2.1 101)]) (v0 := some (.int u20)) (w0 := (A21, rs)) hG E hw hl (m_X0_passes l hG hC hT (qi_101 hC) g22) (qX0 hC) rfl (cwV 1 hts (lw_V q895 q897 qs27 q137 q898) rfl rfl rfl ⟨rfl, kd_X0_passes⟩ ⟨Nat.le_of_ble_eq_true rfl, Nat.le_of_ble_eq_true rfl⟩) rfl (rest := []) (st1 := [.int u20]) rfl rfl rfl dX0_happens_133 ⟨Nat.le_of_ble_eq_true rfl, Nat.le_of_ble_eq_true rfl⟩ (fun H locs hw => ?_)
            refine lv_if_eq (tgt := 143) hx hb dX0_happens_136 (by decide) (fun c => ?_) (fun c => ?_)
            · have h := qi_t c h
              refine lv_iconst (v := (0:Int32)) hx hb dX0_happens_143 (by decide) ?_
              refine lv_istore_n (lv' := [(3, .int (0:Int32)), (2, .int x2_2), (0, .ref (K.2.1 0)), (1, .int x1)]) hx hb dX0_happens_144 rfl hl (by decide) rfl (fun ls hl => ?_)
              refine lv_goto (tgt := 148) hx hb dX0_happens_145 (by decide) ?_
              have h := Option.some.inj h
              have h1 := h
              exact d_ret E hr hw (by rw [h1]) dX0_happens_148
            · have h := qi_f c h
              refine lv_iconst (v := (1:Int32)) hx hb dX0_happens_139 (by decide) ?_
              refine lv_goto (tgt := 144) hx hb dX0_happens_140 (by decide) ?_
              refine lv_istore_n (lv' := [(3, .int (1:Int32)), (2, .int x2_2), (0, .ref (K.2.1 0)), (1, .int x1)]) hx hb dX0_happens_144 rfl hl (by decide) rfl (fun ls hl => ?_)
              refine lv_goto (tgt := 148) hx hb dX0_happens_145 (by decide) ?_
              have h := Option.some.inj h
              have h1 := h
              exact d_ret E hr hw (by rw [h1]) dX0_happens_148

theorem m_X0_happens (l : Launch) {K : QK} {G : State → Prop} (hG : QG G) (hC : QCl K) {rs : QA × QL × QX × QM} {T : Int32 → Option QT} {ta : Int32 → Nat} (hT : QTx K G rs.2.2.1 rs.2.2.2 T ta) {x1 : Int32} {A : QA} {Ao : QA} (h : f_X0_happens T x1 A = some Ao) : MC l K G yX0_happens (ws_ yX0_happens cX0_happens 4 none) 71 4134 0 0 [.ref (K.2.1 0), .int x1] (A, rs) (QR none (Ao, rs)) := by
  refine MC.of (by decide) (Nat.le_of_ble_eq_true rfl) (lv := [(0, .ref (K.2.1 0)), (1, .int x1)]) rfl (fun p e s m below meth c ls E hr hl hw => ?_)
  exact w_X0_happens_0 hG hC hT E hr _ _  h hw hl

def f_X0_decades_59 (T : Int32 → Option QT) : Nat → Int32 → Int32 → QA → Option (Int32 × QA)
  | 0, _, _, _ => none
  | n + 1, x2, x3, A => if x2 ≤ x3 then (
  some ((A 101 3), A)) else (
  qlet (A 101 4) fun x4_9 =>
  qb1 (f_X0_draws 101 A) fun A11 =>
  qb1 (f_X0_happens T x4_9 A11) fun A13 =>
  qlet (x3 + (1:Int32)) fun x3_15 =>
  f_X0_decades_59 T n x2 x3_15 A13)
set_option maxHeartbeats 4000000 in
theorem w_X0_decades_59 {p : Program} {l : Launch} {e : Env} {s : State} {m : MethodId} {args : Array Value} {below : List Frame} {meth : Method} {c : Code} {K : QK} {G : State → Prop} {rs : QA × QL × QX × QM} {ro : Int32} {Ao : QA} (hG : QG G) (hC : QCl K) {T : Int32 → Option QT} {ta : Int32 → Nat} (hT : QTx K G rs.2.2.1 rs.2.2.2 T ta) (E : EV K G p s m args meth c cX0_decades "VaneCourt" 5) (hr : meth.sig.returnType = (some .int)) : ∀ (n : Nat) (x2 : Int32) (x3 : Int32) (A : QA) {H : Heap} {locs : List Loc} {ls : Array Slot}, f_X0_decades_59 T n x2 x3 A = some (ro, Ao) → WP K (A, rs) H locs → lv_has ls 5 [(0, .ref (K.2.1 0)), (2, .int x2), (3, .int x3)] → W p l e (qrm 72 4157 0 0) s m args below meth c H locs 0 0 (MQ below (QE K (QR (some (.int ro)) (Ao, rs))) args s 0 0 (qA K)) (F0 m 59 ls []) := by
  have hx := E.1
  have hb := E.2.1
  have hown := E.2.2.1
  have hts := E.2.2.2.2.1
  intro n
  induction n with
  | zero =>
    intro x2 x3 A H locs ls  h hw hl
    cases h
  | succ n ih =>
    intro x2 x3 A H locs ls  h hw hl
    rw [f_X0_decades_59] at h
    refine lv_iload_n hx hb dX0_decades_59 rfl (lv_at hl 2 rfl) ?_
    refine lv_iload_n hx hb dX0_decades_60 rfl (lv_at hl 1 rfl) ?_
    refine lv_icmp_ge (tgt := 97) hx hb dX0_decades_61 (by decide) (fun c => ?_) (fun c => ?_)
    · have h := qi_t c h
      refine lv_aload_n hx hb dX0_decades_97 rfl (lv_at hl 0 rfl) ?_
      refine r_getX (v := .ref (K.2.1 1)) E hw hC 0 (by decide) q238 rfl dX0_decades_98 ?_
      refine r_getS1 (v := .ref (K.2.1 101)) hG E hw hC 1 (by decide) q193 rfl dX0_decades_101 ?_
      refine lv_iconst (v := (3:Int32)) hx hb dX0_decades_104 (by decide) ?_
      refine r_iald (j := 3) E hw (qi_101 hC).at (q_lit (k := 3) (n := 154) rfl rfl) (q_clamp (k := 3) rfl) dX0_decades_105 ?_
      have h := Option.some.inj h
      obtain ⟨h1, h2⟩ := Prod.mk.inj h
      exact d_iret E hr rfl hw h1 (by rw [h2]) dX0_decades_106
    · have h := qi_f c h
      refine lv_aload_n hx hb dX0_decades_64 rfl (lv_at hl 0 rfl) ?_
      refine r_getX (v := .ref (K.2.1 1)) E hw hC 0 (by decide) q238 rfl dX0_decades_65 ?_
      refine r_getS1 (v := .ref (K.2.1 101)) hG E hw hC 1 (by decide) q193 rfl dX0_decades_68 ?_
      refine lv_iconst (v := (4:Int32)) hx hb dX0_decades_71 (by decide) ?_
      refine r_iald (j := 4) E hw (qi_101 hC).at (q_lit (k := 4) (n := 154) rfl rfl) (q_clamp (k := 4) rfl) dX0_decades_72 ?_
      obtain ⟨x4_9, e10, h⟩ := qlet_s h
      refine r_nm e10 ?_
      refine lv_istore (lv' := [(4, .int x4_9), (0, .ref (K.2.1 0)), (2, .int x2), (3, .int x3)]) hx hb dX0_decades_73 hl (by decide) rfl (fun ls hl => ?_)
      refine lv_aload_n hx hb dX0_decades_75 rfl (lv_at hl 1 rfl) ?_
      refine r_getX (v := .ref (K.2.1 1)) E hw hC 0 (by decide) q238 rfl dX0_decades_76 ?_
      refine r_getS1 (v := .ref (K.2.1 101)) hG E hw hC 1 (by decide) q193 rfl dX0_decades_79 ?_
      obtain ⟨A11, g12, h⟩ := qb1_s h
      refine d_S (As := [.ref (K.2.1 101)]) (v0 := none) (w0 := (A11, rs)) hG E hw hl (m_X0_draws l hG hC (qi_101 hC) g12) (va_cwS 1 hts (lw_S q1058 q1059 q137 q1060) rfl rfl rfl kd_X0_draws ⟨Nat.le_of_ble_eq_true rfl, Nat.le_of_ble_eq_true rfl⟩) rfl (rest := []) (st1 := []) rfl rfl rfl dX0_decades_82 ⟨Nat.le_of_ble_eq_true rfl, Nat.le_of_ble_eq_true rfl⟩ (fun H locs hw => ?_)
      refine lv_aload_n hx hb dX0_decades_85 rfl (lv_at hl 1 rfl) ?_
      refine lv_iload hx hb dX0_decades_86 (lv_at hl 0 rfl) ?_
      obtain ⟨A13, g14, h⟩ := qb1_s h
      refine d_V (As := [.int x4_9]) (v0 := none) (w0 := (A13, rs)) hG E hw hl (m_X0_happens l hG hC hT  g14) (qX0 hC) rfl (cwV 1 hts (lw_V q1161 q1163 qs44 q137 q1164) rfl rfl rfl ⟨rfl, kd_X0_happens⟩ ⟨Nat.le_of_ble_eq_true rfl, Nat.le_of_ble_eq_true rfl⟩) rfl (rest := []) (st1 := []) rfl rfl rfl dX0_decades_88 ⟨Nat.le_of_ble_eq_true rfl, Nat.le_of_ble_eq_true rfl⟩ (fun H locs hw => ?_)
      obtain ⟨x3_15, e16, h⟩ := qlet_s h
      refine lv_iinc (v := x3_15) (lv' := [(3, .int x3_15), (4, .int x4_9), (0, .ref (K.2.1 0)), (2, .int x2)]) (k := 3) hx hb dX0_decades_91 hl rfl (by rw [e16]; rfl) (by decide) rfl (fun ls hl => ?_)
      refine lv_goto (tgt := 59) hx hb dX0_decades_94 (by decide) ?_
      exact ih _ _ _  h hw (lv_sub hl [2, 3, 0] rfl)

def f_X0_decades (T : Int32 → Option QT) (x1 : Int32) (x2 : Int32) (A : QA) : Option (Int32 × QA) :=
  qb1 (f_X0_in x1 (0:Int32) (9999:Int32)) fun u1 =>
  if u1 = (0:Int32) then (
  some ((-1:Int32), A)) else (
  qb1 (f_X0_in x2 (1:Int32) (40:Int32)) fun u3 =>
  if u3 = (0:Int32) then (
  some ((-1:Int32), A)) else (
  if (A 100 0) = (0:Int32) then (
  some ((-1:Int32), A)) else (
  qb1 (f_X1_keeps A) fun A5 =>
  qlet (qu A5 101 4 ((x1 * (2:Int32)) + (107:Int32))) fun A7 =>
  f_X0_decades_59 T FU x2 (0:Int32) A7)))
set_option maxHeartbeats 4000000 in
theorem w_X0_decades_0 {p : Program} {l : Launch} {e : Env} {s : State} {m : MethodId} {args : Array Value} {below : List Frame} {meth : Method} {c : Code} {K : QK} {G : State → Prop} {rs : QA × QL × QX × QM} {ro : Int32} {Ao : QA} (hG : QG G) (hC : QCl K) {T : Int32 → Option QT} {ta : Int32 → Nat} (hT : QTx K G rs.2.2.1 rs.2.2.2 T ta) (E : EV K G p s m args meth c cX0_decades "VaneCourt" 5) (hr : meth.sig.returnType = (some .int)) : ∀ (x1 : Int32) (x2 : Int32) (A : QA) {H : Heap} {locs : List Loc} {ls : Array Slot}, f_X0_decades T x1 x2 A = some (ro, Ao) → WP K (A, rs) H locs → lv_has ls 5 [(0, .ref (K.2.1 0)), (1, .int x1), (2, .int x2)] → W p l e (qrm 72 4157 0 0) s m args below meth c H locs 0 0 (MQ below (QE K (QR (some (.int ro)) (Ao, rs))) args s 0 0 (qA K)) (F0 m 0 ls []) := by
  have hx := E.1
  have hb := E.2.1
  have hown := E.2.2.1
  have hts := E.2.2.2.2.1
  intro x1 x2 A H locs ls  h hw hl
  rw [f_X0_decades] at h
  refine lv_iload_n hx hb dX0_decades_0 rfl (lv_at hl 1 rfl) ?_
  refine lv_iconst (v := (0:Int32)) hx hb dX0_decades_1 (by decide) ?_
  refine lv_sipush (v := (9999:Int32)) hx hb dX0_decades_2 (by decide) ?_
  obtain ⟨u1, g2, h⟩ := qb1_s h
  refine d_S (As := [.int x1, .int (0:Int32), .int (9999:Int32)]) (v0 := some (.int u1)) (w0 := (A, rs)) hG E hw hl (m_X0_in l hG hC  g2) (va_cwS 3 hts (lw_S q283 q284 q137 q285) rfl rfl rfl kd_X0_in ⟨Nat.le_of_ble_eq_true rfl, Nat.le_of_ble_eq_true rfl⟩) rfl (rest := []) (st1 := [.int u1]) rfl rfl rfl dX0_decades_5 ⟨Nat.le_of_ble_eq_true rfl, Nat.le_of_ble_eq_true rfl⟩ (fun H locs hw => ?_)
  refine lv_if_eq (tgt := 33) hx hb dX0_decades_8 (by decide) (fun c => ?_) (fun c => ?_)
  · have h := qi_t c h
    refine lv_iconst (v := (-1:Int32)) hx hb dX0_decades_33 (by decide) ?_
    have h := Option.some.inj h
    obtain ⟨h1, h2⟩ := Prod.mk.inj h
    exact d_iret E hr rfl hw h1 (by rw [h2]) dX0_decades_34
  · have h := qi_f c h
    refine lv_iload_n hx hb dX0_decades_11 rfl (lv_at hl 2 rfl) ?_
    refine lv_iconst (v := (1:Int32)) hx hb dX0_decades_12 (by decide) ?_
    refine lv_bipush (v := (40:Int32)) hx hb dX0_decades_13 (by decide) ?_
    obtain ⟨u3, g4, h⟩ := qb1_s h
    refine d_S (As := [.int x2, .int (1:Int32), .int (40:Int32)]) (v0 := some (.int u3)) (w0 := (A, rs)) hG E hw hl (m_X0_in l hG hC  g4) (va_cwS 3 hts (lw_S q283 q284 q137 q285) rfl rfl rfl kd_X0_in ⟨Nat.le_of_ble_eq_true rfl, Nat.le_of_ble_eq_true rfl⟩) rfl (rest := []) (st1 := [.int u3]) rfl rfl rfl dX0_decades_15 ⟨Nat.le_of_ble_eq_true rfl, Nat.le_of_ble_eq_true rfl⟩ (fun H locs hw => ?_)
    refine lv_if_eq (tgt := 33) hx hb dX0_decades_18 (by decide) (fun c => ?_) (fun c => ?_)
    · have h := qi_t c h
      refine lv_iconst (v := (-1:Int32)) hx hb dX0_decades_33 (by decide) ?_
      have h := Option.some.inj h
      obtain ⟨h1, h2⟩ := Prod.mk.inj h
      exact d_iret E hr rfl hw h1 (by rw [h2]) dX0_decades_34
    · have h := qi_f c h
      refine lv_aload_n hx hb dX0_decades_21 rfl (lv_at hl 0 rfl) ?_
      refine r_getX (v := .ref (K.2.1 1)) E hw hC 0 (by decide) q238 rfl dX0_decades_22 ?_
      refine r_getS1 (v := .ref (K.2.1 100)) hG E hw hC 0 (by decide) q191 rfl dX0_decades_25 ?_
      refine lv_iconst (v := (0:Int32)) hx hb dX0_decades_28 (by decide) ?_
      refine r_iald (j := 0) E hw (qi_100 hC).at (q_lit (k := 0) (n := 7) rfl rfl) (q_clamp (k := 0) rfl) dX0_decades_29 ?_
      refine lv_if_ne (tgt := 35) hx hb dX0_decades_30 (by decide) (fun c => ?_) (fun c => ?_)
      · have h := qi_f c h
        refine lv_aload_n hx hb dX0_decades_35 rfl (lv_at hl 0 rfl) ?_
        refine r_getX (v := .ref (K.2.1 1)) E hw hC 0 (by decide) q238 rfl dX0_decades_36 ?_
        obtain ⟨A5, g6, h⟩ := qb1_s h
        refine d_V (As := []) (v0 := none) (w0 := (A5, rs)) hG E hw hl (m_X1_keeps l hG hC  g6) (qS1 hC) rfl (cwV 0 hts (lw_V q891 q892 q893 q138 q894) rfl rfl rfl ⟨rfl, kd_X1_keeps⟩ ⟨Nat.le_of_ble_eq_true rfl, Nat.le_of_ble_eq_true rfl⟩) rfl (rest := []) (st1 := []) rfl rfl rfl dX0_decades_39 ⟨Nat.le_of_ble_eq_true rfl, Nat.le_of_ble_eq_true rfl⟩ (fun H locs hw => ?_)
        refine lv_aload_n hx hb dX0_decades_42 rfl (lv_at hl 0 rfl) ?_
        refine r_getX (v := .ref (K.2.1 1)) E hw hC 0 (by decide) q238 rfl dX0_decades_43 ?_
        refine r_getS1 (v := .ref (K.2.1 101)) hG E hw hC 1 (by decide) q193 rfl dX0_decades_46 ?_
        refine lv_iconst (v := (4:Int32)) hx hb dX0_decades_49 (by decide) ?_
        refine lv_iload_n hx hb dX0_decades_50 rfl (lv_at hl 1 rfl) ?_
        refine lv_iconst (v := (2:Int32)) hx hb dX0_decades_51 (by decide) ?_
        refine lv_imul hx hb dX0_decades_52 ?_
        refine lv_bipush (v := (107:Int32)) hx hb dX0_decades_53 (by decide) ?_
        refine lv_iadd hx hb dX0_decades_55 ?_
        obtain ⟨A7, e8, h⟩ := qlet_s h
        refine r_iastA (j := 4) E hw (qi_101 hC) (q_lit (k := 4) (n := 154) rfl rfl) (q_clamp (k := 4) rfl) dX0_decades_56 (fun H locs hw => ?_)
        rw [← e8] at hw
        refine lv_iconst (v := (0:Int32)) hx hb dX0_decades_57 (by decide) ?_
        refine lv_istore_n (lv' := [(3, .int (0:Int32)), (0, .ref (K.2.1 0)), (1, .int x1), (2, .int x2)]) hx hb dX0_decades_58 rfl hl (by decide) rfl (fun ls hl => ?_)
        exact w_X0_decades_59 hG hC hT E hr  _ _ _ _   h hw (lv_sub hl [1, 3, 0] rfl)
      · have h := qi_t c h
        refine lv_iconst (v := (-1:Int32)) hx hb dX0_decades_33 (by decide) ?_
        have h := Option.some.inj h
        obtain ⟨h1, h2⟩ := Prod.mk.inj h
        exact d_iret E hr rfl hw h1 (by rw [h2]) dX0_decades_34

theorem m_X0_decades (l : Launch) {K : QK} {G : State → Prop} (hG : QG G) (hC : QCl K) {rs : QA × QL × QX × QM} {T : Int32 → Option QT} {ta : Int32 → Nat} (hT : QTx K G rs.2.2.1 rs.2.2.2 T ta) {x1 : Int32} {x2 : Int32} {A : QA} {ro : Int32} {Ao : QA} (h : f_X0_decades T x1 x2 A = some (ro, Ao)) : MC l K G yX0_decades (ws_ yX0_decades cX0_decades 5 (some .int)) 72 4157 0 0 [.ref (K.2.1 0), .int x1, .int x2] (A, rs) (QR (some (.int ro)) (Ao, rs)) := by
  refine MC.of (by decide) (Nat.le_of_ble_eq_true rfl) (lv := [(0, .ref (K.2.1 0)), (1, .int x1), (2, .int x2)]) rfl (fun p e s m below meth c ls E hr hl hw => ?_)
  exact w_X0_decades_0 hG hC hT E hr _ _ _  h hw hl

def f_X0_goes_2 (T : Int32 → Option QT) : Nat → Int32 → Int32 → QA → Option (Int32 × QA)
  | 0, _, _, _ => none
  | n + 1, x1, x2, A => if x1 ≤ x2 then (
  some ((1:Int32), A)) else (
  if (A 5 3) = (9999:Int32) then (
  some ((0:Int32), A)) else (
  qb2 (f_X0_passes T 5 A) fun u1 A2 =>
  qlet (x2 + (1:Int32)) fun x2_4 =>
  f_X0_goes_2 T n x1 x2_4 A2))
set_option maxHeartbeats 4000000 in
theorem w_X0_goes_2 {p : Program} {l : Launch} {e : Env} {s : State} {m : MethodId} {args : Array Value} {below : List Frame} {meth : Method} {c : Code} {K : QK} {G : State → Prop} {rs : QA × QL × QX × QM} {ro : Int32} {Ao : QA} (hG : QG G) (hC : QCl K) {T : Int32 → Option QT} {ta : Int32 → Nat} (hT : QTx K G rs.2.2.1 rs.2.2.2 T ta) (E : EV K G p s m args meth c cX0_goes "VaneCourt" 4) (hr : meth.sig.returnType = (some .boolean)) : ∀ (n : Nat) (x1 : Int32) (x2 : Int32) (A : QA) {H : Heap} {locs : List Loc} {ls : Array Slot}, f_X0_goes_2 T n x1 x2 A = some (ro, Ao) → WP K (A, rs) H locs → lv_has ls 4 [(0, .ref (K.2.1 0)), (1, .int x1), (2, .int x2)] → W p l e (qrm 71 4134 0 0) s m args below meth c H locs 0 0 (MQ below (QE K (QR (some (.int ro)) (Ao, rs))) args s 0 0 (qA K)) (F0 m 2 ls []) := by
  have hx := E.1
  have hb := E.2.1
  have hown := E.2.2.1
  have hts := E.2.2.2.2.1
  intro n
  induction n with
  | zero =>
    intro x1 x2 A H locs ls  h hw hl
    cases h
  | succ n ih =>
    intro x1 x2 A H locs ls  h hw hl
    rw [f_X0_goes_2] at h
    refine lv_iload_n hx hb dX0_goes_2 rfl (lv_at hl 2 rfl) ?_
    refine lv_iload_n hx hb dX0_goes_3 rfl (lv_at hl 1 rfl) ?_
    refine lv_icmp_ge (tgt := 36) hx hb dX0_goes_4 (by decide) (fun c => ?_) (fun c => ?_)
    · have h := qi_t c h
      refine lv_iconst (v := (1:Int32)) hx hb dX0_goes_36 (by decide) ?_
      have h := Option.some.inj h
      obtain ⟨h1, h2⟩ := Prod.mk.inj h
      exact d_iret E hr rfl hw h1 (by rw [h2]) dX0_goes_37
    · have h := qi_f c h
      refine lv_aload_n hx hb dX0_goes_7 rfl (lv_at hl 0 rfl) ?_
      refine r_getX (v := .ref (K.2.1 5)) E hw hC 7 (by decide) q245 rfl dX0_goes_8 ?_
      refine lv_iconst (v := (3:Int32)) hx hb dX0_goes_11 (by decide) ?_
      refine r_iald (j := 3) E hw (qi_5 hC).at (q_lit (k := 3) (n := 154) rfl rfl) (q_clamp (k := 3) rfl) dX0_goes_12 ?_
      refine lv_sipush (v := (9999:Int32)) hx hb dX0_goes_13 (by decide) ?_
      refine lv_icmp_ne (tgt := 21) hx hb dX0_goes_16 (by decide) (fun c => ?_) (fun c => ?_)
      · have h := qi_f c h
        refine lv_aload_n hx hb dX0_goes_21 rfl (lv_at hl 0 rfl) ?_
        refine lv_aload_n hx hb dX0_goes_22 rfl (lv_at hl 0 rfl) ?_
        refine r_getX (v := .ref (K.2.1 5)) E hw hC 7 (by decide) q245 rfl dX0_goes_23 ?_
        obtain ⟨u1, A2, g3, h⟩ := qb2_s h
        refine d_V (As := [.ref (K.2.1 5)]) (v0 := some (.int u1)) (w0 := (A2, rs)) hG E hw hl (m_X0_passes l hG hC hT (qi_5 hC) g3) (qX0 hC) rfl (cwV 1 hts (lw_V q895 q897 qs27 q137 q898) rfl rfl rfl ⟨rfl, kd_X0_passes⟩ ⟨Nat.le_of_ble_eq_true rfl, Nat.le_of_ble_eq_true rfl⟩) rfl (rest := []) (st1 := [.int u1]) rfl rfl rfl dX0_goes_26 ⟨Nat.le_of_ble_eq_true rfl, Nat.le_of_ble_eq_true rfl⟩ (fun H locs hw => ?_)
        refine lv_istore_n (lv' := [(3, .int u1), (0, .ref (K.2.1 0)), (1, .int x1), (2, .int x2)]) hx hb dX0_goes_29 rfl hl (by decide) rfl (fun ls hl => ?_)
        obtain ⟨x2_4, e5, h⟩ := qlet_s h
        refine lv_iinc (v := x2_4) (lv' := [(2, .int x2_4), (3, .int u1), (0, .ref (K.2.1 0)), (1, .int x1)]) (k := 3) hx hb dX0_goes_30 hl rfl (by rw [e5]; rfl) (by decide) rfl (fun ls hl => ?_)
        refine lv_goto (tgt := 2) hx hb dX0_goes_33 (by decide) ?_
        exact ih _ _ _  h hw (lv_sub hl [2, 3, 0] rfl)
      · have h := qi_t c h
        refine lv_iconst (v := (0:Int32)) hx hb dX0_goes_19 (by decide) ?_
        have h := Option.some.inj h
        obtain ⟨h1, h2⟩ := Prod.mk.inj h
        exact d_iret E hr rfl hw h1 (by rw [h2]) dX0_goes_20

def f_X0_goes (T : Int32 → Option QT) (x1 : Int32) (A : QA) : Option (Int32 × QA) :=
  f_X0_goes_2 T FU x1 (0:Int32) A
set_option maxHeartbeats 4000000 in
theorem w_X0_goes_0 {p : Program} {l : Launch} {e : Env} {s : State} {m : MethodId} {args : Array Value} {below : List Frame} {meth : Method} {c : Code} {K : QK} {G : State → Prop} {rs : QA × QL × QX × QM} {ro : Int32} {Ao : QA} (hG : QG G) (hC : QCl K) {T : Int32 → Option QT} {ta : Int32 → Nat} (hT : QTx K G rs.2.2.1 rs.2.2.2 T ta) (E : EV K G p s m args meth c cX0_goes "VaneCourt" 4) (hr : meth.sig.returnType = (some .boolean)) : ∀ (x1 : Int32) (A : QA) {H : Heap} {locs : List Loc} {ls : Array Slot}, f_X0_goes T x1 A = some (ro, Ao) → WP K (A, rs) H locs → lv_has ls 4 [(0, .ref (K.2.1 0)), (1, .int x1)] → W p l e (qrm 71 4134 0 0) s m args below meth c H locs 0 0 (MQ below (QE K (QR (some (.int ro)) (Ao, rs))) args s 0 0 (qA K)) (F0 m 0 ls []) := by
  have hx := E.1
  have hb := E.2.1
  have hown := E.2.2.1
  have hts := E.2.2.2.2.1
  intro x1 A H locs ls  h hw hl
  rw [f_X0_goes] at h
  refine lv_iconst (v := (0:Int32)) hx hb dX0_goes_0 (by decide) ?_
  refine lv_istore_n (lv' := [(2, .int (0:Int32)), (0, .ref (K.2.1 0)), (1, .int x1)]) hx hb dX0_goes_1 rfl hl (by decide) rfl (fun ls hl => ?_)
  exact w_X0_goes_2 hG hC hT E hr  _ _ _ _   h hw (lv_sub hl [1, 2, 0] rfl)

theorem m_X0_goes (l : Launch) {K : QK} {G : State → Prop} (hG : QG G) (hC : QCl K) {rs : QA × QL × QX × QM} {T : Int32 → Option QT} {ta : Int32 → Nat} (hT : QTx K G rs.2.2.1 rs.2.2.2 T ta) {x1 : Int32} {A : QA} {ro : Int32} {Ao : QA} (h : f_X0_goes T x1 A = some (ro, Ao)) : MC l K G yX0_goes (ws_ yX0_goes cX0_goes 4 (some .boolean)) 71 4134 0 0 [.ref (K.2.1 0), .int x1] (A, rs) (QR (some (.int ro)) (Ao, rs)) := by
  refine MC.of (by decide) (Nat.le_of_ble_eq_true rfl) (lv := [(0, .ref (K.2.1 0)), (1, .int x1)]) rfl (fun p e s m below meth c ls E hr hl hw => ?_)
  exact w_X0_goes_0 hG hC hT E hr _ _  h hw hl

def f_X0_foretold (T : Int32 → Option QT) (x1 : Int32) (x2 : Int32) (A : QA) : Option (Int32 × QA) :=
  qb1 (f_X0_in x1 (1:Int32) (60:Int32)) fun u1 =>
  if u1 = (0:Int32) then (
  some ((-1:Int32), A)) else (
  qb1 (f_X0_in x2 (0:Int32) (2:Int32)) fun u3 =>
  if u3 = (0:Int32) then (
  some ((-1:Int32), A)) else (
  qlet (qset A 5 (va_cpy (A 101) (A 5) 0 0 154)) fun A5 =>
  qb2 (f_X0_goes T x1 A5) fun u7 A8 =>
  qif (qok x2 154) <|
  some ((A8 5 x2.toNatClampNeg), A8)))
set_option maxHeartbeats 4000000 in
theorem w_X0_foretold_0 {p : Program} {l : Launch} {e : Env} {s : State} {m : MethodId} {args : Array Value} {below : List Frame} {meth : Method} {c : Code} {K : QK} {G : State → Prop} {rs : QA × QL × QX × QM} {ro : Int32} {Ao : QA} (hG : QG G) (hC : QCl K) {T : Int32 → Option QT} {ta : Int32 → Nat} (hT : QTx K G rs.2.2.1 rs.2.2.2 T ta) (E : EV K G p s m args meth c cX0_foretold "VaneCourt" 4) (hr : meth.sig.returnType = (some .int)) : ∀ (x1 : Int32) (x2 : Int32) (A : QA) {H : Heap} {locs : List Loc} {ls : Array Slot}, f_X0_foretold T x1 x2 A = some (ro, Ao) → WP K (A, rs) H locs → lv_has ls 4 [(0, .ref (K.2.1 0)), (1, .int x1), (2, .int x2)] → W p l e (qrm 72 4157 0 0) s m args below meth c H locs 0 0 (MQ below (QE K (QR (some (.int ro)) (Ao, rs))) args s 0 0 (qA K)) (F0 m 0 ls []) := by
  have hx := E.1
  have hb := E.2.1
  have hown := E.2.2.1
  have hts := E.2.2.2.2.1
  intro x1 x2 A H locs ls  h hw hl
  rw [f_X0_foretold] at h
  refine lv_iload_n hx hb dX0_foretold_0 rfl (lv_at hl 1 rfl) ?_
  refine lv_iconst (v := (1:Int32)) hx hb dX0_foretold_1 (by decide) ?_
  refine lv_bipush (v := (60:Int32)) hx hb dX0_foretold_2 (by decide) ?_
  obtain ⟨u1, g2, h⟩ := qb1_s h
  refine d_S (As := [.int x1, .int (1:Int32), .int (60:Int32)]) (v0 := some (.int u1)) (w0 := (A, rs)) hG E hw hl (m_X0_in l hG hC  g2) (va_cwS 3 hts (lw_S q283 q284 q137 q285) rfl rfl rfl kd_X0_in ⟨Nat.le_of_ble_eq_true rfl, Nat.le_of_ble_eq_true rfl⟩) rfl (rest := []) (st1 := [.int u1]) rfl rfl rfl dX0_foretold_4 ⟨Nat.le_of_ble_eq_true rfl, Nat.le_of_ble_eq_true rfl⟩ (fun H locs hw => ?_)
  refine lv_if_eq (tgt := 19) hx hb dX0_foretold_7 (by decide) (fun c => ?_) (fun c => ?_)
  · have h := qi_t c h
    refine lv_iconst (v := (-1:Int32)) hx hb dX0_foretold_19 (by decide) ?_
    have h := Option.some.inj h
    obtain ⟨h1, h2⟩ := Prod.mk.inj h
    exact d_iret E hr rfl hw h1 (by rw [h2]) dX0_foretold_20
  · have h := qi_f c h
    refine lv_iload_n hx hb dX0_foretold_10 rfl (lv_at hl 2 rfl) ?_
    refine lv_iconst (v := (0:Int32)) hx hb dX0_foretold_11 (by decide) ?_
    refine lv_iconst (v := (2:Int32)) hx hb dX0_foretold_12 (by decide) ?_
    obtain ⟨u3, g4, h⟩ := qb1_s h
    refine d_S (As := [.int x2, .int (0:Int32), .int (2:Int32)]) (v0 := some (.int u3)) (w0 := (A, rs)) hG E hw hl (m_X0_in l hG hC  g4) (va_cwS 3 hts (lw_S q283 q284 q137 q285) rfl rfl rfl kd_X0_in ⟨Nat.le_of_ble_eq_true rfl, Nat.le_of_ble_eq_true rfl⟩) rfl (rest := []) (st1 := [.int u3]) rfl rfl rfl dX0_foretold_13 ⟨Nat.le_of_ble_eq_true rfl, Nat.le_of_ble_eq_true rfl⟩ (fun H locs hw => ?_)
    refine lv_if_ne (tgt := 21) hx hb dX0_foretold_16 (by decide) (fun c => ?_) (fun c => ?_)
    · have h := qi_f c h
      refine lv_aload_n hx hb dX0_foretold_21 rfl (lv_at hl 0 rfl) ?_
      refine r_getX (v := .ref (K.2.1 1)) E hw hC 0 (by decide) q238 rfl dX0_foretold_22 ?_
      refine r_getS1 (v := .ref (K.2.1 101)) hG E hw hC 1 (by decide) q193 rfl dX0_foretold_25 ?_
      refine lv_aload_n hx hb dX0_foretold_28 rfl (lv_at hl 0 rfl) ?_
      refine r_getX (v := .ref (K.2.1 5)) E hw hC 7 (by decide) q245 rfl dX0_foretold_29 ?_
      obtain ⟨A5, e6, h⟩ := qlet_s h
      refine d_SN (As := [.ref (K.2.1 101), .ref (K.2.1 5)]) (v0 := none) hG E hw hl (m_X1_copy l hG hC (qi_101 hC) (qi_5 hC) (Nat.le_of_ble_eq_true rfl)) ⟨va_cnB 2 hts (lw_meth q231) rfl rfl rfl (hG.2.2 s _ E.2.2.2.2.2.1 q1169 rfl) (hts _ q138) kd_X1_copy ⟨Nat.le_of_ble_eq_true rfl, Nat.le_of_ble_eq_true rfl⟩, hts _ q230, trivial⟩ rfl (rest := []) (st1 := []) rfl rfl rfl dX0_foretold_32 ⟨Nat.le_of_ble_eq_true rfl, Nat.le_of_ble_eq_true rfl⟩ (fun H locs hw => ?_)
      rw [← e6] at hw
      refine lv_aload_n hx hb dX0_foretold_35 rfl (lv_at hl 0 rfl) ?_
      refine lv_iload_n hx hb dX0_foretold_36 rfl (lv_at hl 1 rfl) ?_
      obtain ⟨u7, A8, g9, h⟩ := qb2_s h
      refine d_V (As := [.int x1]) (v0 := some (.int u7)) (w0 := (A8, rs)) hG E hw hl (m_X0_goes l hG hC hT  g9) (qX0 hC) rfl (cwV 1 hts (lw_V q1186 q1188 qs45 q137 q1189) rfl rfl rfl ⟨rfl, kd_X0_goes⟩ ⟨Nat.le_of_ble_eq_true rfl, Nat.le_of_ble_eq_true rfl⟩) rfl (rest := []) (st1 := [.int u7]) rfl rfl rfl dX0_foretold_37 ⟨Nat.le_of_ble_eq_true rfl, Nat.le_of_ble_eq_true rfl⟩ (fun H locs hw => ?_)
      refine lv_istore_n (lv' := [(3, .int u7), (0, .ref (K.2.1 0)), (1, .int x1), (2, .int x2)]) hx hb dX0_foretold_40 rfl hl (by decide) rfl (fun ls hl => ?_)
      refine lv_aload_n hx hb dX0_foretold_41 rfl (lv_at hl 1 rfl) ?_
      refine r_getX (v := .ref (K.2.1 5)) E hw hC 7 (by decide) q245 rfl dX0_foretold_42 ?_
      refine lv_iload_n hx hb dX0_foretold_45 rfl (lv_at hl 3 rfl) ?_
      obtain ⟨z10, h⟩ := qif_s h
      refine r_iald (j := x2.toNatClampNeg) E hw (qi_5 hC).at (qok_in z10) rfl dX0_foretold_46 ?_
      have h := Option.some.inj h
      obtain ⟨h1, h2⟩ := Prod.mk.inj h
      exact d_iret E hr rfl hw h1 (by rw [h2]) dX0_foretold_47
    · have h := qi_t c h
      refine lv_iconst (v := (-1:Int32)) hx hb dX0_foretold_19 (by decide) ?_
      have h := Option.some.inj h
      obtain ⟨h1, h2⟩ := Prod.mk.inj h
      exact d_iret E hr rfl hw h1 (by rw [h2]) dX0_foretold_20

theorem m_X0_foretold (l : Launch) {K : QK} {G : State → Prop} (hG : QG G) (hC : QCl K) {rs : QA × QL × QX × QM} {T : Int32 → Option QT} {ta : Int32 → Nat} (hT : QTx K G rs.2.2.1 rs.2.2.2 T ta) {x1 : Int32} {x2 : Int32} {A : QA} {ro : Int32} {Ao : QA} (h : f_X0_foretold T x1 x2 A = some (ro, Ao)) : MC l K G yX0_foretold (ws_ yX0_foretold cX0_foretold 4 (some .int)) 72 4157 0 0 [.ref (K.2.1 0), .int x1, .int x2] (A, rs) (QR (some (.int ro)) (Ao, rs)) := by
  refine MC.of (by decide) (Nat.le_of_ble_eq_true rfl) (lv := [(0, .ref (K.2.1 0)), (1, .int x1), (2, .int x2)]) rfl (fun p e s m below meth c ls E hr hl hw => ?_)
  exact w_X0_foretold_0 hG hC hT E hr _ _ _  h hw hl

def f_X0_endsTried (T : Int32 → Option QT) (x1 : Int32) (x2 : Int32) (A : QA) : Option (Int32 × QA) :=
  qb1 (f_X0_withdraws 5 A) fun A1 =>
  qb1 (f_X0_calls 5 x1 A1) fun A3 =>
  qlet (qu A3 5 8 x2) fun A5 =>
  qif (qok x1 8) <|
  qb2 (f_X0_goes T ((A5 (110 + x1.toNatClampNeg) 2) + x2) A5) fun u8 A9 =>
  qif (qbo u8) <|
  some (u8, A9)
set_option maxHeartbeats 4000000 in
theorem w_X0_endsTried_0 {p : Program} {l : Launch} {e : Env} {s : State} {m : MethodId} {args : Array Value} {below : List Frame} {meth : Method} {c : Code} {K : QK} {G : State → Prop} {rs : QA × QL × QX × QM} {ro : Int32} {Ao : QA} (hG : QG G) (hC : QCl K) {T : Int32 → Option QT} {ta : Int32 → Nat} (hT : QTx K G rs.2.2.1 rs.2.2.2 T ta) (E : EV K G p s m args meth c cX0_endsTried "VaneCourt" 3) (hr : meth.sig.returnType = (some .boolean)) : ∀ (x1 : Int32) (x2 : Int32) (A : QA) {H : Heap} {locs : List Loc} {ls : Array Slot}, f_X0_endsTried T x1 x2 A = some (ro, Ao) → WP K (A, rs) H locs → lv_has ls 3 [(0, .ref (K.2.1 0)), (1, .int x1), (2, .int x2)] → W p l e (qrm 72 4157 0 0) s m args below meth c H locs 0 0 (MQ below (QE K (QR (some (.int ro)) (Ao, rs))) args s 0 0 (qA K)) (F0 m 0 ls []) := by
  have hx := E.1
  have hb := E.2.1
  have hown := E.2.2.1
  have hts := E.2.2.2.2.1
  intro x1 x2 A H locs ls  h hw hl
  rw [f_X0_endsTried] at h
  refine lv_aload_n hx hb dX0_endsTried_0 rfl (lv_at hl 0 rfl) ?_
  refine r_getX (v := .ref (K.2.1 5)) E hw hC 7 (by decide) q245 rfl dX0_endsTried_1 ?_
  obtain ⟨A1, g2, h⟩ := qb1_s h
  refine d_S (As := [.ref (K.2.1 5)]) (v0 := none) (w0 := (A1, rs)) hG E hw hl (m_X0_withdraws l hG hC (qi_5 hC) g2) (va_cwS 1 hts (lw_S q1112 q1113 q137 q1114) rfl rfl rfl kd_X0_withdraws ⟨Nat.le_of_ble_eq_true rfl, Nat.le_of_ble_eq_true rfl⟩) rfl (rest := []) (st1 := []) rfl rfl rfl dX0_endsTried_4 ⟨Nat.le_of_ble_eq_true rfl, Nat.le_of_ble_eq_true rfl⟩ (fun H locs hw => ?_)
  refine lv_aload_n hx hb dX0_endsTried_7 rfl (lv_at hl 0 rfl) ?_
  refine r_getX (v := .ref (K.2.1 5)) E hw hC 7 (by decide) q245 rfl dX0_endsTried_8 ?_
  refine lv_iload_n hx hb dX0_endsTried_11 rfl (lv_at hl 1 rfl) ?_
  obtain ⟨A3, g4, h⟩ := qb1_s h
  refine d_S (As := [.ref (K.2.1 5), .int x1]) (v0 := none) (w0 := (A3, rs)) hG E hw hl (m_X0_calls l hG hC (qi_5 hC) g4) (va_cwS 2 hts (lw_S q1081 q1082 q137 q1083) rfl rfl rfl kd_X0_calls ⟨Nat.le_of_ble_eq_true rfl, Nat.le_of_ble_eq_true rfl⟩) rfl (rest := []) (st1 := []) rfl rfl rfl dX0_endsTried_12 ⟨Nat.le_of_ble_eq_true rfl, Nat.le_of_ble_eq_true rfl⟩ (fun H locs hw => ?_)
  refine lv_aload_n hx hb dX0_endsTried_15 rfl (lv_at hl 0 rfl) ?_
  refine r_getX (v := .ref (K.2.1 5)) E hw hC 7 (by decide) q245 rfl dX0_endsTried_16 ?_
  refine lv_bipush (v := (8:Int32)) hx hb dX0_endsTried_19 (by decide) ?_
  refine lv_iload_n hx hb dX0_endsTried_21 rfl (lv_at hl 2 rfl) ?_
  obtain ⟨A5, e6, h⟩ := qlet_s h
  refine r_iastA (j := 8) E hw (qi_5 hC) (q_lit (k := 8) (n := 154) rfl rfl) (q_clamp (k := 8) rfl) dX0_endsTried_22 (fun H locs hw => ?_)
  rw [← e6] at hw
  refine lv_aload_n hx hb dX0_endsTried_23 rfl (lv_at hl 0 rfl) ?_
  refine lv_aload_n hx hb dX0_endsTried_24 rfl (lv_at hl 0 rfl) ?_
  refine r_getX (v := .ref (K.2.1 1)) E hw hC 0 (by decide) q238 rfl dX0_endsTried_25 ?_
  refine r_getS1 (v := .ref (K.2.1 102)) hG E hw hC 2 (by decide) q195 rfl dX0_endsTried_28 ?_
  refine lv_iload_n hx hb dX0_endsTried_31 rfl (lv_at hl 1 rfl) ?_
  obtain ⟨z7, h⟩ := qif_s h
  refine r_gald (j := x1.toNatClampNeg) E hw (qg_102 hC).at (qok_in z7) rfl dX0_endsTried_32 ?_
  refine lv_iconst (v := (2:Int32)) hx hb dX0_endsTried_33 (by decide) ?_
  refine r_iald (j := 2) E hw (qi_f110 hC (k := x1.toNatClampNeg) (qok_lt z7)).at (q_lit (k := 2) (n := 4) rfl rfl) (q_clamp (k := 2) rfl) dX0_endsTried_34 ?_
  refine lv_iload_n hx hb dX0_endsTried_35 rfl (lv_at hl 2 rfl) ?_
  refine lv_iadd hx hb dX0_endsTried_36 ?_
  obtain ⟨u8, A9, g10, h⟩ := qb2_s h
  refine d_V (As := [.int ((A5 (110 + x1.toNatClampNeg) 2) + x2)]) (v0 := some (.int u8)) (w0 := (A9, rs)) hG E hw hl (m_X0_goes l hG hC hT  g10) (qX0 hC) rfl (cwV 1 hts (lw_V q1186 q1188 qs45 q137 q1189) rfl rfl rfl ⟨rfl, kd_X0_goes⟩ ⟨Nat.le_of_ble_eq_true rfl, Nat.le_of_ble_eq_true rfl⟩) rfl (rest := []) (st1 := [.int u8]) rfl rfl rfl dX0_endsTried_37 ⟨Nat.le_of_ble_eq_true rfl, Nat.le_of_ble_eq_true rfl⟩ (fun H locs hw => ?_)
  obtain ⟨z11, h⟩ := qif_s h
  have h := Option.some.inj h
  obtain ⟨h1, h2⟩ := Prod.mk.inj h
  exact d_iret E hr (qbo_n z11) hw h1 (by rw [h2]) dX0_endsTried_40

theorem m_X0_endsTried (l : Launch) {K : QK} {G : State → Prop} (hG : QG G) (hC : QCl K) {rs : QA × QL × QX × QM} {T : Int32 → Option QT} {ta : Int32 → Nat} (hT : QTx K G rs.2.2.1 rs.2.2.2 T ta) {x1 : Int32} {x2 : Int32} {A : QA} {ro : Int32} {Ao : QA} (h : f_X0_endsTried T x1 x2 A = some (ro, Ao)) : MC l K G yX0_endsTried (ws_ yX0_endsTried cX0_endsTried 3 (some .boolean)) 72 4157 0 0 [.ref (K.2.1 0), .int x1, .int x2] (A, rs) (QR (some (.int ro)) (Ao, rs)) := by
  refine MC.of (by decide) (Nat.le_of_ble_eq_true rfl) (lv := [(0, .ref (K.2.1 0)), (1, .int x1), (2, .int x2)]) rfl (fun p e s m below meth c ls E hr hl hw => ?_)
  exact w_X0_endsTried_0 hG hC hT E hr _ _ _  h hw hl

def f_X0_endsIn (T : Int32 → Option QT) (x1 : Int32) (x2 : Int32) (x3 : Int32) (A : QA) : Option (Int32 × QA) :=
  qlet (qset A 5 (va_cpy (A 101) (A 5) 0 0 154)) fun A1 =>
  qb2 (f_X0_goes T x2 A1) fun u3 A4 =>
  if u3 = (0:Int32) then (
  some ((0:Int32), A4)) else (
  qb2 (f_X0_endsTried T x1 x3 A4) fun u6 A7 =>
  if u6 = (0:Int32) then (
  some ((0:Int32), A7)) else (
  some ((1:Int32), A7)))
set_option maxHeartbeats 4000000 in
theorem w_X0_endsIn_0 {p : Program} {l : Launch} {e : Env} {s : State} {m : MethodId} {args : Array Value} {below : List Frame} {meth : Method} {c : Code} {K : QK} {G : State → Prop} {rs : QA × QL × QX × QM} {ro : Int32} {Ao : QA} (hG : QG G) (hC : QCl K) {T : Int32 → Option QT} {ta : Int32 → Nat} (hT : QTx K G rs.2.2.1 rs.2.2.2 T ta) (E : EV K G p s m args meth c cX0_endsIn "VaneCourt" 4) (hr : meth.sig.returnType = (some .boolean)) : ∀ (x1 : Int32) (x2 : Int32) (x3 : Int32) (A : QA) {H : Heap} {locs : List Loc} {ls : Array Slot}, f_X0_endsIn T x1 x2 x3 A = some (ro, Ao) → WP K (A, rs) H locs → lv_has ls 4 [(0, .ref (K.2.1 0)), (1, .int x1), (2, .int x2), (3, .int x3)] → W p l e (qrm 73 4179 0 0) s m args below meth c H locs 0 0 (MQ below (QE K (QR (some (.int ro)) (Ao, rs))) args s 0 0 (qA K)) (F0 m 0 ls []) := by
  have hx := E.1
  have hb := E.2.1
  have hown := E.2.2.1
  have hts := E.2.2.2.2.1
  intro x1 x2 x3 A H locs ls  h hw hl
  rw [f_X0_endsIn] at h
  refine lv_aload_n hx hb dX0_endsIn_0 rfl (lv_at hl 0 rfl) ?_
  refine r_getX (v := .ref (K.2.1 1)) E hw hC 0 (by decide) q238 rfl dX0_endsIn_1 ?_
  refine r_getS1 (v := .ref (K.2.1 101)) hG E hw hC 1 (by decide) q193 rfl dX0_endsIn_4 ?_
  refine lv_aload_n hx hb dX0_endsIn_7 rfl (lv_at hl 0 rfl) ?_
  refine r_getX (v := .ref (K.2.1 5)) E hw hC 7 (by decide) q245 rfl dX0_endsIn_8 ?_
  obtain ⟨A1, e2, h⟩ := qlet_s h
  refine d_SN (As := [.ref (K.2.1 101), .ref (K.2.1 5)]) (v0 := none) hG E hw hl (m_X1_copy l hG hC (qi_101 hC) (qi_5 hC) (Nat.le_of_ble_eq_true rfl)) ⟨va_cnB 2 hts (lw_meth q231) rfl rfl rfl (hG.2.2 s _ E.2.2.2.2.2.1 q1169 rfl) (hts _ q138) kd_X1_copy ⟨Nat.le_of_ble_eq_true rfl, Nat.le_of_ble_eq_true rfl⟩, hts _ q230, trivial⟩ rfl (rest := []) (st1 := []) rfl rfl rfl dX0_endsIn_11 ⟨Nat.le_of_ble_eq_true rfl, Nat.le_of_ble_eq_true rfl⟩ (fun H locs hw => ?_)
  rw [← e2] at hw
  refine lv_aload_n hx hb dX0_endsIn_14 rfl (lv_at hl 0 rfl) ?_
  refine lv_iload_n hx hb dX0_endsIn_15 rfl (lv_at hl 2 rfl) ?_
  obtain ⟨u3, A4, g5, h⟩ := qb2_s h
  refine d_V (As := [.int x2]) (v0 := some (.int u3)) (w0 := (A4, rs)) hG E hw hl (m_X0_goes l hG hC hT  g5) (qX0 hC) rfl (cwV 1 hts (lw_V q1186 q1188 qs45 q137 q1189) rfl rfl rfl ⟨rfl, kd_X0_goes⟩ ⟨Nat.le_of_ble_eq_true rfl, Nat.le_of_ble_eq_true rfl⟩) rfl (rest := []) (st1 := [.int u3]) rfl rfl rfl dX0_endsIn_16 ⟨Nat.le_of_ble_eq_true rfl, Nat.le_of_ble_eq_true rfl⟩ (fun H locs hw => ?_)
  refine lv_if_eq (tgt := 35) hx hb dX0_endsIn_19 (by decide) (fun c => ?_) (fun c => ?_)
  · have h := qi_t c h
    refine lv_iconst (v := (0:Int32)) hx hb dX0_endsIn_35 (by decide) ?_
    have h := Option.some.inj h
    obtain ⟨h1, h2⟩ := Prod.mk.inj h
    exact d_iret E hr rfl hw h1 (by rw [h2]) dX0_endsIn_36
  · have h := qi_f c h
    refine lv_aload_n hx hb dX0_endsIn_22 rfl (lv_at hl 0 rfl) ?_
    refine lv_iload_n hx hb dX0_endsIn_23 rfl (lv_at hl 1 rfl) ?_
    refine lv_iload_n hx hb dX0_endsIn_24 rfl (lv_at hl 3 rfl) ?_
    obtain ⟨u6, A7, g8, h⟩ := qb2_s h
    refine d_V (As := [.int x1, .int x3]) (v0 := some (.int u6)) (w0 := (A7, rs)) hG E hw hl (m_X0_endsTried l hG hC hT  g8) (qX0 hC) rfl (cwV 2 hts (lw_V q1198 q1200 qs47 q137 q1201) rfl rfl rfl ⟨rfl, kd_X0_endsTried⟩ ⟨Nat.le_of_ble_eq_true rfl, Nat.le_of_ble_eq_true rfl⟩) rfl (rest := []) (st1 := [.int u6]) rfl rfl rfl dX0_endsIn_25 ⟨Nat.le_of_ble_eq_true rfl, Nat.le_of_ble_eq_true rfl⟩ (fun H locs hw => ?_)
    refine lv_if_eq (tgt := 35) hx hb dX0_endsIn_28 (by decide) (fun c => ?_) (fun c => ?_)
    · have h := qi_t c h
      refine lv_iconst (v := (0:Int32)) hx hb dX0_endsIn_35 (by decide) ?_
      have h := Option.some.inj h
      obtain ⟨h1, h2⟩ := Prod.mk.inj h
      exact d_iret E hr rfl hw h1 (by rw [h2]) dX0_endsIn_36
    · have h := qi_f c h
      refine lv_iconst (v := (1:Int32)) hx hb dX0_endsIn_31 (by decide) ?_
      refine lv_goto (tgt := 36) hx hb dX0_endsIn_32 (by decide) ?_
      have h := Option.some.inj h
      obtain ⟨h1, h2⟩ := Prod.mk.inj h
      exact d_iret E hr rfl hw h1 (by rw [h2]) dX0_endsIn_36

theorem m_X0_endsIn (l : Launch) {K : QK} {G : State → Prop} (hG : QG G) (hC : QCl K) {rs : QA × QL × QX × QM} {T : Int32 → Option QT} {ta : Int32 → Nat} (hT : QTx K G rs.2.2.1 rs.2.2.2 T ta) {x1 : Int32} {x2 : Int32} {x3 : Int32} {A : QA} {ro : Int32} {Ao : QA} (h : f_X0_endsIn T x1 x2 x3 A = some (ro, Ao)) : MC l K G yX0_endsIn (ws_ yX0_endsIn cX0_endsIn 4 (some .boolean)) 73 4179 0 0 [.ref (K.2.1 0), .int x1, .int x2, .int x3] (A, rs) (QR (some (.int ro)) (Ao, rs)) := by
  refine MC.of (by decide) (Nat.le_of_ble_eq_true rfl) (lv := [(0, .ref (K.2.1 0)), (1, .int x1), (2, .int x2), (3, .int x3)]) rfl (fun p e s m below meth c ls E hr hl hw => ?_)
  exact w_X0_endsIn_0 hG hC hT E hr _ _ _ _  h hw hl

def f_X0_ends (T : Int32 → Option QT) (x1 : Int32) (x2 : Int32) (x3 : Int32) (x4 : Int32) (A : QA) : Option (Int32 × QA) :=
  qb1 (f_X0_waits x1 A) fun u1 =>
  if u1 = (0:Int32) then (
  some ((-1:Int32), A)) else (
  qb1 (f_X0_in x2 (0:Int32) (20:Int32)) fun u3 =>
  if u3 = (0:Int32) then (
  some ((-1:Int32), A)) else (
  qb1 (f_X0_in x3 (0:Int32) (3:Int32)) fun u5 =>
  if u5 = (0:Int32) then (
  some ((-1:Int32), A)) else (
  qb1 (f_X0_in x4 (0:Int32) (2:Int32)) fun u7 =>
  if u7 = (0:Int32) then (
  some ((-1:Int32), A)) else (
  qb2 (f_X0_endsIn T x1 x2 x3 A) fun u9 A10 =>
  if u9 = (0:Int32) then (
  some ((-1:Int32), A10)) else (
  if x4 = (0:Int32) then (
  some (((A10 5 3) - (A10 101 3)), A10)) else (
  if x4 = (1:Int32) then (
  qif (qok ((9:Int32) + x1) 154) <|
  some (((A10 5 ((9:Int32) + x1).toNatClampNeg) - (2:Int32)), A10)) else (
  qif (qok ((17:Int32) + x1) 154) <|
  some ((A10 5 ((17:Int32) + x1).toNatClampNeg), A10))))))))
set_option maxHeartbeats 4000000 in
theorem w_X0_ends_0 {p : Program} {l : Launch} {e : Env} {s : State} {m : MethodId} {args : Array Value} {below : List Frame} {meth : Method} {c : Code} {K : QK} {G : State → Prop} {rs : QA × QL × QX × QM} {ro : Int32} {Ao : QA} (hG : QG G) (hC : QCl K) {T : Int32 → Option QT} {ta : Int32 → Nat} (hT : QTx K G rs.2.2.1 rs.2.2.2 T ta) (E : EV K G p s m args meth c cX0_ends "VaneCourt" 5) (hr : meth.sig.returnType = (some .int)) : ∀ (x1 : Int32) (x2 : Int32) (x3 : Int32) (x4 : Int32) (A : QA) {H : Heap} {locs : List Loc} {ls : Array Slot}, f_X0_ends T x1 x2 x3 x4 A = some (ro, Ao) → WP K (A, rs) H locs → lv_has ls 5 [(0, .ref (K.2.1 0)), (1, .int x1), (2, .int x2), (3, .int x3), (4, .int x4)] → W p l e (qrm 74 4202 0 0) s m args below meth c H locs 0 0 (MQ below (QE K (QR (some (.int ro)) (Ao, rs))) args s 0 0 (qA K)) (F0 m 0 ls []) := by
  have hx := E.1
  have hb := E.2.1
  have hown := E.2.2.1
  have hts := E.2.2.2.2.1
  intro x1 x2 x3 x4 A H locs ls  h hw hl
  rw [f_X0_ends] at h
  refine lv_aload_n hx hb dX0_ends_0 rfl (lv_at hl 0 rfl) ?_
  refine lv_iload_n hx hb dX0_ends_1 rfl (lv_at hl 1 rfl) ?_
  obtain ⟨u1, g2, h⟩ := qb1_s h
  refine d_V (As := [.int x1]) (v0 := some (.int u1)) (w0 := (A, rs)) hG E hw hl (m_X0_waits l hG hC  g2) (qX0 hC) rfl (cwV 1 hts (lw_V q1073 q1075 qs37 q137 q1076) rfl rfl rfl ⟨rfl, kd_X0_waits⟩ ⟨Nat.le_of_ble_eq_true rfl, Nat.le_of_ble_eq_true rfl⟩) rfl (rest := []) (st1 := [.int u1]) rfl rfl rfl dX0_ends_2 ⟨Nat.le_of_ble_eq_true rfl, Nat.le_of_ble_eq_true rfl⟩ (fun H locs hw => ?_)
  refine lv_if_eq (tgt := 47) hx hb dX0_ends_5 (by decide) (fun c => ?_) (fun c => ?_)
  · have h := qi_t c h
    refine lv_iconst (v := (-1:Int32)) hx hb dX0_ends_47 (by decide) ?_
    have h := Option.some.inj h
    obtain ⟨h1, h2⟩ := Prod.mk.inj h
    exact d_iret E hr rfl hw h1 (by rw [h2]) dX0_ends_48
  · have h := qi_f c h
    refine lv_iload_n hx hb dX0_ends_8 rfl (lv_at hl 2 rfl) ?_
    refine lv_iconst (v := (0:Int32)) hx hb dX0_ends_9 (by decide) ?_
    refine lv_bipush (v := (20:Int32)) hx hb dX0_ends_10 (by decide) ?_
    obtain ⟨u3, g4, h⟩ := qb1_s h
    refine d_S (As := [.int x2, .int (0:Int32), .int (20:Int32)]) (v0 := some (.int u3)) (w0 := (A, rs)) hG E hw hl (m_X0_in l hG hC  g4) (va_cwS 3 hts (lw_S q283 q284 q137 q285) rfl rfl rfl kd_X0_in ⟨Nat.le_of_ble_eq_true rfl, Nat.le_of_ble_eq_true rfl⟩) rfl (rest := []) (st1 := [.int u3]) rfl rfl rfl dX0_ends_12 ⟨Nat.le_of_ble_eq_true rfl, Nat.le_of_ble_eq_true rfl⟩ (fun H locs hw => ?_)
    refine lv_if_eq (tgt := 47) hx hb dX0_ends_15 (by decide) (fun c => ?_) (fun c => ?_)
    · have h := qi_t c h
      refine lv_iconst (v := (-1:Int32)) hx hb dX0_ends_47 (by decide) ?_
      have h := Option.some.inj h
      obtain ⟨h1, h2⟩ := Prod.mk.inj h
      exact d_iret E hr rfl hw h1 (by rw [h2]) dX0_ends_48
    · have h := qi_f c h
      refine lv_iload_n hx hb dX0_ends_18 rfl (lv_at hl 3 rfl) ?_
      refine lv_iconst (v := (0:Int32)) hx hb dX0_ends_19 (by decide) ?_
      refine lv_iconst (v := (3:Int32)) hx hb dX0_ends_20 (by decide) ?_
      obtain ⟨u5, g6, h⟩ := qb1_s h
      refine d_S (As := [.int x3, .int (0:Int32), .int (3:Int32)]) (v0 := some (.int u5)) (w0 := (A, rs)) hG E hw hl (m_X0_in l hG hC  g6) (va_cwS 3 hts (lw_S q283 q284 q137 q285) rfl rfl rfl kd_X0_in ⟨Nat.le_of_ble_eq_true rfl, Nat.le_of_ble_eq_true rfl⟩) rfl (rest := []) (st1 := [.int u5]) rfl rfl rfl dX0_ends_21 ⟨Nat.le_of_ble_eq_true rfl, Nat.le_of_ble_eq_true rfl⟩ (fun H locs hw => ?_)
      refine lv_if_eq (tgt := 47) hx hb dX0_ends_24 (by decide) (fun c => ?_) (fun c => ?_)
      · have h := qi_t c h
        refine lv_iconst (v := (-1:Int32)) hx hb dX0_ends_47 (by decide) ?_
        have h := Option.some.inj h
        obtain ⟨h1, h2⟩ := Prod.mk.inj h
        exact d_iret E hr rfl hw h1 (by rw [h2]) dX0_ends_48
      · have h := qi_f c h
        refine lv_iload hx hb dX0_ends_27 (lv_at hl 4 rfl) ?_
        refine lv_iconst (v := (0:Int32)) hx hb dX0_ends_29 (by decide) ?_
        refine lv_iconst (v := (2:Int32)) hx hb dX0_ends_30 (by decide) ?_
        obtain ⟨u7, g8, h⟩ := qb1_s h
        refine d_S (As := [.int x4, .int (0:Int32), .int (2:Int32)]) (v0 := some (.int u7)) (w0 := (A, rs)) hG E hw hl (m_X0_in l hG hC  g8) (va_cwS 3 hts (lw_S q283 q284 q137 q285) rfl rfl rfl kd_X0_in ⟨Nat.le_of_ble_eq_true rfl, Nat.le_of_ble_eq_true rfl⟩) rfl (rest := []) (st1 := [.int u7]) rfl rfl rfl dX0_ends_31 ⟨Nat.le_of_ble_eq_true rfl, Nat.le_of_ble_eq_true rfl⟩ (fun H locs hw => ?_)
        refine lv_if_eq (tgt := 47) hx hb dX0_ends_34 (by decide) (fun c => ?_) (fun c => ?_)
        · have h := qi_t c h
          refine lv_iconst (v := (-1:Int32)) hx hb dX0_ends_47 (by decide) ?_
          have h := Option.some.inj h
          obtain ⟨h1, h2⟩ := Prod.mk.inj h
          exact d_iret E hr rfl hw h1 (by rw [h2]) dX0_ends_48
        · have h := qi_f c h
          refine lv_aload_n hx hb dX0_ends_37 rfl (lv_at hl 0 rfl) ?_
          refine lv_iload_n hx hb dX0_ends_38 rfl (lv_at hl 1 rfl) ?_
          refine lv_iload_n hx hb dX0_ends_39 rfl (lv_at hl 2 rfl) ?_
          refine lv_iload_n hx hb dX0_ends_40 rfl (lv_at hl 3 rfl) ?_
          obtain ⟨u9, A10, g11, h⟩ := qb2_s h
          refine d_V (As := [.int x1, .int x2, .int x3]) (v0 := some (.int u9)) (w0 := (A10, rs)) hG E hw hl (m_X0_endsIn l hG hC hT  g11) (qX0 hC) rfl (cwV 3 hts (lw_V q1194 q1196 qs46 q137 q1197) rfl rfl rfl ⟨rfl, kd_X0_endsIn⟩ ⟨Nat.le_of_ble_eq_true rfl, Nat.le_of_ble_eq_true rfl⟩) rfl (rest := []) (st1 := [.int u9]) rfl rfl rfl dX0_ends_41 ⟨Nat.le_of_ble_eq_true rfl, Nat.le_of_ble_eq_true rfl⟩ (fun H locs hw => ?_)
          refine lv_if_ne (tgt := 49) hx hb dX0_ends_44 (by decide) (fun c => ?_) (fun c => ?_)
          · have h := qi_f c h
            refine lv_iload hx hb dX0_ends_49 (lv_at hl 4 rfl) ?_
            refine lv_if_ne (tgt := 73) hx hb dX0_ends_51 (by decide) (fun c => ?_) (fun c => ?_)
            · have h := qi_f c h
              refine lv_iload hx hb dX0_ends_73 (lv_at hl 4 rfl) ?_
              refine lv_iconst (v := (1:Int32)) hx hb dX0_ends_75 (by decide) ?_
              refine lv_icmp_ne (tgt := 93) hx hb dX0_ends_76 (by decide) (fun c => ?_) (fun c => ?_)
              · have h := qi_f c h
                refine lv_aload_n hx hb dX0_ends_93 rfl (lv_at hl 0 rfl) ?_
                refine r_getX (v := .ref (K.2.1 5)) E hw hC 7 (by decide) q245 rfl dX0_ends_94 ?_
                refine lv_bipush (v := (17:Int32)) hx hb dX0_ends_97 (by decide) ?_
                refine lv_iload_n hx hb dX0_ends_99 rfl (lv_at hl 1 rfl) ?_
                refine lv_iadd hx hb dX0_ends_100 ?_
                obtain ⟨z12, h⟩ := qif_s h
                refine r_iald (j := ((17:Int32) + x1).toNatClampNeg) E hw (qi_5 hC).at (qok_in z12) rfl dX0_ends_101 ?_
                have h := Option.some.inj h
                obtain ⟨h1, h2⟩ := Prod.mk.inj h
                exact d_iret E hr rfl hw h1 (by rw [h2]) dX0_ends_102
              · have h := qi_t c h
                refine lv_aload_n hx hb dX0_ends_79 rfl (lv_at hl 0 rfl) ?_
                refine r_getX (v := .ref (K.2.1 5)) E hw hC 7 (by decide) q245 rfl dX0_ends_80 ?_
                refine lv_bipush (v := (9:Int32)) hx hb dX0_ends_83 (by decide) ?_
                refine lv_iload_n hx hb dX0_ends_85 rfl (lv_at hl 1 rfl) ?_
                refine lv_iadd hx hb dX0_ends_86 ?_
                obtain ⟨z13, h⟩ := qif_s h
                refine r_iald (j := ((9:Int32) + x1).toNatClampNeg) E hw (qi_5 hC).at (qok_in z13) rfl dX0_ends_87 ?_
                refine lv_iconst (v := (2:Int32)) hx hb dX0_ends_88 (by decide) ?_
                refine lv_isub hx hb dX0_ends_89 ?_
                refine lv_goto (tgt := 102) hx hb dX0_ends_90 (by decide) ?_
                have h := Option.some.inj h
                obtain ⟨h1, h2⟩ := Prod.mk.inj h
                exact d_iret E hr rfl hw h1 (by rw [h2]) dX0_ends_102
            · have h := qi_t c h
              refine lv_aload_n hx hb dX0_ends_54 rfl (lv_at hl 0 rfl) ?_
              refine r_getX (v := .ref (K.2.1 5)) E hw hC 7 (by decide) q245 rfl dX0_ends_55 ?_
              refine lv_iconst (v := (3:Int32)) hx hb dX0_ends_58 (by decide) ?_
              refine r_iald (j := 3) E hw (qi_5 hC).at (q_lit (k := 3) (n := 154) rfl rfl) (q_clamp (k := 3) rfl) dX0_ends_59 ?_
              refine lv_aload_n hx hb dX0_ends_60 rfl (lv_at hl 0 rfl) ?_
              refine r_getX (v := .ref (K.2.1 1)) E hw hC 0 (by decide) q238 rfl dX0_ends_61 ?_
              refine r_getS1 (v := .ref (K.2.1 101)) hG E hw hC 1 (by decide) q193 rfl dX0_ends_64 ?_
              refine lv_iconst (v := (3:Int32)) hx hb dX0_ends_67 (by decide) ?_
              refine r_iald (j := 3) E hw (qi_101 hC).at (q_lit (k := 3) (n := 154) rfl rfl) (q_clamp (k := 3) rfl) dX0_ends_68 ?_
              refine lv_isub hx hb dX0_ends_69 ?_
              refine lv_goto (tgt := 102) hx hb dX0_ends_70 (by decide) ?_
              have h := Option.some.inj h
              obtain ⟨h1, h2⟩ := Prod.mk.inj h
              exact d_iret E hr rfl hw h1 (by rw [h2]) dX0_ends_102
          · have h := qi_t c h
            refine lv_iconst (v := (-1:Int32)) hx hb dX0_ends_47 (by decide) ?_
            have h := Option.some.inj h
            obtain ⟨h1, h2⟩ := Prod.mk.inj h
            exact d_iret E hr rfl hw h1 (by rw [h2]) dX0_ends_48

theorem m_X0_ends (l : Launch) {K : QK} {G : State → Prop} (hG : QG G) (hC : QCl K) {rs : QA × QL × QX × QM} {T : Int32 → Option QT} {ta : Int32 → Nat} (hT : QTx K G rs.2.2.1 rs.2.2.2 T ta) {x1 : Int32} {x2 : Int32} {x3 : Int32} {x4 : Int32} {A : QA} {ro : Int32} {Ao : QA} (h : f_X0_ends T x1 x2 x3 x4 A = some (ro, Ao)) : MC l K G yX0_ends (ws_ yX0_ends cX0_ends 5 (some .int)) 74 4202 0 0 [.ref (K.2.1 0), .int x1, .int x2, .int x3, .int x4] (A, rs) (QR (some (.int ro)) (Ao, rs)) := by
  refine MC.of (by decide) (Nat.le_of_ble_eq_true rfl) (lv := [(0, .ref (K.2.1 0)), (1, .int x1), (2, .int x2), (3, .int x3), (4, .int x4)]) rfl (fun p e s m below meth c ls E hr hl hw => ?_)
  exact w_X0_ends_0 hG hC hT E hr _ _ _ _ _  h hw hl

def f_X0_best_107 (T : Int32 → Option QT) (k36 : (Int32 → Int32 → Int32 → Int32 → Int32 → QA → Option (Int32 × QA))) (k51 : (Int32 → Int32 → Int32 → Int32 → Int32 → Int32 → QA → Option (Int32 × QA))) (x1 : Int32) (x2 : Int32) (x3 : Int32) (x4 : Int32) (x5 : Int32) (x6 : Int32) (x7 : Int32) (s0 : Int32) (s1 : Int32) (A : QA) : Option (Int32 × QA) :=
  if s0 = s1 then (
  if x3 = (0:Int32) then (
  some (x7, A)) else (
  if x3 = (1:Int32) then (
  some (x6, A)) else (
  some (x5, A)))) else (
  qlet (x6 + (-1:Int32)) fun x6_22 =>
  k51 x1 x2 x3 x4 x5 x6_22 A)
set_option maxHeartbeats 4000000 in
theorem w_X0_best_107 {p : Program} {l : Launch} {e : Env} {s : State} {m : MethodId} {args : Array Value} {below : List Frame} {meth : Method} {c : Code} {K : QK} {G : State → Prop} {rs : QA × QL × QX × QM} {ro : Int32} {Ao : QA} (hG : QG G) (hC : QCl K) {T : Int32 → Option QT} {ta : Int32 → Nat} (hT : QTx K G rs.2.2.1 rs.2.2.2 T ta) (E : EV K G p s m args meth c cX0_best "VaneCourt" 8) (hr : meth.sig.returnType = (some .int)) {k36 : (Int32 → Int32 → Int32 → Int32 → Int32 → QA → Option (Int32 × QA))} {k51 : (Int32 → Int32 → Int32 → Int32 → Int32 → Int32 → QA → Option (Int32 × QA))} (hk36 : ∀ (x1 : Int32) (x2 : Int32) (x3 : Int32) (x4 : Int32) (x5 : Int32) (A : QA) {H : Heap} {locs : List Loc} {ls : Array Slot}, k36 x1 x2 x3 x4 x5 A = some (ro, Ao) → WP K (A, rs) H locs → lv_has ls 8 [(0, .ref (K.2.1 0)), (1, .int x1), (2, .int x2), (3, .int x3), (4, .int x4), (5, .int x5)] → W p l e (qrm 74 4202 0 0) s m args below meth c H locs 0 0 (MQ below (QE K (QR (some (.int ro)) (Ao, rs))) args s 0 0 (qA K)) (F0 m 36 ls [])) (hk51 : ∀ (x1 : Int32) (x2 : Int32) (x3 : Int32) (x4 : Int32) (x5 : Int32) (x6 : Int32) (A : QA) {H : Heap} {locs : List Loc} {ls : Array Slot}, k51 x1 x2 x3 x4 x5 x6 A = some (ro, Ao) → WP K (A, rs) H locs → lv_has ls 8 [(0, .ref (K.2.1 0)), (1, .int x1), (2, .int x2), (3, .int x3), (4, .int x4), (5, .int x5), (6, .int x6)] → W p l e (qrm 74 4202 0 0) s m args below meth c H locs 0 0 (MQ below (QE K (QR (some (.int ro)) (Ao, rs))) args s 0 0 (qA K)) (F0 m 51 ls [])) : ∀ (x1 : Int32) (x2 : Int32) (x3 : Int32) (x4 : Int32) (x5 : Int32) (x6 : Int32) (x7 : Int32) (s0 : Int32) (s1 : Int32) (A : QA) {H : Heap} {locs : List Loc} {ls : Array Slot}, f_X0_best_107 T k36 k51 x1 x2 x3 x4 x5 x6 x7 s0 s1 A = some (ro, Ao) → WP K (A, rs) H locs → lv_has ls 8 [(0, .ref (K.2.1 0)), (1, .int x1), (2, .int x2), (3, .int x3), (4, .int x4), (5, .int x5), (6, .int x6), (7, .int x7)] → W p l e (qrm 74 4202 0 0) s m args below meth c H locs 0 0 (MQ below (QE K (QR (some (.int ro)) (Ao, rs))) args s 0 0 (qA K)) (F0 m 107 ls [.int s1, .int s0]) := by
  have hx := E.1
  have hb := E.2.1
  have hown := E.2.2.1
  have hts := E.2.2.2.2.1
  intro x1 x2 x3 x4 x5 x6 x7 s0 s1 A H locs ls  h hw hl
  rw [f_X0_best_107] at h
  refine lv_icmp_eq (tgt := 113) hx hb dX0_best_107 (by decide) (fun c => ?_) (fun c => ?_)
  · have h := qi_t c h
    refine lv_iload_n hx hb dX0_best_113 rfl (lv_at hl 3 rfl) ?_
    refine lv_if_ne (tgt := 122) hx hb dX0_best_114 (by decide) (fun c => ?_) (fun c => ?_)
    · have h := qi_f c h
      refine lv_iload_n hx hb dX0_best_122 rfl (lv_at hl 3 rfl) ?_
      refine lv_iconst (v := (1:Int32)) hx hb dX0_best_123 (by decide) ?_
      refine lv_icmp_ne (tgt := 132) hx hb dX0_best_124 (by decide) (fun c => ?_) (fun c => ?_)
      · have h := qi_f c h
        refine lv_iload hx hb dX0_best_132 (lv_at hl 5 rfl) ?_
        have h := Option.some.inj h
        obtain ⟨h1, h2⟩ := Prod.mk.inj h
        exact d_iret E hr rfl hw h1 (by rw [h2]) dX0_best_134
      · have h := qi_t c h
        refine lv_iload hx hb dX0_best_127 (lv_at hl 6 rfl) ?_
        refine lv_goto (tgt := 134) hx hb dX0_best_129 (by decide) ?_
        have h := Option.some.inj h
        obtain ⟨h1, h2⟩ := Prod.mk.inj h
        exact d_iret E hr rfl hw h1 (by rw [h2]) dX0_best_134
    · have h := qi_t c h
      refine lv_iload hx hb dX0_best_117 (lv_at hl 7 rfl) ?_
      refine lv_goto (tgt := 134) hx hb dX0_best_119 (by decide) ?_
      have h := Option.some.inj h
      obtain ⟨h1, h2⟩ := Prod.mk.inj h
      exact d_iret E hr rfl hw h1 (by rw [h2]) dX0_best_134
  · have h := qi_f c h
    refine lv_goto (tgt := 135) hx hb dX0_best_110 (by decide) ?_
    obtain ⟨x6_22, e23, h⟩ := qlet_s h
    refine lv_iinc (v := x6_22) (lv' := [(6, .int x6_22), (0, .ref (K.2.1 0)), (1, .int x1), (2, .int x2), (3, .int x3), (4, .int x4), (5, .int x5), (7, .int x7)]) (k := 6) hx hb dX0_best_135 hl rfl (by rw [e23]; rfl) (by decide) rfl (fun ls hl => ?_)
    refine lv_goto (tgt := 51) hx hb dX0_best_138 (by decide) ?_
    exact hk51 _ _ _ _ _ _ _  h hw (lv_sub hl [1, 2, 3, 4, 5, 6, 0] rfl)

def f_X0_best_51 (T : Int32 → Option QT) (k36 : (Int32 → Int32 → Int32 → Int32 → Int32 → QA → Option (Int32 × QA))) : Nat → Int32 → Int32 → Int32 → Int32 → Int32 → Int32 → QA → Option (Int32 × QA)
  | 0, _, _, _, _, _, _, _ => none
  | n + 1, x1, x2, x3, x4, x5, x6, A => if x6 < (0:Int32) then (
  qlet (x5 + (1:Int32)) fun x5_8 =>
  k36 x1 x2 x3 x4 x5_8 A) else (
  qlet ((x5 - x4) - x6) fun x7_10 =>
  qb1 (f_X0_in x7_10 (0:Int32) (20:Int32)) fun u12 =>
  if u12 = (0:Int32) then (
  qlet (x6 + (-1:Int32)) fun x6_14 =>
  f_X0_best_51 T k36 n x1 x2 x3 x4 x5 x6_14 A) else (
  qb2 (f_X0_endsIn T x1 x7_10 x6 A) fun u16 A17 =>
  if u16 = (0:Int32) then (
  qlet (x6 + (-1:Int32)) fun x6_19 =>
  f_X0_best_51 T k36 n x1 x2 x3 x4 x5 x6_19 A17) else (
  qif (qok ((9:Int32) + x1) 154) <|
  if x2 = (0:Int32) then (
  f_X0_best_107 T k36 (fun x1' x2' x3' x4' x5' x6' A' => f_X0_best_51 T k36 n x1' x2' x3' x4' x5' x6' A') x1 x2 x3 x4 x5 x6 x7_10 (A17 5 ((9:Int32) + x1).toNatClampNeg) (2:Int32) A17) else (
  f_X0_best_107 T k36 (fun x1' x2' x3' x4' x5' x6' A' => f_X0_best_51 T k36 n x1' x2' x3' x4' x5' x6' A') x1 x2 x3 x4 x5 x6 x7_10 (A17 5 ((9:Int32) + x1).toNatClampNeg) (3:Int32) A17))))
set_option maxHeartbeats 4000000 in
theorem w_X0_best_51 {p : Program} {l : Launch} {e : Env} {s : State} {m : MethodId} {args : Array Value} {below : List Frame} {meth : Method} {c : Code} {K : QK} {G : State → Prop} {rs : QA × QL × QX × QM} {ro : Int32} {Ao : QA} (hG : QG G) (hC : QCl K) {T : Int32 → Option QT} {ta : Int32 → Nat} (hT : QTx K G rs.2.2.1 rs.2.2.2 T ta) (E : EV K G p s m args meth c cX0_best "VaneCourt" 8) (hr : meth.sig.returnType = (some .int)) {k36 : (Int32 → Int32 → Int32 → Int32 → Int32 → QA → Option (Int32 × QA))} (hk36 : ∀ (x1 : Int32) (x2 : Int32) (x3 : Int32) (x4 : Int32) (x5 : Int32) (A : QA) {H : Heap} {locs : List Loc} {ls : Array Slot}, k36 x1 x2 x3 x4 x5 A = some (ro, Ao) → WP K (A, rs) H locs → lv_has ls 8 [(0, .ref (K.2.1 0)), (1, .int x1), (2, .int x2), (3, .int x3), (4, .int x4), (5, .int x5)] → W p l e (qrm 74 4202 0 0) s m args below meth c H locs 0 0 (MQ below (QE K (QR (some (.int ro)) (Ao, rs))) args s 0 0 (qA K)) (F0 m 36 ls [])) : ∀ (n : Nat) (x1 : Int32) (x2 : Int32) (x3 : Int32) (x4 : Int32) (x5 : Int32) (x6 : Int32) (A : QA) {H : Heap} {locs : List Loc} {ls : Array Slot}, f_X0_best_51 T k36 n x1 x2 x3 x4 x5 x6 A = some (ro, Ao) → WP K (A, rs) H locs → lv_has ls 8 [(0, .ref (K.2.1 0)), (1, .int x1), (2, .int x2), (3, .int x3), (4, .int x4), (5, .int x5), (6, .int x6)] → W p l e (qrm 74 4202 0 0) s m args below meth c H locs 0 0 (MQ below (QE K (QR (some (.int ro)) (Ao, rs))) args s 0 0 (qA K)) (F0 m 51 ls []) := by
  have hx := E.1
  have hb := E.2.1
  have hown := E.2.2.1
  have hts := E.2.2.2.2.1
  intro n
  induction n with
  | zero =>
    intro x1 x2 x3 x4 x5 x6 A H locs ls  h hw hl
    cases h
  | succ n ih =>
    intro x1 x2 x3 x4 x5 x6 A H locs ls  h hw hl
    rw [f_X0_best_51] at h
    refine lv_iload hx hb dX0_best_51 (lv_at hl 6 rfl) ?_
    refine lv_if_lt (tgt := 141) hx hb dX0_best_53 (by decide) (fun c => ?_) (fun c => ?_)
    · have h := qi_t c h
      obtain ⟨x5_8, e9, h⟩ := qlet_s h
      refine lv_iinc (v := x5_8) (lv' := [(5, .int x5_8), (0, .ref (K.2.1 0)), (1, .int x1), (2, .int x2), (3, .int x3), (4, .int x4), (6, .int x6)]) (k := 5) hx hb dX0_best_141 hl rfl (by rw [e9]; rfl) (by decide) rfl (fun ls hl => ?_)
      refine lv_goto (tgt := 36) hx hb dX0_best_144 (by decide) ?_
      exact hk36 _ _ _ _ _ _  h hw (lv_sub hl [1, 2, 3, 4, 5, 0] rfl)
    · have h := qi_f c h
      refine lv_iload hx hb dX0_best_56 (lv_at hl 5 rfl) ?_
      refine lv_iload hx hb dX0_best_58 (lv_at hl 4 rfl) ?_
      refine lv_isub hx hb dX0_best_60 ?_
      refine lv_iload hx hb dX0_best_61 (lv_at hl 6 rfl) ?_
      refine lv_isub hx hb dX0_best_63 ?_
      obtain ⟨x7_10, e11, h⟩ := qlet_s h
      refine r_nm e11 ?_
      refine lv_istore (lv' := [(7, .int x7_10), (0, .ref (K.2.1 0)), (1, .int x1), (2, .int x2), (3, .int x3), (4, .int x4), (5, .int x5), (6, .int x6)]) hx hb dX0_best_64 hl (by decide) rfl (fun ls hl => ?_)
      refine lv_iload hx hb dX0_best_66 (lv_at hl 0 rfl) ?_
      refine lv_iconst (v := (0:Int32)) hx hb dX0_best_68 (by decide) ?_
      refine lv_bipush (v := (20:Int32)) hx hb dX0_best_69 (by decide) ?_
      obtain ⟨u12, g13, h⟩ := qb1_s h
      refine d_S (As := [.int x7_10, .int (0:Int32), .int (20:Int32)]) (v0 := some (.int u12)) (w0 := (A, rs)) hG E hw hl (m_X0_in l hG hC  g13) (va_cwS 3 hts (lw_S q283 q284 q137 q285) rfl rfl rfl kd_X0_in ⟨Nat.le_of_ble_eq_true rfl, Nat.le_of_ble_eq_true rfl⟩) rfl (rest := []) (st1 := [.int u12]) rfl rfl rfl dX0_best_71 ⟨Nat.le_of_ble_eq_true rfl, Nat.le_of_ble_eq_true rfl⟩ (fun H locs hw => ?_)
      refine lv_if_eq (tgt := 135) hx hb dX0_best_74 (by decide) (fun c => ?_) (fun c => ?_)
      · have h := qi_t c h
        obtain ⟨x6_14, e15, h⟩ := qlet_s h
        refine lv_iinc (v := x6_14) (lv' := [(6, .int x6_14), (7, .int x7_10), (0, .ref (K.2.1 0)), (1, .int x1), (2, .int x2), (3, .int x3), (4, .int x4), (5, .int x5)]) (k := 7) hx hb dX0_best_135 hl rfl (by rw [e15]; rfl) (by decide) rfl (fun ls hl => ?_)
        refine lv_goto (tgt := 51) hx hb dX0_best_138 (by decide) ?_
        exact ih _ _ _ _ _ _ _  h hw (lv_sub hl [2, 3, 4, 5, 6, 7, 0] rfl)
      · have h := qi_f c h
        refine lv_aload_n hx hb dX0_best_77 rfl (lv_at hl 1 rfl) ?_
        refine lv_iload_n hx hb dX0_best_78 rfl (lv_at hl 2 rfl) ?_
        refine lv_iload hx hb dX0_best_79 (lv_at hl 0 rfl) ?_
        refine lv_iload hx hb dX0_best_81 (lv_at hl 7 rfl) ?_
        obtain ⟨u16, A17, g18, h⟩ := qb2_s h
        refine d_V (As := [.int x1, .int x7_10, .int x6]) (v0 := some (.int u16)) (w0 := (A17, rs)) hG E hw hl (m_X0_endsIn l hG hC hT  g18) (qX0 hC) rfl (cwV 3 hts (lw_V q1194 q1196 qs46 q137 q1197) rfl rfl rfl ⟨rfl, kd_X0_endsIn⟩ ⟨Nat.le_of_ble_eq_true rfl, Nat.le_of_ble_eq_true rfl⟩) rfl (rest := []) (st1 := [.int u16]) rfl rfl rfl dX0_best_83 ⟨Nat.le_of_ble_eq_true rfl, Nat.le_of_ble_eq_true rfl⟩ (fun H locs hw => ?_)
        refine lv_if_eq (tgt := 135) hx hb dX0_best_86 (by decide) (fun c => ?_) (fun c => ?_)
        · have h := qi_t c h
          obtain ⟨x6_19, e20, h⟩ := qlet_s h
          refine lv_iinc (v := x6_19) (lv' := [(6, .int x6_19), (7, .int x7_10), (0, .ref (K.2.1 0)), (1, .int x1), (2, .int x2), (3, .int x3), (4, .int x4), (5, .int x5)]) (k := 7) hx hb dX0_best_135 hl rfl (by rw [e20]; rfl) (by decide) rfl (fun ls hl => ?_)
          refine lv_goto (tgt := 51) hx hb dX0_best_138 (by decide) ?_
          exact ih _ _ _ _ _ _ _  h hw (lv_sub hl [2, 3, 4, 5, 6, 7, 0] rfl)
        · have h := qi_f c h
          refine lv_aload_n hx hb dX0_best_89 rfl (lv_at hl 1 rfl) ?_
          refine r_getX (v := .ref (K.2.1 5)) E hw hC 7 (by decide) q245 rfl dX0_best_90 ?_
          refine lv_bipush (v := (9:Int32)) hx hb dX0_best_93 (by decide) ?_
          refine lv_iload_n hx hb dX0_best_95 rfl (lv_at hl 2 rfl) ?_
          refine lv_iadd hx hb dX0_best_96 ?_
          obtain ⟨z21, h⟩ := qif_s h
          refine r_iald (j := ((9:Int32) + x1).toNatClampNeg) E hw (qi_5 hC).at (qok_in z21) rfl dX0_best_97 ?_
          refine lv_iload_n hx hb dX0_best_98 rfl (lv_at hl 3 rfl) ?_
          refine lv_if_eq (tgt := 106) hx hb dX0_best_99 (by decide) (fun c => ?_) (fun c => ?_)
          · have h := qi_t c h
            refine lv_iconst (v := (2:Int32)) hx hb dX0_best_106 (by decide) ?_
            exact w_X0_best_107 hG hC hT E hr hk36 ih _ _ _ _ _ _ _ _ _ _   h hw (lv_sub hl [1, 2, 3, 4, 5, 6, 7, 0] rfl)
          · have h := qi_f c h
            refine lv_iconst (v := (3:Int32)) hx hb dX0_best_102 (by decide) ?_
            refine lv_goto (tgt := 107) hx hb dX0_best_103 (by decide) ?_
            exact w_X0_best_107 hG hC hT E hr hk36 ih _ _ _ _ _ _ _ _ _ _   h hw (lv_sub hl [1, 2, 3, 4, 5, 6, 7, 0] rfl)

def f_X0_best_36 (T : Int32 → Option QT) : Nat → Int32 → Int32 → Int32 → Int32 → Int32 → QA → Option (Int32 × QA)
  | 0, _, _, _, _, _, _ => none
  | n + 1, x1, x2, x3, x4, x5, A => if (((20:Int32) + x4) + (3:Int32)) < x5 then (
  some ((-1:Int32), A)) else (
  f_X0_best_51 T (fun x1' x2' x3' x4' x5' A' => f_X0_best_36 T n x1' x2' x3' x4' x5' A') FU x1 x2 x3 x4 x5 (3:Int32) A)
set_option maxHeartbeats 4000000 in
theorem w_X0_best_36 {p : Program} {l : Launch} {e : Env} {s : State} {m : MethodId} {args : Array Value} {below : List Frame} {meth : Method} {c : Code} {K : QK} {G : State → Prop} {rs : QA × QL × QX × QM} {ro : Int32} {Ao : QA} (hG : QG G) (hC : QCl K) {T : Int32 → Option QT} {ta : Int32 → Nat} (hT : QTx K G rs.2.2.1 rs.2.2.2 T ta) (E : EV K G p s m args meth c cX0_best "VaneCourt" 8) (hr : meth.sig.returnType = (some .int)) : ∀ (n : Nat) (x1 : Int32) (x2 : Int32) (x3 : Int32) (x4 : Int32) (x5 : Int32) (A : QA) {H : Heap} {locs : List Loc} {ls : Array Slot}, f_X0_best_36 T n x1 x2 x3 x4 x5 A = some (ro, Ao) → WP K (A, rs) H locs → lv_has ls 8 [(0, .ref (K.2.1 0)), (1, .int x1), (2, .int x2), (3, .int x3), (4, .int x4), (5, .int x5)] → W p l e (qrm 74 4202 0 0) s m args below meth c H locs 0 0 (MQ below (QE K (QR (some (.int ro)) (Ao, rs))) args s 0 0 (qA K)) (F0 m 36 ls []) := by
  have hx := E.1
  have hb := E.2.1
  have hown := E.2.2.1
  have hts := E.2.2.2.2.1
  intro n
  induction n with
  | zero =>
    intro x1 x2 x3 x4 x5 A H locs ls  h hw hl
    cases h
  | succ n ih =>
    intro x1 x2 x3 x4 x5 A H locs ls  h hw hl
    rw [f_X0_best_36] at h
    refine lv_iload hx hb dX0_best_36 (lv_at hl 5 rfl) ?_
    refine lv_bipush (v := (20:Int32)) hx hb dX0_best_38 (by decide) ?_
    refine lv_iload hx hb dX0_best_40 (lv_at hl 4 rfl) ?_
    refine lv_iadd hx hb dX0_best_42 ?_
    refine lv_iconst (v := (3:Int32)) hx hb dX0_best_43 (by decide) ?_
    refine lv_iadd hx hb dX0_best_44 ?_
    refine lv_icmp_gt (tgt := 147) hx hb dX0_best_45 (by decide) (fun c => ?_) (fun c => ?_)
    · have h := qi_t c h
      refine lv_iconst (v := (-1:Int32)) hx hb dX0_best_147 (by decide) ?_
      have h := Option.some.inj h
      obtain ⟨h1, h2⟩ := Prod.mk.inj h
      exact d_iret E hr rfl hw h1 (by rw [h2]) dX0_best_148
    · have h := qi_f c h
      refine lv_iconst (v := (3:Int32)) hx hb dX0_best_48 (by decide) ?_
      refine lv_istore (lv' := [(6, .int (3:Int32)), (0, .ref (K.2.1 0)), (1, .int x1), (2, .int x2), (3, .int x3), (4, .int x4), (5, .int x5)]) hx hb dX0_best_49 hl (by decide) rfl (fun ls hl => ?_)
      exact w_X0_best_51 hG hC hT E hr ih _ _ _ _ _ _ _ _   h hw (lv_sub hl [1, 2, 3, 4, 5, 6, 0] rfl)

def f_X0_best (T : Int32 → Option QT) (x1 : Int32) (x2 : Int32) (x3 : Int32) (A : QA) : Option (Int32 × QA) :=
  qb1 (f_X0_waits x1 A) fun u1 =>
  if u1 = (0:Int32) then (
  some ((-1:Int32), A)) else (
  qb1 (f_X0_in x3 (0:Int32) (2:Int32)) fun u3 =>
  if u3 = (0:Int32) then (
  some ((-1:Int32), A)) else (
  qif (qok x1 8) <|
  qlet (A (110 + x1.toNatClampNeg) 2) fun x4_6 =>
  f_X0_best_36 T FU x1 x2 x3 x4_6 x4_6 A))
set_option maxHeartbeats 4000000 in
theorem w_X0_best_0 {p : Program} {l : Launch} {e : Env} {s : State} {m : MethodId} {args : Array Value} {below : List Frame} {meth : Method} {c : Code} {K : QK} {G : State → Prop} {rs : QA × QL × QX × QM} {ro : Int32} {Ao : QA} (hG : QG G) (hC : QCl K) {T : Int32 → Option QT} {ta : Int32 → Nat} (hT : QTx K G rs.2.2.1 rs.2.2.2 T ta) (E : EV K G p s m args meth c cX0_best "VaneCourt" 8) (hr : meth.sig.returnType = (some .int)) : ∀ (x1 : Int32) (x2 : Int32) (x3 : Int32) (A : QA) {H : Heap} {locs : List Loc} {ls : Array Slot}, f_X0_best T x1 x2 x3 A = some (ro, Ao) → WP K (A, rs) H locs → lv_has ls 8 [(0, .ref (K.2.1 0)), (1, .int x1), (2, .int x2), (3, .int x3)] → W p l e (qrm 74 4202 0 0) s m args below meth c H locs 0 0 (MQ below (QE K (QR (some (.int ro)) (Ao, rs))) args s 0 0 (qA K)) (F0 m 0 ls []) := by
  have hx := E.1
  have hb := E.2.1
  have hown := E.2.2.1
  have hts := E.2.2.2.2.1
  intro x1 x2 x3 A H locs ls  h hw hl
  rw [f_X0_best] at h
  refine lv_aload_n hx hb dX0_best_0 rfl (lv_at hl 0 rfl) ?_
  refine lv_iload_n hx hb dX0_best_1 rfl (lv_at hl 1 rfl) ?_
  obtain ⟨u1, g2, h⟩ := qb1_s h
  refine d_V (As := [.int x1]) (v0 := some (.int u1)) (w0 := (A, rs)) hG E hw hl (m_X0_waits l hG hC  g2) (qX0 hC) rfl (cwV 1 hts (lw_V q1073 q1075 qs37 q137 q1076) rfl rfl rfl ⟨rfl, kd_X0_waits⟩ ⟨Nat.le_of_ble_eq_true rfl, Nat.le_of_ble_eq_true rfl⟩) rfl (rest := []) (st1 := [.int u1]) rfl rfl rfl dX0_best_2 ⟨Nat.le_of_ble_eq_true rfl, Nat.le_of_ble_eq_true rfl⟩ (fun H locs hw => ?_)
  refine lv_if_eq (tgt := 17) hx hb dX0_best_5 (by decide) (fun c => ?_) (fun c => ?_)
  · have h := qi_t c h
    refine lv_iconst (v := (-1:Int32)) hx hb dX0_best_17 (by decide) ?_
    have h := Option.some.inj h
    obtain ⟨h1, h2⟩ := Prod.mk.inj h
    exact d_iret E hr rfl hw h1 (by rw [h2]) dX0_best_18
  · have h := qi_f c h
    refine lv_iload_n hx hb dX0_best_8 rfl (lv_at hl 3 rfl) ?_
    refine lv_iconst (v := (0:Int32)) hx hb dX0_best_9 (by decide) ?_
    refine lv_iconst (v := (2:Int32)) hx hb dX0_best_10 (by decide) ?_
    obtain ⟨u3, g4, h⟩ := qb1_s h
    refine d_S (As := [.int x3, .int (0:Int32), .int (2:Int32)]) (v0 := some (.int u3)) (w0 := (A, rs)) hG E hw hl (m_X0_in l hG hC  g4) (va_cwS 3 hts (lw_S q283 q284 q137 q285) rfl rfl rfl kd_X0_in ⟨Nat.le_of_ble_eq_true rfl, Nat.le_of_ble_eq_true rfl⟩) rfl (rest := []) (st1 := [.int u3]) rfl rfl rfl dX0_best_11 ⟨Nat.le_of_ble_eq_true rfl, Nat.le_of_ble_eq_true rfl⟩ (fun H locs hw => ?_)
    refine lv_if_ne (tgt := 19) hx hb dX0_best_14 (by decide) (fun c => ?_) (fun c => ?_)
    · have h := qi_f c h
      refine lv_aload_n hx hb dX0_best_19 rfl (lv_at hl 0 rfl) ?_
      refine r_getX (v := .ref (K.2.1 1)) E hw hC 0 (by decide) q238 rfl dX0_best_20 ?_
      refine r_getS1 (v := .ref (K.2.1 102)) hG E hw hC 2 (by decide) q195 rfl dX0_best_23 ?_
      refine lv_iload_n hx hb dX0_best_26 rfl (lv_at hl 1 rfl) ?_
      obtain ⟨z5, h⟩ := qif_s h
      refine r_gald (j := x1.toNatClampNeg) E hw (qg_102 hC).at (qok_in z5) rfl dX0_best_27 ?_
      refine lv_iconst (v := (2:Int32)) hx hb dX0_best_28 (by decide) ?_
      refine r_iald (j := 2) E hw (qi_f110 hC (k := x1.toNatClampNeg) (qok_lt z5)).at (q_lit (k := 2) (n := 4) rfl rfl) (q_clamp (k := 2) rfl) dX0_best_29 ?_
      obtain ⟨x4_6, e7, h⟩ := qlet_s h
      refine r_nm e7 ?_
      refine lv_istore (lv' := [(4, .int x4_6), (0, .ref (K.2.1 0)), (1, .int x1), (2, .int x2), (3, .int x3)]) hx hb dX0_best_30 hl (by decide) rfl (fun ls hl => ?_)
      refine lv_iload hx hb dX0_best_32 (lv_at hl 0 rfl) ?_
      refine lv_istore (lv' := [(5, .int x4_6), (4, .int x4_6), (0, .ref (K.2.1 0)), (1, .int x1), (2, .int x2), (3, .int x3)]) hx hb dX0_best_34 hl (by decide) rfl (fun ls hl => ?_)
      exact w_X0_best_36 hG hC hT E hr  _ _ _ _ _ _ _   h hw (lv_sub hl [2, 3, 4, 5, 1, 0] rfl)
    · have h := qi_t c h
      refine lv_iconst (v := (-1:Int32)) hx hb dX0_best_17 (by decide) ?_
      have h := Option.some.inj h
      obtain ⟨h1, h2⟩ := Prod.mk.inj h
      exact d_iret E hr rfl hw h1 (by rw [h2]) dX0_best_18

theorem m_X0_best (l : Launch) {K : QK} {G : State → Prop} (hG : QG G) (hC : QCl K) {rs : QA × QL × QX × QM} {T : Int32 → Option QT} {ta : Int32 → Nat} (hT : QTx K G rs.2.2.1 rs.2.2.2 T ta) {x1 : Int32} {x2 : Int32} {x3 : Int32} {A : QA} {ro : Int32} {Ao : QA} (h : f_X0_best T x1 x2 x3 A = some (ro, Ao)) : MC l K G yX0_best (ws_ yX0_best cX0_best 8 (some .int)) 74 4202 0 0 [.ref (K.2.1 0), .int x1, .int x2, .int x3] (A, rs) (QR (some (.int ro)) (Ao, rs)) := by
  refine MC.of (by decide) (Nat.le_of_ble_eq_true rfl) (lv := [(0, .ref (K.2.1 0)), (1, .int x1), (2, .int x2), (3, .int x3)]) rfl (fun p e s m below meth c ls E hr hl hw => ?_)
  exact w_X0_best_0 hG hC hT E hr _ _ _ _  h hw hl
