/-! written by dc.py: X0_harshest X0_guiltyBy X0_odds X0_guiltyCodes X0_clash X0_leastFacts X0_game X0_sessionBy X0_orders X0_session X0_wrongBy X0_turned X0_fewestWrong X0_whose X0_calm X0_standing -/
set_option maxRecDepth 100000
theorem kd_X0_guiltyBy : yX0_guiltyBy.cls ≠ "java/lang/invoke/MethodHandle" ∧ yX0_guiltyBy.cls ≠ "java/lang/invoke/VarHandle" ∧ (parseMethodDescriptor yX0_guiltyBy.desc).map (fun d => d.parameters.length) = some 3 := by decide +kernel
theorem kd_X0_guiltyCodes : yX0_guiltyCodes.cls ≠ "java/lang/invoke/MethodHandle" ∧ yX0_guiltyCodes.cls ≠ "java/lang/invoke/VarHandle" ∧ (parseMethodDescriptor yX0_guiltyCodes.desc).map (fun d => d.parameters.length) = some 2 := by decide +kernel
theorem kd_X0_orders : yX0_orders.cls ≠ "java/lang/invoke/MethodHandle" ∧ yX0_orders.cls ≠ "java/lang/invoke/VarHandle" ∧ (parseMethodDescriptor yX0_orders.desc).map (fun d => d.parameters.length) = some 2 := by decide +kernel
theorem kd_X0_sessionBy : yX0_sessionBy.cls ≠ "java/lang/invoke/MethodHandle" ∧ yX0_sessionBy.cls ≠ "java/lang/invoke/VarHandle" ∧ (parseMethodDescriptor yX0_sessionBy.desc).map (fun d => d.parameters.length) = some 1 := by decide +kernel
theorem kd_X0_wrongBy : yX0_wrongBy.cls ≠ "java/lang/invoke/MethodHandle" ∧ yX0_wrongBy.cls ≠ "java/lang/invoke/VarHandle" ∧ (parseMethodDescriptor yX0_wrongBy.desc).map (fun d => d.parameters.length) = some 2 := by decide +kernel
def f_X0_harshest_23 (T : Int32 → Option QT) (k14 : (Int32 → Int32 → Int32 → QA → Option (Int32 × QA))) : Nat → Int32 → Int32 → Int32 → Int32 → QA → Option (Int32 × QA)
  | 0, _, _, _, _, _ => none
  | n + 1, x1, x2, x3, x4, A => if (3:Int32) < x4 then (
  qlet (x3 + (1:Int32)) fun x3_3 =>
  k14 x1 x2 x3_3 A) else (
  qb2 (f_X0_endsIn T x1 x3 x4 A) fun u5 A6 =>
  if u5 = (0:Int32) then (
  qlet (x4 + (1:Int32)) fun x4_8 =>
  f_X0_harshest_23 T k14 n x1 x2 x3 x4_8 A6) else (
  qif (qok ((17:Int32) + x1) 154) <|
  qlet (if x2 < (A6 5 ((17:Int32) + x1).toNatClampNeg) then (A6 5 ((17:Int32) + x1).toNatClampNeg) else x2) fun x2_11 =>
  qlet (x4 + (1:Int32)) fun x4_13 =>
  f_X0_harshest_23 T k14 n x1 x2_11 x3 x4_13 A6))
set_option maxHeartbeats 4000000 in
theorem w_X0_harshest_23 {p : Program} {l : Launch} {e : Env} {s : State} {m : MethodId} {args : Array Value} {below : List Frame} {meth : Method} {c : Code} {K : QK} {G : State → Prop} {rs : QA × QL × QX × QM} {ro : Int32} {Ao : QA} (hG : QG G) (hC : QCl K) {T : Int32 → Option QT} {ta : Int32 → Nat} (hT : QTx K G rs.2.2.1 rs.2.2.2 T ta) (E : EV K G p s m args meth c cX0_harshest "VaneCourt" 5) (hr : meth.sig.returnType = (some .int)) {k14 : (Int32 → Int32 → Int32 → QA → Option (Int32 × QA))} (hk14 : ∀ (x1 : Int32) (x2 : Int32) (x3 : Int32) (A : QA) {H : Heap} {locs : List Loc} {ls : Array Slot}, k14 x1 x2 x3 A = some (ro, Ao) → WP K (A, rs) H locs → lv_has ls 5 [(0, .ref (K.2.1 0)), (1, .int x1), (2, .int x2), (3, .int x3)] → W p l e (qrm 74 4202 0 0) s m args below meth c H locs 0 0 (MQ below (QE K (QR (some (.int ro)) (Ao, rs))) args s 0 0 (qA K)) (F0 m 14 ls [])) : ∀ (n : Nat) (x1 : Int32) (x2 : Int32) (x3 : Int32) (x4 : Int32) (A : QA) {H : Heap} {locs : List Loc} {ls : Array Slot}, f_X0_harshest_23 T k14 n x1 x2 x3 x4 A = some (ro, Ao) → WP K (A, rs) H locs → lv_has ls 5 [(0, .ref (K.2.1 0)), (1, .int x1), (2, .int x2), (3, .int x3), (4, .int x4)] → W p l e (qrm 74 4202 0 0) s m args below meth c H locs 0 0 (MQ below (QE K (QR (some (.int ro)) (Ao, rs))) args s 0 0 (qA K)) (F0 m 23 ls []) := by
  have hx := E.1
  have hb := E.2.1
  have hown := E.2.2.1
  have hts := E.2.2.2.2.1
  intro n
  induction n with
  | zero =>
    intro x1 x2 x3 x4 A H locs ls  h hw hl
    cases h
  | succ n ih =>
    intro x1 x2 x3 x4 A H locs ls  h hw hl
    rw [f_X0_harshest_23] at h
    refine lv_iload hx hb dX0_harshest_23 (lv_at hl 4 rfl) ?_
    refine lv_iconst (v := (3:Int32)) hx hb dX0_harshest_25 (by decide) ?_
    refine lv_icmp_gt (tgt := 60) hx hb dX0_harshest_26 (by decide) (fun c => ?_) (fun c => ?_)
    · have h := qi_t c h
      obtain ⟨x3_3, e4, h⟩ := qlet_s h
      refine lv_iinc (v := x3_3) (lv' := [(3, .int x3_3), (0, .ref (K.2.1 0)), (1, .int x1), (2, .int x2), (4, .int x4)]) (k := 3) hx hb dX0_harshest_60 hl rfl (by rw [e4]; rfl) (by decide) rfl (fun ls hl => ?_)
      refine lv_goto (tgt := 14) hx hb dX0_harshest_63 (by decide) ?_
      exact hk14 _ _ _ _  h hw (lv_sub hl [1, 2, 3, 0] rfl)
    · have h := qi_f c h
      refine lv_aload_n hx hb dX0_harshest_29 rfl (lv_at hl 0 rfl) ?_
      refine lv_iload_n hx hb dX0_harshest_30 rfl (lv_at hl 1 rfl) ?_
      refine lv_iload_n hx hb dX0_harshest_31 rfl (lv_at hl 3 rfl) ?_
      refine lv_iload hx hb dX0_harshest_32 (lv_at hl 4 rfl) ?_
      obtain ⟨u5, A6, g7, h⟩ := qb2_s h
      refine d_V (As := [.int x1, .int x3, .int x4]) (v0 := some (.int u5)) (w0 := (A6, rs)) hG E hw hl (m_X0_endsIn l hG hC hT  g7) (qX0 hC) rfl (cwV 3 hts (lw_V q1194 q1196 qs46 q137 q1197) rfl rfl rfl ⟨rfl, kd_X0_endsIn⟩ ⟨Nat.le_of_ble_eq_true rfl, Nat.le_of_ble_eq_true rfl⟩) rfl (rest := []) (st1 := [.int u5]) rfl rfl rfl dX0_harshest_34 ⟨Nat.le_of_ble_eq_true rfl, Nat.le_of_ble_eq_true rfl⟩ (fun H locs hw => ?_)
      refine lv_if_eq (tgt := 54) hx hb dX0_harshest_37 (by decide) (fun c => ?_) (fun c => ?_)
      · have h := qi_t c h
        obtain ⟨x4_8, e9, h⟩ := qlet_s h
        refine lv_iinc (v := x4_8) (lv' := [(4, .int x4_8), (0, .ref (K.2.1 0)), (1, .int x1), (2, .int x2), (3, .int x3)]) (k := 4) hx hb dX0_harshest_54 hl rfl (by rw [e9]; rfl) (by decide) rfl (fun ls hl => ?_)
        refine lv_goto (tgt := 23) hx hb dX0_harshest_57 (by decide) ?_
        exact ih _ _ _ _ _  h hw (lv_sub hl [1, 2, 3, 4, 0] rfl)
      · have h := qi_f c h
        refine lv_iload_n hx hb dX0_harshest_40 rfl (lv_at hl 2 rfl) ?_
        refine lv_aload_n hx hb dX0_harshest_41 rfl (lv_at hl 0 rfl) ?_
        refine r_getX (v := .ref (K.2.1 5)) E hw hC 7 (by decide) q245 rfl dX0_harshest_42 ?_
        refine lv_bipush (v := (17:Int32)) hx hb dX0_harshest_45 (by decide) ?_
        refine lv_iload_n hx hb dX0_harshest_47 rfl (lv_at hl 1 rfl) ?_
        refine lv_iadd hx hb dX0_harshest_48 ?_
        obtain ⟨z10, h⟩ := qif_s h
        refine r_iald (j := ((17:Int32) + x1).toNatClampNeg) E hw (qi_5 hC).at (qok_in z10) rfl dX0_harshest_49 ?_
        refine va_mmax hx hb (E.2.2.2.2.2.2.2.trans hl.1.symm) hown (hts _ q1210) (hts _ q632) (hts _ q150) (hts _ q633) (Nat.le_of_ble_eq_true rfl) (Nat.le_of_ble_eq_true rfl) (Nat.le_refl _) (Nat.le_refl _) dX0_harshest_50 ?_
        obtain ⟨x2_11, e12, h⟩ := qlet_s h
        refine r_nm e12 ?_
        refine lv_istore_n (lv' := [(2, .int x2_11), (0, .ref (K.2.1 0)), (1, .int x1), (3, .int x3), (4, .int x4)]) hx hb dX0_harshest_53 rfl hl (by decide) rfl (fun ls hl => ?_)
        obtain ⟨x4_13, e14, h⟩ := qlet_s h
        refine lv_iinc (v := x4_13) (lv' := [(4, .int x4_13), (2, .int x2_11), (0, .ref (K.2.1 0)), (1, .int x1), (3, .int x3)]) (k := 4) hx hb dX0_harshest_54 hl rfl (by rw [e14]; rfl) (by decide) rfl (fun ls hl => ?_)
        refine lv_goto (tgt := 23) hx hb dX0_harshest_57 (by decide) ?_
        exact ih _ _ _ _ _  h hw (lv_sub hl [2, 3, 1, 4, 0] rfl)

def f_X0_harshest_14 (T : Int32 → Option QT) : Nat → Int32 → Int32 → Int32 → QA → Option (Int32 × QA)
  | 0, _, _, _, _ => none
  | n + 1, x1, x2, x3, A => if (20:Int32) < x3 then (
  some (x2, A)) else (
  f_X0_harshest_23 T (fun x1' x2' x3' A' => f_X0_harshest_14 T n x1' x2' x3' A') FU x1 x2 x3 (0:Int32) A)
set_option maxHeartbeats 4000000 in
theorem w_X0_harshest_14 {p : Program} {l : Launch} {e : Env} {s : State} {m : MethodId} {args : Array Value} {below : List Frame} {meth : Method} {c : Code} {K : QK} {G : State → Prop} {rs : QA × QL × QX × QM} {ro : Int32} {Ao : QA} (hG : QG G) (hC : QCl K) {T : Int32 → Option QT} {ta : Int32 → Nat} (hT : QTx K G rs.2.2.1 rs.2.2.2 T ta) (E : EV K G p s m args meth c cX0_harshest "VaneCourt" 5) (hr : meth.sig.returnType = (some .int)) : ∀ (n : Nat) (x1 : Int32) (x2 : Int32) (x3 : Int32) (A : QA) {H : Heap} {locs : List Loc} {ls : Array Slot}, f_X0_harshest_14 T n x1 x2 x3 A = some (ro, Ao) → WP K (A, rs) H locs → lv_has ls 5 [(0, .ref (K.2.1 0)), (1, .int x1), (2, .int x2), (3, .int x3)] → W p l e (qrm 74 4202 0 0) s m args below meth c H locs 0 0 (MQ below (QE K (QR (some (.int ro)) (Ao, rs))) args s 0 0 (qA K)) (F0 m 14 ls []) := by
  have hx := E.1
  have hb := E.2.1
  have hown := E.2.2.1
  have hts := E.2.2.2.2.1
  intro n
  induction n with
  | zero =>
    intro x1 x2 x3 A H locs ls  h hw hl
    cases h
  | succ n ih =>
    intro x1 x2 x3 A H locs ls  h hw hl
    rw [f_X0_harshest_14] at h
    refine lv_iload_n hx hb dX0_harshest_14 rfl (lv_at hl 3 rfl) ?_
    refine lv_bipush (v := (20:Int32)) hx hb dX0_harshest_15 (by decide) ?_
    refine lv_icmp_gt (tgt := 66) hx hb dX0_harshest_17 (by decide) (fun c => ?_) (fun c => ?_)
    · have h := qi_t c h
      refine lv_iload_n hx hb dX0_harshest_66 rfl (lv_at hl 2 rfl) ?_
      have h := Option.some.inj h
      obtain ⟨h1, h2⟩ := Prod.mk.inj h
      exact d_iret E hr rfl hw h1 (by rw [h2]) dX0_harshest_67
    · have h := qi_f c h
      refine lv_iconst (v := (0:Int32)) hx hb dX0_harshest_20 (by decide) ?_
      refine lv_istore (lv' := [(4, .int (0:Int32)), (0, .ref (K.2.1 0)), (1, .int x1), (2, .int x2), (3, .int x3)]) hx hb dX0_harshest_21 hl (by decide) rfl (fun ls hl => ?_)
      exact w_X0_harshest_23 hG hC hT E hr ih _ _ _ _ _ _   h hw (lv_sub hl [1, 2, 3, 4, 0] rfl)

def f_X0_harshest (T : Int32 → Option QT) (x1 : Int32) (A : QA) : Option (Int32 × QA) :=
  qb1 (f_X0_waits x1 A) fun u1 =>
  if u1 = (0:Int32) then (
  some ((-1:Int32), A)) else (
  f_X0_harshest_14 T FU x1 (0:Int32) (0:Int32) A)
set_option maxHeartbeats 4000000 in
theorem w_X0_harshest_0 {p : Program} {l : Launch} {e : Env} {s : State} {m : MethodId} {args : Array Value} {below : List Frame} {meth : Method} {c : Code} {K : QK} {G : State → Prop} {rs : QA × QL × QX × QM} {ro : Int32} {Ao : QA} (hG : QG G) (hC : QCl K) {T : Int32 → Option QT} {ta : Int32 → Nat} (hT : QTx K G rs.2.2.1 rs.2.2.2 T ta) (E : EV K G p s m args meth c cX0_harshest "VaneCourt" 5) (hr : meth.sig.returnType = (some .int)) : ∀ (x1 : Int32) (A : QA) {H : Heap} {locs : List Loc} {ls : Array Slot}, f_X0_harshest T x1 A = some (ro, Ao) → WP K (A, rs) H locs → lv_has ls 5 [(0, .ref (K.2.1 0)), (1, .int x1)] → W p l e (qrm 74 4202 0 0) s m args below meth c H locs 0 0 (MQ below (QE K (QR (some (.int ro)) (Ao, rs))) args s 0 0 (qA K)) (F0 m 0 ls []) := by
  have hx := E.1
  have hb := E.2.1
  have hown := E.2.2.1
  have hts := E.2.2.2.2.1
  intro x1 A H locs ls  h hw hl
  rw [f_X0_harshest] at h
  refine lv_aload_n hx hb dX0_harshest_0 rfl (lv_at hl 0 rfl) ?_
  refine lv_iload_n hx hb dX0_harshest_1 rfl (lv_at hl 1 rfl) ?_
  obtain ⟨u1, g2, h⟩ := qb1_s h
  refine d_V (As := [.int x1]) (v0 := some (.int u1)) (w0 := (A, rs)) hG E hw hl (m_X0_waits l hG hC  g2) (qX0 hC) rfl (cwV 1 hts (lw_V q1073 q1075 qs37 q137 q1076) rfl rfl rfl ⟨rfl, kd_X0_waits⟩ ⟨Nat.le_of_ble_eq_true rfl, Nat.le_of_ble_eq_true rfl⟩) rfl (rest := []) (st1 := [.int u1]) rfl rfl rfl dX0_harshest_2 ⟨Nat.le_of_ble_eq_true rfl, Nat.le_of_ble_eq_true rfl⟩ (fun H locs hw => ?_)
  refine lv_if_ne (tgt := 10) hx hb dX0_harshest_5 (by decide) (fun c => ?_) (fun c => ?_)
  · have h := qi_f c h
    refine lv_iconst (v := (0:Int32)) hx hb dX0_harshest_10 (by decide) ?_
    refine lv_istore_n (lv' := [(2, .int (0:Int32)), (0, .ref (K.2.1 0)), (1, .int x1)]) hx hb dX0_harshest_11 rfl hl (by decide) rfl (fun ls hl => ?_)
    refine lv_iconst (v := (0:Int32)) hx hb dX0_harshest_12 (by decide) ?_
    refine lv_istore_n (lv' := [(3, .int (0:Int32)), (2, .int (0:Int32)), (0, .ref (K.2.1 0)), (1, .int x1)]) hx hb dX0_harshest_13 rfl hl (by decide) rfl (fun ls hl => ?_)
    exact w_X0_harshest_14 hG hC hT E hr  _ _ _ _ _   h hw (lv_sub hl [2, 3, 1, 0] rfl)
  · have h := qi_t c h
    refine lv_iconst (v := (-1:Int32)) hx hb dX0_harshest_8 (by decide) ?_
    have h := Option.some.inj h
    obtain ⟨h1, h2⟩ := Prod.mk.inj h
    exact d_iret E hr rfl hw h1 (by rw [h2]) dX0_harshest_9

theorem m_X0_harshest (l : Launch) {K : QK} {G : State → Prop} (hG : QG G) (hC : QCl K) {rs : QA × QL × QX × QM} {T : Int32 → Option QT} {ta : Int32 → Nat} (hT : QTx K G rs.2.2.1 rs.2.2.2 T ta) {x1 : Int32} {A : QA} {ro : Int32} {Ao : QA} (h : f_X0_harshest T x1 A = some (ro, Ao)) : MC l K G yX0_harshest (ws_ yX0_harshest cX0_harshest 5 (some .int)) 74 4202 0 0 [.ref (K.2.1 0), .int x1] (A, rs) (QR (some (.int ro)) (Ao, rs)) := by
  refine MC.of (by decide) (Nat.le_of_ble_eq_true rfl) (lv := [(0, .ref (K.2.1 0)), (1, .int x1)]) rfl (fun p e s m below meth c ls E hr hl hw => ?_)
  exact w_X0_harshest_0 hG hC hT E hr _ _  h hw hl

def f_X0_guiltyBy_44 (slf : (Int32 → Int32 → Int32 → QA → Option (Int32 × QA))) (T : Int32 → Option QT) : Nat → Int32 → Int32 → Int32 → Int32 → Int32 → QA → Option (Int32 × QA)
  | 0, _, _, _, _, _, _ => none
  | n + 1, x1, x2, x3, x5, x6, A => if (10:Int32) ≤ x6 then (
  some (x5, A)) else (
  qif (qok x1 3) <|
  qif (qok (x1 + (1:Int32)) 3) <|
  qlet (qset A (7 + (x1 + (1:Int32)).toNatClampNeg) (va_cpy (A (7 + x1.toNatClampNeg)) (A (7 + (x1 + (1:Int32)).toNatClampNeg)) 0 0 154)) fun A7 =>
  qb1 (f_X0_blows T (7 + (x1 + (1:Int32)).toNatClampNeg) x6 A7) fun A9 =>
  qb2 (slf (x1 + (1:Int32)) (x2 - (1:Int32)) x3 A9) fun u11 A12 =>
  qlet (x5 + u11) fun x5_14 =>
  qlet (x6 + (1:Int32)) fun x6_16 =>
  f_X0_guiltyBy_44 slf T n x1 x2 x3 x5_14 x6_16 A12)
set_option maxHeartbeats 4000000 in
theorem w_X0_guiltyBy_44 {f1 l1 : Nat} {p : Program} {l : Launch} {e : Env} {s : State} {m : MethodId} {args : Array Value} {below : List Frame} {meth : Method} {c : Code} {K : QK} {G : State → Prop} {rs : QA × QL × QX × QM} {ro : Int32} {Ao : QA} (hG : QG G) (hC : QCl K) {T : Int32 → Option QT} {ta : Int32 → Nat} (hT : QTx K G rs.2.2.1 rs.2.2.2 T ta) (E : EV K G p s m args meth c cX0_guiltyBy "VaneCourt" 7) (hr : meth.sig.returnType = (some .int)) {slf : (Int32 → Int32 → Int32 → QA → Option (Int32 × QA))} (hslf : ∀ (x1 : Int32) (x2 : Int32) (x3 : Int32) (A : QA) (ro : Int32) (Ao : QA), slf x1 x2 x3 A = some (ro, Ao) → MC l K G yX0_guiltyBy (ws_ yX0_guiltyBy cX0_guiltyBy 7 (some .int)) f1 l1 0 0 [.ref (K.2.1 0), .int x1, .int x2, .int x3] (A, rs) (QR (some (.int ro)) (Ao, rs))) : ∀ (n : Nat) (x1 : Int32) (x2 : Int32) (x3 : Int32) (x5 : Int32) (x6 : Int32) (A : QA) {H : Heap} {locs : List Loc} {ls : Array Slot}, f_X0_guiltyBy_44 slf T n x1 x2 x3 x5 x6 A = some (ro, Ao) → WP K (A, rs) H locs → lv_has ls 7 [(0, .ref (K.2.1 0)), (1, .int x1), (2, .int x2), (3, .int x3), (5, .int x5), (6, .int x6)] → W p l e (qrm (f1 + 120) (l1 + 6000) 0 0) s m args below meth c H locs 0 0 (MQ below (QE K (QR (some (.int ro)) (Ao, rs))) args s 0 0 (qA K)) (F0 m 44 ls []) := by
  have hx := E.1
  have hb := E.2.1
  have hown := E.2.2.1
  have hts := E.2.2.2.2.1
  intro n
  induction n with
  | zero =>
    intro x1 x2 x3 x5 x6 A H locs ls  h hw hl
    cases h
  | succ n ih =>
    intro x1 x2 x3 x5 x6 A H locs ls  h hw hl
    rw [f_X0_guiltyBy_44] at h
    refine lv_iload hx hb dX0_guiltyBy_44 (lv_at hl 5 rfl) ?_
    refine lv_bipush (v := (10:Int32)) hx hb dX0_guiltyBy_46 (by decide) ?_
    refine lv_icmp_ge (tgt := 104) hx hb dX0_guiltyBy_48 (by decide) (fun c => ?_) (fun c => ?_)
    · have h := qi_t c h
      refine lv_iload hx hb dX0_guiltyBy_104 (lv_at hl 4 rfl) ?_
      have h := Option.some.inj h
      obtain ⟨h1, h2⟩ := Prod.mk.inj h
      exact d_iret E hr rfl hw h1 (by rw [h2]) dX0_guiltyBy_106
    · have h := qi_f c h
      refine lv_aload_n hx hb dX0_guiltyBy_51 rfl (lv_at hl 0 rfl) ?_
      refine r_getX (v := .ref (K.2.1 6)) E hw hC 8 (by decide) q246 rfl dX0_guiltyBy_52 ?_
      refine lv_iload_n hx hb dX0_guiltyBy_55 rfl (lv_at hl 1 rfl) ?_
      obtain ⟨z5, h⟩ := qif_s h
      refine r_gald (j := x1.toNatClampNeg) E hw (qg_6 hC).at (qok_in z5) rfl dX0_guiltyBy_56 ?_
      refine lv_aload_n hx hb dX0_guiltyBy_57 rfl (lv_at hl 0 rfl) ?_
      refine r_getX (v := .ref (K.2.1 6)) E hw hC 8 (by decide) q246 rfl dX0_guiltyBy_58 ?_
      refine lv_iload_n hx hb dX0_guiltyBy_61 rfl (lv_at hl 1 rfl) ?_
      refine lv_iconst (v := (1:Int32)) hx hb dX0_guiltyBy_62 (by decide) ?_
      refine lv_iadd hx hb dX0_guiltyBy_63 ?_
      obtain ⟨z6, h⟩ := qif_s h
      refine r_gald (j := (x1 + (1:Int32)).toNatClampNeg) E hw (qg_6 hC).at (qok_in z6) rfl dX0_guiltyBy_64 ?_
      obtain ⟨A7, e8, h⟩ := qlet_s h
      refine d_SN (As := [.ref (K.2.1 (7 + x1.toNatClampNeg)), .ref (K.2.1 (7 + (x1 + (1:Int32)).toNatClampNeg))]) (v0 := none) hG E hw hl (m_X1_copy l hG hC (qi_f7 hC (k := x1.toNatClampNeg) (qok_lt z5)) (qi_f7 hC (k := (x1 + (1:Int32)).toNatClampNeg) (qok_lt z6)) (Nat.le_of_ble_eq_true rfl)) ⟨va_cnB 2 hts (lw_meth q231) rfl rfl rfl (hG.2.2 s _ E.2.2.2.2.2.1 q1169 rfl) (hts _ q138) kd_X1_copy ⟨(show 1 + 1 ≤ f1 + 120 by omega), (show 8 + (2 + 11) + 40 ≤ l1 + 6000 by omega)⟩, hts _ q230, trivial⟩ rfl (rest := []) (st1 := []) rfl rfl rfl dX0_guiltyBy_65 ⟨Nat.le_of_ble_eq_true rfl, Nat.le_of_ble_eq_true rfl⟩ (fun H locs hw => ?_)
      rw [← e8] at hw
      refine lv_aload_n hx hb dX0_guiltyBy_68 rfl (lv_at hl 0 rfl) ?_
      refine lv_aload_n hx hb dX0_guiltyBy_69 rfl (lv_at hl 0 rfl) ?_
      refine r_getX (v := .ref (K.2.1 6)) E hw hC 8 (by decide) q246 rfl dX0_guiltyBy_70 ?_
      refine lv_iload_n hx hb dX0_guiltyBy_73 rfl (lv_at hl 1 rfl) ?_
      refine lv_iconst (v := (1:Int32)) hx hb dX0_guiltyBy_74 (by decide) ?_
      refine lv_iadd hx hb dX0_guiltyBy_75 ?_
      refine r_gald (j := (x1 + (1:Int32)).toNatClampNeg) E hw (qg_6 hC).at (qok_in z6) rfl dX0_guiltyBy_76 ?_
      refine lv_iload hx hb dX0_guiltyBy_77 (lv_at hl 5 rfl) ?_
      obtain ⟨A9, g10, h⟩ := qb1_s h
      refine d_V (As := [.ref (K.2.1 (7 + (x1 + (1:Int32)).toNatClampNeg)), .int x6]) (v0 := none) (w0 := (A9, rs)) hG E hw hl (m_X0_blows l hG hC hT (qi_f7 hC (k := (x1 + (1:Int32)).toNatClampNeg) (qok_lt z6)) g10) (qX0 hC) rfl (cwV 2 hts (lw_V q1061 q1063 qs35 q137 q1064) rfl rfl rfl ⟨rfl, kd_X0_blows⟩ ⟨(show 67 + 1 ≤ f1 + 120 by omega), (show 8 + (6 + 11) + 4040 ≤ l1 + 6000 by omega)⟩) rfl (rest := []) (st1 := []) rfl rfl rfl dX0_guiltyBy_79 ⟨Nat.le_of_ble_eq_true rfl, Nat.le_of_ble_eq_true rfl⟩ (fun H locs hw => ?_)
      refine lv_iload hx hb dX0_guiltyBy_82 (lv_at hl 4 rfl) ?_
      refine lv_aload_n hx hb dX0_guiltyBy_84 rfl (lv_at hl 0 rfl) ?_
      refine lv_iload_n hx hb dX0_guiltyBy_85 rfl (lv_at hl 1 rfl) ?_
      refine lv_iconst (v := (1:Int32)) hx hb dX0_guiltyBy_86 (by decide) ?_
      refine lv_iadd hx hb dX0_guiltyBy_87 ?_
      refine lv_iload_n hx hb dX0_guiltyBy_88 rfl (lv_at hl 2 rfl) ?_
      refine lv_iconst (v := (1:Int32)) hx hb dX0_guiltyBy_89 (by decide) ?_
      refine lv_isub hx hb dX0_guiltyBy_90 ?_
      refine lv_iload_n hx hb dX0_guiltyBy_91 rfl (lv_at hl 3 rfl) ?_
      obtain ⟨u11, A12, g13, h⟩ := qb2_s h
      refine d_V (As := [.int (x1 + (1:Int32)), .int (x2 - (1:Int32)), .int x3]) (v0 := some (.int u11)) (w0 := (A12, rs)) hG E hw hl (hslf _ _ _ _ _ _  g13) (qX0 hC) rfl (cwV 3 hts (lw_V q1216 q1218 qs48 q137 q1219) rfl rfl rfl ⟨rfl, kd_X0_guiltyBy⟩ ⟨(show f1 + 1 ≤ f1 + 120 by omega), (show 8 + (7 + 11) + l1 ≤ l1 + 6000 by omega)⟩) rfl (rest := [.int x5]) (st1 := [.int u11, .int x5]) rfl rfl rfl dX0_guiltyBy_92 ⟨Nat.le_of_ble_eq_true rfl, Nat.le_of_ble_eq_true rfl⟩ (fun H locs hw => ?_)
      refine lv_iadd hx hb dX0_guiltyBy_95 ?_
      obtain ⟨x5_14, e15, h⟩ := qlet_s h
      refine r_nm e15 ?_
      refine lv_istore (lv' := [(5, .int x5_14), (0, .ref (K.2.1 0)), (1, .int x1), (2, .int x2), (3, .int x3), (6, .int x6)]) hx hb dX0_guiltyBy_96 hl (by decide) rfl (fun ls hl => ?_)
      obtain ⟨x6_16, e17, h⟩ := qlet_s h
      refine lv_iinc (v := x6_16) (lv' := [(6, .int x6_16), (5, .int x5_14), (0, .ref (K.2.1 0)), (1, .int x1), (2, .int x2), (3, .int x3)]) (k := 5) hx hb dX0_guiltyBy_98 hl rfl (by rw [e17]; rfl) (by decide) rfl (fun ls hl => ?_)
      refine lv_goto (tgt := 44) hx hb dX0_guiltyBy_101 (by decide) ?_
      exact ih _ _ _ _ _ _  h hw (lv_sub hl [2, 3, 4, 5, 1, 0] rfl)

def f_X0_guiltyBy_0 (slf : (Int32 → Int32 → Int32 → QA → Option (Int32 × QA))) (T : Int32 → Option QT) (x1 : Int32) (x2 : Int32) (x3 : Int32) (A : QA) : Option (Int32 × QA) :=
  qif (qok x1 3) <|
  qb2 (f_X0_hears T (7 + x1.toNatClampNeg) A) fun u2 A3 =>
  if x2 = (1:Int32) then (
  qif (qok ((9:Int32) + x3) 154) <|
  if (A3 (7 + x1.toNatClampNeg) ((9:Int32) + x3).toNatClampNeg) = (3:Int32) then (
  some ((1:Int32), A3)) else (
  some ((0:Int32), A3))) else (
  f_X0_guiltyBy_44 slf T FU x1 x2 x3 (0:Int32) (0:Int32) A3)
set_option maxHeartbeats 4000000 in
theorem w_X0_guiltyBy_0 {f1 l1 : Nat} {p : Program} {l : Launch} {e : Env} {s : State} {m : MethodId} {args : Array Value} {below : List Frame} {meth : Method} {c : Code} {K : QK} {G : State → Prop} {rs : QA × QL × QX × QM} {ro : Int32} {Ao : QA} (hG : QG G) (hC : QCl K) {T : Int32 → Option QT} {ta : Int32 → Nat} (hT : QTx K G rs.2.2.1 rs.2.2.2 T ta) (E : EV K G p s m args meth c cX0_guiltyBy "VaneCourt" 7) (hr : meth.sig.returnType = (some .int)) {slf : (Int32 → Int32 → Int32 → QA → Option (Int32 × QA))} (hslf : ∀ (x1 : Int32) (x2 : Int32) (x3 : Int32) (A : QA) (ro : Int32) (Ao : QA), slf x1 x2 x3 A = some (ro, Ao) → MC l K G yX0_guiltyBy (ws_ yX0_guiltyBy cX0_guiltyBy 7 (some .int)) f1 l1 0 0 [.ref (K.2.1 0), .int x1, .int x2, .int x3] (A, rs) (QR (some (.int ro)) (Ao, rs))) : ∀ (x1 : Int32) (x2 : Int32) (x3 : Int32) (A : QA) {H : Heap} {locs : List Loc} {ls : Array Slot}, f_X0_guiltyBy_0 slf T x1 x2 x3 A = some (ro, Ao) → WP K (A, rs) H locs → lv_has ls 7 [(0, .ref (K.2.1 0)), (1, .int x1), (2, .int x2), (3, .int x3)] → W p l e (qrm (f1 + 120) (l1 + 6000) 0 0) s m args below meth c H locs 0 0 (MQ below (QE K (QR (some (.int ro)) (Ao, rs))) args s 0 0 (qA K)) (F0 m 0 ls []) := by
  have hx := E.1
  have hb := E.2.1
  have hown := E.2.2.1
  have hts := E.2.2.2.2.1
  intro x1 x2 x3 A H locs ls  h hw hl
  rw [f_X0_guiltyBy_0] at h
  refine lv_aload_n hx hb dX0_guiltyBy_0 rfl (lv_at hl 0 rfl) ?_
  refine lv_aload_n hx hb dX0_guiltyBy_1 rfl (lv_at hl 0 rfl) ?_
  refine r_getX (v := .ref (K.2.1 6)) E hw hC 8 (by decide) q246 rfl dX0_guiltyBy_2 ?_
  refine lv_iload_n hx hb dX0_guiltyBy_5 rfl (lv_at hl 1 rfl) ?_
  obtain ⟨z1, h⟩ := qif_s h
  refine r_gald (j := x1.toNatClampNeg) E hw (qg_6 hC).at (qok_in z1) rfl dX0_guiltyBy_6 ?_
  obtain ⟨u2, A3, g4, h⟩ := qb2_s h
  refine d_V (As := [.ref (K.2.1 (7 + x1.toNatClampNeg))]) (v0 := some (.int u2)) (w0 := (A3, rs)) hG E hw hl (m_X0_hears l hG hC hT (qi_f7 hC (k := x1.toNatClampNeg) (qok_lt z1)) g4) (qX0 hC) rfl (cwV 1 hts (lw_V q899 q901 qs28 q137 q902) rfl rfl rfl ⟨rfl, kd_X0_hears⟩ ⟨(show 69 + 1 ≤ f1 + 120 by omega), (show 8 + (4 + 11) + 4089 ≤ l1 + 6000 by omega)⟩) rfl (rest := []) (st1 := [.int u2]) rfl rfl rfl dX0_guiltyBy_7 ⟨Nat.le_of_ble_eq_true rfl, Nat.le_of_ble_eq_true rfl⟩ (fun H locs hw => ?_)
  refine lv_istore (lv' := [(4, .int u2), (0, .ref (K.2.1 0)), (1, .int x1), (2, .int x2), (3, .int x3)]) hx hb dX0_guiltyBy_10 hl (by decide) rfl (fun ls hl => ?_)
  refine lv_iload_n hx hb dX0_guiltyBy_12 rfl (lv_at hl 3 rfl) ?_
  refine lv_iconst (v := (1:Int32)) hx hb dX0_guiltyBy_13 (by decide) ?_
  refine lv_icmp_ne (tgt := 38) hx hb dX0_guiltyBy_14 (by decide) (fun c => ?_) (fun c => ?_)
  · have h := qi_f c h
    refine lv_iconst (v := (0:Int32)) hx hb dX0_guiltyBy_38 (by decide) ?_
    refine lv_istore (lv' := [(5, .int (0:Int32)), (4, .int u2), (0, .ref (K.2.1 0)), (1, .int x1), (2, .int x2), (3, .int x3)]) hx hb dX0_guiltyBy_39 hl (by decide) rfl (fun ls hl => ?_)
    refine lv_iconst (v := (0:Int32)) hx hb dX0_guiltyBy_41 (by decide) ?_
    refine lv_istore (lv' := [(6, .int (0:Int32)), (5, .int (0:Int32)), (4, .int u2), (0, .ref (K.2.1 0)), (1, .int x1), (2, .int x2), (3, .int x3)]) hx hb dX0_guiltyBy_42 hl (by decide) rfl (fun ls hl => ?_)
    exact w_X0_guiltyBy_44 hG hC hT E hr hslf _ _ _ _ _ _ _   h hw (lv_sub hl [3, 4, 5, 6, 1, 0] rfl)
  · have h := qi_t c h
    refine lv_aload_n hx hb dX0_guiltyBy_17 rfl (lv_at hl 1 rfl) ?_
    refine r_getX (v := .ref (K.2.1 6)) E hw hC 8 (by decide) q246 rfl dX0_guiltyBy_18 ?_
    refine lv_iload_n hx hb dX0_guiltyBy_21 rfl (lv_at hl 2 rfl) ?_
    refine r_gald (j := x1.toNatClampNeg) E hw (qg_6 hC).at (qok_in z1) rfl dX0_guiltyBy_22 ?_
    refine lv_bipush (v := (9:Int32)) hx hb dX0_guiltyBy_23 (by decide) ?_
    refine lv_iload_n hx hb dX0_guiltyBy_25 rfl (lv_at hl 4 rfl) ?_
    refine lv_iadd hx hb dX0_guiltyBy_26 ?_
    obtain ⟨z18, h⟩ := qif_s h
    refine r_iald (j := ((9:Int32) + x3).toNatClampNeg) E hw (qi_f7 hC (k := x1.toNatClampNeg) (qok_lt z1)).at (qok_in z18) rfl dX0_guiltyBy_27 ?_
    refine lv_iconst (v := (3:Int32)) hx hb dX0_guiltyBy_28 (by decide) ?_
    refine lv_icmp_ne (tgt := 36) hx hb dX0_guiltyBy_29 (by decide) (fun c => ?_) (fun c => ?_)
    · have h := qi_f c h
      refine lv_iconst (v := (0:Int32)) hx hb dX0_guiltyBy_36 (by decide) ?_
      have h := Option.some.inj h
      obtain ⟨h1, h2⟩ := Prod.mk.inj h
      exact d_iret E hr rfl hw h1 (by rw [h2]) dX0_guiltyBy_37
    · have h := qi_t c h
      refine lv_iconst (v := (1:Int32)) hx hb dX0_guiltyBy_32 (by decide) ?_
      refine lv_goto (tgt := 37) hx hb dX0_guiltyBy_33 (by decide) ?_
      have h := Option.some.inj h
      obtain ⟨h1, h2⟩ := Prod.mk.inj h
      exact d_iret E hr rfl hw h1 (by rw [h2]) dX0_guiltyBy_37

def f_X0_guiltyBy (T : Int32 → Option QT) : Nat → Int32 → Int32 → Int32 → QA → Option (Int32 × QA)
  | 0, _, _, _, _ => none
  | d + 1, x1, x2, x3, A => f_X0_guiltyBy_0 (f_X0_guiltyBy T d) T x1 x2 x3 A

theorem m_X0_guiltyBy_d (l : Launch) {K : QK} {G : State → Prop} (hG : QG G) (hC : QCl K) {rs : QA × QL × QX × QM} {T : Int32 → Option QT} {ta : Int32 → Nat} (hT : QTx K G rs.2.2.1 rs.2.2.2 T ta) : ∀ (d : Nat) (x1 : Int32) (x2 : Int32) (x3 : Int32) (A : QA) (ro : Int32) (Ao : QA), f_X0_guiltyBy T d x1 x2 x3 A = some (ro, Ao) → MC l K G yX0_guiltyBy (ws_ yX0_guiltyBy cX0_guiltyBy 7 (some .int)) (d * 120) (d * 6000) 0 0 [.ref (K.2.1 0), .int x1, .int x2, .int x3] (A, rs) (QR (some (.int ro)) (Ao, rs)) := by
  intro d
  induction d with
  | zero =>
    intro x1 x2 x3 A ro Ao h
    cases h
  | succ d ih =>
    intro x1 x2 x3 A ro Ao h
    rw [f_X0_guiltyBy] at h
    rw [Nat.succ_mul, Nat.succ_mul]
    refine MC.of (by decide) (Nat.le_of_ble_eq_true rfl) (lv := [(0, .ref (K.2.1 0)), (1, .int x1), (2, .int x2), (3, .int x3)]) rfl (fun p e s m below meth c ls E hr hl hw => ?_)
    exact w_X0_guiltyBy_0 hG hC hT E hr ih _ _ _ _  h hw hl
theorem m_X0_guiltyBy (l : Launch) {K : QK} {G : State → Prop} (hG : QG G) (hC : QCl K) {rs : QA × QL × QX × QM} {T : Int32 → Option QT} {ta : Int32 → Nat} (hT : QTx K G rs.2.2.1 rs.2.2.2 T ta) {d : Nat} {x1 : Int32} {x2 : Int32} {x3 : Int32} {A : QA} {ro : Int32} {Ao : QA} (h : f_X0_guiltyBy T d x1 x2 x3 A = some (ro, Ao)) : MC l K G yX0_guiltyBy (ws_ yX0_guiltyBy cX0_guiltyBy 7 (some .int)) (d * 120) (d * 6000) 0 0 [.ref (K.2.1 0), .int x1, .int x2, .int x3] (A, rs) (QR (some (.int ro)) (Ao, rs)) := m_X0_guiltyBy_d l hG hC hT d _ _ _ _ _ _  h

def f_X0_odds_52 (T : Int32 → Option QT) (x1 : Int32) (x2 : Int32) (s0 : Int32) (A : QA) : Option (Int64 × QA) :=
  if x2 = (-1:Int32) then (
  some ((-1:Int64), A)) else (
  if s0 ≤ (3:Int32) then (
  qlet (qset A (7 + 0) (va_cpy (A 101) (A (7 + 0)) 0 0 154)) fun A4 =>
  qb2 (f_X0_guiltyBy T 5 (0:Int32) s0 x2 A4) fun u6 A7 =>
  qlet (u6).toInt64 fun x4_9 =>
  qb1 (f_X0_tens 6 (s0 - (1:Int32))) fun u11 =>
  qb1 (f_X0_common 20 (u11).toInt64 x4_9) fun u13 =>
  if x1 = (0:Int32) then (
  qif (decide (¬ u13 = 0)) <|
  some ((x4_9 / u13), A7)) else (
  qb1 (f_X0_tens 6 (s0 - (1:Int32))) fun u16 =>
  qif (decide (¬ u13 = 0)) <|
  some (((u16).toInt64 / u13), A7))) else (
  some ((-1:Int64), A)))
set_option maxHeartbeats 4000000 in
theorem w_X0_odds_52 {p : Program} {l : Launch} {e : Env} {s : State} {m : MethodId} {args : Array Value} {below : List Frame} {meth : Method} {c : Code} {K : QK} {G : State → Prop} {rs : QA × QL × QX × QM} {ro : Int64} {Ao : QA} (hG : QG G) (hC : QCl K) {T : Int32 → Option QT} {ta : Int32 → Nat} (hT : QTx K G rs.2.2.1 rs.2.2.2 T ta) (E : EV K G p s m args meth c cX0_odds "VaneCourt" 8) (hr : meth.sig.returnType = (some .long)) : ∀ (x1 : Int32) (x2 : Int32) (s0 : Int32) (A : QA) {H : Heap} {locs : List Loc} {ls : Array Slot}, f_X0_odds_52 T x1 x2 s0 A = some (ro, Ao) → WP K (A, rs) H locs → lv_has ls 8 [(0, .ref (K.2.1 0)), (1, .int x1), (2, .int x2)] → W p l e (qrm 601 30026 0 0) s m args below meth c H locs 0 0 (MQ below (QE K (QR (some (.long ro)) (Ao, rs))) args s 0 0 (qA K)) (F0 m 52 ls [.int s0]) := by
  have hx := E.1
  have hb := E.2.1
  have hown := E.2.2.1
  have hts := E.2.2.2.2.1
  intro x1 x2 s0 A H locs ls  h hw hl
  rw [f_X0_odds_52] at h
  refine lv_istore_n (lv' := [(3, .int s0), (0, .ref (K.2.1 0)), (1, .int x1), (2, .int x2)]) hx hb dX0_odds_52 rfl hl (by decide) rfl (fun ls hl => ?_)
  refine lv_iload_n hx hb dX0_odds_53 rfl (lv_at hl 3 rfl) ?_
  refine lv_iconst (v := (-1:Int32)) hx hb dX0_odds_54 (by decide) ?_
  refine lv_icmp_eq (tgt := 63) hx hb dX0_odds_55 (by decide) (fun c => ?_) (fun c => ?_)
  · have h := qi_t c h
    refine lv_ldc2 (v := (-1:Int64)) hx hb hown (hts _ q1215) dX0_odds_63 ?_
    have h := Option.some.inj h
    obtain ⟨h1, h2⟩ := Prod.mk.inj h
    exact d_lret E hr hw h1 (by rw [h2]) dX0_odds_66
  · have h := qi_f c h
    refine lv_iload_n hx hb dX0_odds_58 rfl (lv_at hl 0 rfl) ?_
    refine lv_iconst (v := (3:Int32)) hx hb dX0_odds_59 (by decide) ?_
    refine lv_icmp_le (tgt := 67) hx hb dX0_odds_60 (by decide) (fun c => ?_) (fun c => ?_)
    · have h := qi_t c h
      refine lv_aload_n hx hb dX0_odds_67 rfl (lv_at hl 1 rfl) ?_
      refine r_getX (v := .ref (K.2.1 1)) E hw hC 0 (by decide) q238 rfl dX0_odds_68 ?_
      refine r_getS1 (v := .ref (K.2.1 101)) hG E hw hC 1 (by decide) q193 rfl dX0_odds_71 ?_
      refine lv_aload_n hx hb dX0_odds_74 rfl (lv_at hl 1 rfl) ?_
      refine r_getX (v := .ref (K.2.1 6)) E hw hC 8 (by decide) q246 rfl dX0_odds_75 ?_
      refine lv_iconst (v := (0:Int32)) hx hb dX0_odds_78 (by decide) ?_
      refine r_gald (j := 0) E hw (qg_6 hC).at (q_lit (k := 0) (n := 3) rfl rfl) (q_clamp (k := 0) rfl) dX0_odds_79 ?_
      obtain ⟨A4, e5, h⟩ := qlet_s h
      refine d_SN (As := [.ref (K.2.1 101), .ref (K.2.1 (7 + 0))]) (v0 := none) hG E hw hl (m_X1_copy l hG hC (qi_101 hC) (qi_f7 hC (k := 0) (show 0 < 3 by decide)) (Nat.le_of_ble_eq_true rfl)) ⟨va_cnB 2 hts (lw_meth q231) rfl rfl rfl (hG.2.2 s _ E.2.2.2.2.2.1 q1169 rfl) (hts _ q138) kd_X1_copy ⟨Nat.le_of_ble_eq_true rfl, Nat.le_of_ble_eq_true rfl⟩, hts _ q230, trivial⟩ rfl (rest := []) (st1 := []) rfl rfl rfl dX0_odds_80 ⟨Nat.le_of_ble_eq_true rfl, Nat.le_of_ble_eq_true rfl⟩ (fun H locs hw => ?_)
      rw [← e5] at hw
      refine lv_aload_n hx hb dX0_odds_83 rfl (lv_at hl 1 rfl) ?_
      refine lv_iconst (v := (0:Int32)) hx hb dX0_odds_84 (by decide) ?_
      refine lv_iload_n hx hb dX0_odds_85 rfl (lv_at hl 0 rfl) ?_
      refine lv_iload_n hx hb dX0_odds_86 rfl (lv_at hl 3 rfl) ?_
      obtain ⟨u6, A7, g8, h⟩ := qb2_s h
      refine d_V (As := [.int (0:Int32), .int s0, .int x2]) (v0 := some (.int u6)) (w0 := (A7, rs)) hG E hw hl (m_X0_guiltyBy l hG hC hT  g8) (qX0 hC) rfl (cwV 3 hts (lw_V q1216 q1218 qs48 q137 q1219) rfl rfl rfl ⟨rfl, kd_X0_guiltyBy⟩ ⟨Nat.le_of_ble_eq_true rfl, Nat.le_of_ble_eq_true rfl⟩) rfl (rest := []) (st1 := [.int u6]) rfl rfl rfl dX0_odds_87 ⟨Nat.le_of_ble_eq_true rfl, Nat.le_of_ble_eq_true rfl⟩ (fun H locs hw => ?_)
      refine lv_i2l hx hb dX0_odds_90 rfl ?_
      obtain ⟨x4_9, e10, h⟩ := qlet_s h
      refine r_nml e10 ?_
      refine lv_lstore (lv' := [(4, .long x4_9), (3, .int s0), (0, .ref (K.2.1 0)), (1, .int x1), (2, .int x2)]) hx hb dX0_odds_91 hl (by decide) rfl (fun ls hl => ?_)
      refine lv_iload_n hx hb dX0_odds_93 rfl (lv_at hl 1 rfl) ?_
      refine lv_iconst (v := (1:Int32)) hx hb dX0_odds_94 (by decide) ?_
      refine lv_isub hx hb dX0_odds_95 ?_
      obtain ⟨u11, g12, h⟩ := qb1_s h
      refine d_S (As := [.int (s0 - (1:Int32))]) (v0 := some (.int u11)) (w0 := (A7, rs)) hG E hw hl (m_X0_tens l hG hC  g12) (va_cwS 1 hts (lw_S q1220 q1221 q137 q1222) rfl rfl rfl kd_X0_tens ⟨Nat.le_of_ble_eq_true rfl, Nat.le_of_ble_eq_true rfl⟩) rfl (rest := []) (st1 := [.int u11]) rfl rfl rfl dX0_odds_96 ⟨Nat.le_of_ble_eq_true rfl, Nat.le_of_ble_eq_true rfl⟩ (fun H locs hw => ?_)
      refine lv_i2l hx hb dX0_odds_99 rfl ?_
      refine lv_lload hx hb dX0_odds_100 (lv_at hl 0 rfl) ?_
      obtain ⟨u13, g14, h⟩ := qb1_s h
      refine d_S (As := [.long (u11).toInt64, .long x4_9]) (v0 := some (.long u13)) (w0 := (A7, rs)) hG E hw hl (m_X0_common l hG hC  g14) (va_cwS 2 hts (lw_S q1223 q1224 q137 q1225) rfl rfl rfl kd_X0_common ⟨Nat.le_of_ble_eq_true rfl, Nat.le_of_ble_eq_true rfl⟩) rfl (rest := []) (st1 := [.long u13]) rfl rfl rfl dX0_odds_102 ⟨Nat.le_of_ble_eq_true rfl, Nat.le_of_ble_eq_true rfl⟩ (fun H locs hw => ?_)
      refine lv_lstore (lv' := [(6, .long u13), (4, .long x4_9), (3, .int s0), (0, .ref (K.2.1 0)), (1, .int x1), (2, .int x2)]) hx hb dX0_odds_105 hl (by decide) rfl (fun ls hl => ?_)
      refine lv_iload_n hx hb dX0_odds_107 rfl (lv_at hl 4 rfl) ?_
      refine lv_if_eq (tgt := 124) hx hb dX0_odds_108 (by decide) (fun c => ?_) (fun c => ?_)
      · have h := qi_t c h
        refine lv_lload hx hb dX0_odds_124 (lv_at hl 1 rfl) ?_
        refine lv_lload hx hb dX0_odds_126 (lv_at hl 0 rfl) ?_
        obtain ⟨z15, h⟩ := qif_s h
        refine lv_ldiv hx hb dX0_odds_128 (of_decide_eq_true z15) ?_
        have h := Option.some.inj h
        obtain ⟨h1, h2⟩ := Prod.mk.inj h
        exact d_lret E hr hw h1 (by rw [h2]) dX0_odds_129
      · have h := qi_f c h
        refine lv_iload_n hx hb dX0_odds_111 rfl (lv_at hl 2 rfl) ?_
        refine lv_iconst (v := (1:Int32)) hx hb dX0_odds_112 (by decide) ?_
        refine lv_isub hx hb dX0_odds_113 ?_
        obtain ⟨u16, g17, h⟩ := qb1_s h
        refine d_S (As := [.int (s0 - (1:Int32))]) (v0 := some (.int u16)) (w0 := (A7, rs)) hG E hw hl (m_X0_tens l hG hC  g17) (va_cwS 1 hts (lw_S q1220 q1221 q137 q1222) rfl rfl rfl kd_X0_tens ⟨Nat.le_of_ble_eq_true rfl, Nat.le_of_ble_eq_true rfl⟩) rfl (rest := []) (st1 := [.int u16]) rfl rfl rfl dX0_odds_114 ⟨Nat.le_of_ble_eq_true rfl, Nat.le_of_ble_eq_true rfl⟩ (fun H locs hw => ?_)
        refine lv_i2l hx hb dX0_odds_117 rfl ?_
        refine lv_lload hx hb dX0_odds_118 (lv_at hl 0 rfl) ?_
        obtain ⟨z18, h⟩ := qif_s h
        refine lv_ldiv hx hb dX0_odds_120 (of_decide_eq_true z18) ?_
        refine lv_goto (tgt := 129) hx hb dX0_odds_121 (by decide) ?_
        have h := Option.some.inj h
        obtain ⟨h1, h2⟩ := Prod.mk.inj h
        exact d_lret E hr hw h1 (by rw [h2]) dX0_odds_129
    · have h := qi_f c h
      refine lv_ldc2 (v := (-1:Int64)) hx hb hown (hts _ q1215) dX0_odds_63 ?_
      have h := Option.some.inj h
      obtain ⟨h1, h2⟩ := Prod.mk.inj h
      exact d_lret E hr hw h1 (by rw [h2]) dX0_odds_66

def f_X0_odds (T : Int32 → Option QT) (x1 : Int32) (A : QA) : Option (Int64 × QA) :=
  qlet (A 101 5) fun x2_1 =>
  if x2_1 = (-1:Int32) then (
  f_X0_odds_52 T x1 x2_1 (0:Int32) A) else (
  qif (qok x2_1 8) <|
  f_X0_odds_52 T x1 x2_1 (((A (110 + x2_1.toNatClampNeg) 2) + (A 101 8)) - (A 101 6)) A)
set_option maxHeartbeats 4000000 in
theorem w_X0_odds_0 {p : Program} {l : Launch} {e : Env} {s : State} {m : MethodId} {args : Array Value} {below : List Frame} {meth : Method} {c : Code} {K : QK} {G : State → Prop} {rs : QA × QL × QX × QM} {ro : Int64} {Ao : QA} (hG : QG G) (hC : QCl K) {T : Int32 → Option QT} {ta : Int32 → Nat} (hT : QTx K G rs.2.2.1 rs.2.2.2 T ta) (E : EV K G p s m args meth c cX0_odds "VaneCourt" 8) (hr : meth.sig.returnType = (some .long)) : ∀ (x1 : Int32) (A : QA) {H : Heap} {locs : List Loc} {ls : Array Slot}, f_X0_odds T x1 A = some (ro, Ao) → WP K (A, rs) H locs → lv_has ls 8 [(0, .ref (K.2.1 0)), (1, .int x1)] → W p l e (qrm 601 30026 0 0) s m args below meth c H locs 0 0 (MQ below (QE K (QR (some (.long ro)) (Ao, rs))) args s 0 0 (qA K)) (F0 m 0 ls []) := by
  have hx := E.1
  have hb := E.2.1
  have hown := E.2.2.1
  have hts := E.2.2.2.2.1
  intro x1 A H locs ls  h hw hl
  rw [f_X0_odds] at h
  refine lv_aload_n hx hb dX0_odds_0 rfl (lv_at hl 0 rfl) ?_
  refine r_getX (v := .ref (K.2.1 1)) E hw hC 0 (by decide) q238 rfl dX0_odds_1 ?_
  refine r_getS1 (v := .ref (K.2.1 101)) hG E hw hC 1 (by decide) q193 rfl dX0_odds_4 ?_
  refine lv_iconst (v := (5:Int32)) hx hb dX0_odds_7 (by decide) ?_
  refine r_iald (j := 5) E hw (qi_101 hC).at (q_lit (k := 5) (n := 154) rfl rfl) (q_clamp (k := 5) rfl) dX0_odds_8 ?_
  obtain ⟨x2_1, e2, h⟩ := qlet_s h
  refine r_nm e2 ?_
  refine lv_istore_n (lv' := [(2, .int x2_1), (0, .ref (K.2.1 0)), (1, .int x1)]) hx hb dX0_odds_9 rfl hl (by decide) rfl (fun ls hl => ?_)
  refine lv_iload_n hx hb dX0_odds_10 rfl (lv_at hl 0 rfl) ?_
  refine lv_iconst (v := (-1:Int32)) hx hb dX0_odds_11 (by decide) ?_
  refine lv_icmp_ne (tgt := 19) hx hb dX0_odds_12 (by decide) (fun c => ?_) (fun c => ?_)
  · have h := qi_f c h
    refine lv_aload_n hx hb dX0_odds_19 rfl (lv_at hl 1 rfl) ?_
    refine r_getX (v := .ref (K.2.1 1)) E hw hC 0 (by decide) q238 rfl dX0_odds_20 ?_
    refine r_getS1 (v := .ref (K.2.1 102)) hG E hw hC 2 (by decide) q195 rfl dX0_odds_23 ?_
    refine lv_iload_n hx hb dX0_odds_26 rfl (lv_at hl 0 rfl) ?_
    obtain ⟨z3, h⟩ := qif_s h
    refine r_gald (j := x2_1.toNatClampNeg) E hw (qg_102 hC).at (qok_in z3) rfl dX0_odds_27 ?_
    refine lv_iconst (v := (2:Int32)) hx hb dX0_odds_28 (by decide) ?_
    refine r_iald (j := 2) E hw (qi_f110 hC (k := x2_1.toNatClampNeg) (qok_lt z3)).at (q_lit (k := 2) (n := 4) rfl rfl) (q_clamp (k := 2) rfl) dX0_odds_29 ?_
    refine lv_aload_n hx hb dX0_odds_30 rfl (lv_at hl 1 rfl) ?_
    refine r_getX (v := .ref (K.2.1 1)) E hw hC 0 (by decide) q238 rfl dX0_odds_31 ?_
    refine r_getS1 (v := .ref (K.2.1 101)) hG E hw hC 1 (by decide) q193 rfl dX0_odds_34 ?_
    refine lv_bipush (v := (8:Int32)) hx hb dX0_odds_37 (by decide) ?_
    refine r_iald (j := 8) E hw (qi_101 hC).at (q_lit (k := 8) (n := 154) rfl rfl) (q_clamp (k := 8) rfl) dX0_odds_39 ?_
    refine lv_iadd hx hb dX0_odds_40 ?_
    refine lv_aload_n hx hb dX0_odds_41 rfl (lv_at hl 1 rfl) ?_
    refine r_getX (v := .ref (K.2.1 1)) E hw hC 0 (by decide) q238 rfl dX0_odds_42 ?_
    refine r_getS1 (v := .ref (K.2.1 101)) hG E hw hC 1 (by decide) q193 rfl dX0_odds_45 ?_
    refine lv_bipush (v := (6:Int32)) hx hb dX0_odds_48 (by decide) ?_
    refine r_iald (j := 6) E hw (qi_101 hC).at (q_lit (k := 6) (n := 154) rfl rfl) (q_clamp (k := 6) rfl) dX0_odds_50 ?_
    refine lv_isub hx hb dX0_odds_51 ?_
    exact w_X0_odds_52 hG hC hT E hr  _ _ _ _   h hw (lv_sub hl [1, 2, 0] rfl)
  · have h := qi_t c h
    refine lv_iconst (v := (0:Int32)) hx hb dX0_odds_15 (by decide) ?_
    refine lv_goto (tgt := 52) hx hb dX0_odds_16 (by decide) ?_
    exact w_X0_odds_52 hG hC hT E hr  _ _ _ _   h hw (lv_sub hl [1, 2, 0] rfl)

theorem m_X0_odds (l : Launch) {K : QK} {G : State → Prop} (hG : QG G) (hC : QCl K) {rs : QA × QL × QX × QM} {T : Int32 → Option QT} {ta : Int32 → Nat} (hT : QTx K G rs.2.2.1 rs.2.2.2 T ta) {x1 : Int32} {A : QA} {ro : Int64} {Ao : QA} (h : f_X0_odds T x1 A = some (ro, Ao)) : MC l K G yX0_odds (ws_ yX0_odds cX0_odds 8 (some .long)) 601 30026 0 0 [.ref (K.2.1 0), .int x1] (A, rs) (QR (some (.long ro)) (Ao, rs)) := by
  refine MC.of (by decide) (Nat.le_of_ble_eq_true rfl) (lv := [(0, .ref (K.2.1 0)), (1, .int x1)]) rfl (fun p e s m below meth c ls E hr hl hw => ?_)
  exact w_X0_odds_0 hG hC hT E hr _ _  h hw hl

def f_X0_guiltyCodes_5 (T : Int32 → Option QT) : Nat → Int32 → Int32 → Int32 → Int32 → QA → Option (Int32 × QA)
  | 0, _, _, _, _, _ => none
  | n + 1, x1, x2, x3, x4, A => if (4:Int32) ≤ x4 then (
  some (x3, A)) else (
  qb1 (f_X0_rules T A) fun u1 =>
  qif (qok x1 8) <|
  qb2 (f_X0_isGuiltyBy T u1 101 x4 x1 (A (110 + x1.toNatClampNeg) 2) x2 A) fun u4 A5 =>
  if u4 = (0:Int32) then (
  qlet (x3 ||| (0:Int32)) fun x3_7 =>
  qlet (x4 + (1:Int32)) fun x4_9 =>
  f_X0_guiltyCodes_5 T n x1 x2 x3_7 x4_9 A5) else (
  qlet (x3 ||| ((1:Int32) <<< (x4 &&& 31))) fun x3_11 =>
  qlet (x4 + (1:Int32)) fun x4_13 =>
  f_X0_guiltyCodes_5 T n x1 x2 x3_11 x4_13 A5))
set_option maxHeartbeats 4000000 in
theorem w_X0_guiltyCodes_5 {p : Program} {l : Launch} {e : Env} {s : State} {m : MethodId} {args : Array Value} {below : List Frame} {meth : Method} {c : Code} {K : QK} {G : State → Prop} {rs : QA × QL × QX × QM} {ro : Int32} {Ao : QA} (hG : QG G) (hC : QCl K) {T : Int32 → Option QT} {ta : Int32 → Nat} (hT : QTx K G rs.2.2.1 rs.2.2.2 T ta) (E : EV K G p s m args meth c cX0_guiltyCodes "VaneCourt" 5) (hr : meth.sig.returnType = (some .int)) : ∀ (n : Nat) (x1 : Int32) (x2 : Int32) (x3 : Int32) (x4 : Int32) (A : QA) {H : Heap} {locs : List Loc} {ls : Array Slot}, f_X0_guiltyCodes_5 T n x1 x2 x3 x4 A = some (ro, Ao) → WP K (A, rs) H locs → lv_has ls 5 [(0, .ref (K.2.1 0)), (1, .int x1), (2, .int x2), (3, .int x3), (4, .int x4)] → W p l e (qrm 68 4066 0 0) s m args below meth c H locs 0 0 (MQ below (QE K (QR (some (.int ro)) (Ao, rs))) args s 0 0 (qA K)) (F0 m 5 ls []) := by
  have hx := E.1
  have hb := E.2.1
  have hown := E.2.2.1
  have hts := E.2.2.2.2.1
  intro n
  induction n with
  | zero =>
    intro x1 x2 x3 x4 A H locs ls  h hw hl
    cases h
  | succ n ih =>
    intro x1 x2 x3 x4 A H locs ls  h hw hl
    rw [f_X0_guiltyCodes_5] at h
    refine lv_iload hx hb dX0_guiltyCodes_5 (lv_at hl 4 rfl) ?_
    refine lv_iconst (v := (4:Int32)) hx hb dX0_guiltyCodes_7 (by decide) ?_
    refine lv_icmp_ge (tgt := 61) hx hb dX0_guiltyCodes_8 (by decide) (fun c => ?_) (fun c => ?_)
    · have h := qi_t c h
      refine lv_iload_n hx hb dX0_guiltyCodes_61 rfl (lv_at hl 3 rfl) ?_
      have h := Option.some.inj h
      obtain ⟨h1, h2⟩ := Prod.mk.inj h
      exact d_iret E hr rfl hw h1 (by rw [h2]) dX0_guiltyCodes_62
    · have h := qi_f c h
      refine lv_iload_n hx hb dX0_guiltyCodes_11 rfl (lv_at hl 3 rfl) ?_
      refine lv_aload_n hx hb dX0_guiltyCodes_12 rfl (lv_at hl 0 rfl) ?_
      refine lv_aload_n hx hb dX0_guiltyCodes_13 rfl (lv_at hl 0 rfl) ?_
      obtain ⟨u1, g2, h⟩ := qb1_s h
      refine d_V (As := []) (v0 := some (.ref (ta u1))) (w0 := (A, rs)) hG E hw hl (m_X0_rules l hG hC hT  g2) (qX0 hC) rfl (cwV 0 hts (lw_V q910 q912 qs30 q137 q913) rfl rfl rfl ⟨rfl, kd_X0_rules⟩ ⟨Nat.le_of_ble_eq_true rfl, Nat.le_of_ble_eq_true rfl⟩) rfl (rest := [.ref (K.2.1 0), .int x3]) (st1 := [.ref (ta u1), .ref (K.2.1 0), .int x3]) rfl rfl rfl dX0_guiltyCodes_14 ⟨Nat.le_of_ble_eq_true rfl, Nat.le_of_ble_eq_true rfl⟩ (fun H locs hw => ?_)
      refine lv_aload_n hx hb dX0_guiltyCodes_17 rfl (lv_at hl 0 rfl) ?_
      refine r_getX (v := .ref (K.2.1 1)) E hw hC 0 (by decide) q238 rfl dX0_guiltyCodes_18 ?_
      refine r_getS1 (v := .ref (K.2.1 101)) hG E hw hC 1 (by decide) q193 rfl dX0_guiltyCodes_21 ?_
      refine lv_iload hx hb dX0_guiltyCodes_24 (lv_at hl 4 rfl) ?_
      refine lv_iload_n hx hb dX0_guiltyCodes_26 rfl (lv_at hl 1 rfl) ?_
      refine lv_aload_n hx hb dX0_guiltyCodes_27 rfl (lv_at hl 0 rfl) ?_
      refine r_getX (v := .ref (K.2.1 1)) E hw hC 0 (by decide) q238 rfl dX0_guiltyCodes_28 ?_
      refine r_getS1 (v := .ref (K.2.1 102)) hG E hw hC 2 (by decide) q195 rfl dX0_guiltyCodes_31 ?_
      refine lv_iload_n hx hb dX0_guiltyCodes_34 rfl (lv_at hl 1 rfl) ?_
      obtain ⟨z3, h⟩ := qif_s h
      refine r_gald (j := x1.toNatClampNeg) E hw (qg_102 hC).at (qok_in z3) rfl dX0_guiltyCodes_35 ?_
      refine lv_iconst (v := (2:Int32)) hx hb dX0_guiltyCodes_36 (by decide) ?_
      refine r_iald (j := 2) E hw (qi_f110 hC (k := x1.toNatClampNeg) (qok_lt z3)).at (q_lit (k := 2) (n := 4) rfl rfl) (q_clamp (k := 2) rfl) dX0_guiltyCodes_37 ?_
      refine lv_iload_n hx hb dX0_guiltyCodes_38 rfl (lv_at hl 2 rfl) ?_
      obtain ⟨u4, A5, g6, h⟩ := qb2_s h
      refine d_V (As := [.ref (ta u1), .ref (K.2.1 101), .int x4, .int x1, .int (A (110 + x1.toNatClampNeg) 2), .int x2]) (v0 := some (.int u4)) (w0 := (A5, rs)) hG E hw hl (m_X0_isGuiltyBy l hG hC hT (qi_101 hC) g6) (qX0 hC) rfl (cwV 6 hts (lw_V q916 q918 qs31 q137 q919) rfl rfl rfl ⟨rfl, kd_X0_isGuiltyBy⟩ ⟨Nat.le_of_ble_eq_true rfl, Nat.le_of_ble_eq_true rfl⟩) rfl (rest := [.int x3]) (st1 := [.int u4, .int x3]) rfl rfl rfl dX0_guiltyCodes_39 ⟨Nat.le_of_ble_eq_true rfl, Nat.le_of_ble_eq_true rfl⟩ (fun H locs hw => ?_)
      refine lv_if_eq (tgt := 52) hx hb dX0_guiltyCodes_42 (by decide) (fun c => ?_) (fun c => ?_)
      · have h := qi_t c h
        refine lv_iconst (v := (0:Int32)) hx hb dX0_guiltyCodes_52 (by decide) ?_
        refine lv_ior hx hb dX0_guiltyCodes_53 ?_
        obtain ⟨x3_7, e8, h⟩ := qlet_s h
        refine r_nm e8 ?_
        refine lv_istore_n (lv' := [(3, .int x3_7), (0, .ref (K.2.1 0)), (1, .int x1), (2, .int x2), (4, .int x4)]) hx hb dX0_guiltyCodes_54 rfl hl (by decide) rfl (fun ls hl => ?_)
        obtain ⟨x4_9, e10, h⟩ := qlet_s h
        refine lv_iinc (v := x4_9) (lv' := [(4, .int x4_9), (3, .int x3_7), (0, .ref (K.2.1 0)), (1, .int x1), (2, .int x2)]) (k := 4) hx hb dX0_guiltyCodes_55 hl rfl (by rw [e10]; rfl) (by decide) rfl (fun ls hl => ?_)
        refine lv_goto (tgt := 5) hx hb dX0_guiltyCodes_58 (by decide) ?_
        exact ih _ _ _ _ _  h hw (lv_sub hl [2, 3, 4, 1, 0] rfl)
      · have h := qi_f c h
        refine lv_iconst (v := (1:Int32)) hx hb dX0_guiltyCodes_45 (by decide) ?_
        refine lv_iload hx hb dX0_guiltyCodes_46 (lv_at hl 4 rfl) ?_
        refine lv_ishl hx hb dX0_guiltyCodes_48 ?_
        refine lv_goto (tgt := 53) hx hb dX0_guiltyCodes_49 (by decide) ?_
        refine lv_ior hx hb dX0_guiltyCodes_53 ?_
        obtain ⟨x3_11, e12, h⟩ := qlet_s h
        refine r_nm e12 ?_
        refine lv_istore_n (lv' := [(3, .int x3_11), (0, .ref (K.2.1 0)), (1, .int x1), (2, .int x2), (4, .int x4)]) hx hb dX0_guiltyCodes_54 rfl hl (by decide) rfl (fun ls hl => ?_)
        obtain ⟨x4_13, e14, h⟩ := qlet_s h
        refine lv_iinc (v := x4_13) (lv' := [(4, .int x4_13), (3, .int x3_11), (0, .ref (K.2.1 0)), (1, .int x1), (2, .int x2)]) (k := 4) hx hb dX0_guiltyCodes_55 hl rfl (by rw [e14]; rfl) (by decide) rfl (fun ls hl => ?_)
        refine lv_goto (tgt := 5) hx hb dX0_guiltyCodes_58 (by decide) ?_
        exact ih _ _ _ _ _  h hw (lv_sub hl [2, 3, 4, 1, 0] rfl)

def f_X0_guiltyCodes (T : Int32 → Option QT) (x1 : Int32) (x2 : Int32) (A : QA) : Option (Int32 × QA) :=
  f_X0_guiltyCodes_5 T FU x1 x2 (0:Int32) (0:Int32) A
set_option maxHeartbeats 4000000 in
theorem w_X0_guiltyCodes_0 {p : Program} {l : Launch} {e : Env} {s : State} {m : MethodId} {args : Array Value} {below : List Frame} {meth : Method} {c : Code} {K : QK} {G : State → Prop} {rs : QA × QL × QX × QM} {ro : Int32} {Ao : QA} (hG : QG G) (hC : QCl K) {T : Int32 → Option QT} {ta : Int32 → Nat} (hT : QTx K G rs.2.2.1 rs.2.2.2 T ta) (E : EV K G p s m args meth c cX0_guiltyCodes "VaneCourt" 5) (hr : meth.sig.returnType = (some .int)) : ∀ (x1 : Int32) (x2 : Int32) (A : QA) {H : Heap} {locs : List Loc} {ls : Array Slot}, f_X0_guiltyCodes T x1 x2 A = some (ro, Ao) → WP K (A, rs) H locs → lv_has ls 5 [(0, .ref (K.2.1 0)), (1, .int x1), (2, .int x2)] → W p l e (qrm 68 4066 0 0) s m args below meth c H locs 0 0 (MQ below (QE K (QR (some (.int ro)) (Ao, rs))) args s 0 0 (qA K)) (F0 m 0 ls []) := by
  have hx := E.1
  have hb := E.2.1
  have hown := E.2.2.1
  have hts := E.2.2.2.2.1
  intro x1 x2 A H locs ls  h hw hl
  rw [f_X0_guiltyCodes] at h
  refine lv_iconst (v := (0:Int32)) hx hb dX0_guiltyCodes_0 (by decide) ?_
  refine lv_istore_n (lv' := [(3, .int (0:Int32)), (0, .ref (K.2.1 0)), (1, .int x1), (2, .int x2)]) hx hb dX0_guiltyCodes_1 rfl hl (by decide) rfl (fun ls hl => ?_)
  refine lv_iconst (v := (0:Int32)) hx hb dX0_guiltyCodes_2 (by decide) ?_
  refine lv_istore (lv' := [(4, .int (0:Int32)), (3, .int (0:Int32)), (0, .ref (K.2.1 0)), (1, .int x1), (2, .int x2)]) hx hb dX0_guiltyCodes_3 hl (by decide) rfl (fun ls hl => ?_)
  exact w_X0_guiltyCodes_5 hG hC hT E hr  _ _ _ _ _ _   h hw (lv_sub hl [2, 3, 4, 1, 0] rfl)

theorem m_X0_guiltyCodes (l : Launch) {K : QK} {G : State → Prop} (hG : QG G) (hC : QCl K) {rs : QA × QL × QX × QM} {T : Int32 → Option QT} {ta : Int32 → Nat} (hT : QTx K G rs.2.2.1 rs.2.2.2 T ta) {x1 : Int32} {x2 : Int32} {A : QA} {ro : Int32} {Ao : QA} (h : f_X0_guiltyCodes T x1 x2 A = some (ro, Ao)) : MC l K G yX0_guiltyCodes (ws_ yX0_guiltyCodes cX0_guiltyCodes 5 (some .int)) 68 4066 0 0 [.ref (K.2.1 0), .int x1, .int x2] (A, rs) (QR (some (.int ro)) (Ao, rs)) := by
  refine MC.of (by decide) (Nat.le_of_ble_eq_true rfl) (lv := [(0, .ref (K.2.1 0)), (1, .int x1), (2, .int x2)]) rfl (fun p e s m below meth c ls E hr hl hw => ?_)
  exact w_X0_guiltyCodes_0 hG hC hT E hr _ _ _  h hw hl

def f_X0_clash (T : Int32 → Option QT) (x1 : Int32) (A : QA) : Option (Int32 × QA) :=
  qb1 (f_X0_isCase x1 A) fun u1 =>
  if u1 = (0:Int32) then (
  some ((-1:Int32), A)) else (
  qif (qok x1 8) <|
  qb2 (f_X0_guiltyCodes T x1 (A (110 + x1.toNatClampNeg) 3) A) fun u4 A5 =>
  some (u4, A5))
set_option maxHeartbeats 4000000 in
theorem w_X0_clash_0 {p : Program} {l : Launch} {e : Env} {s : State} {m : MethodId} {args : Array Value} {below : List Frame} {meth : Method} {c : Code} {K : QK} {G : State → Prop} {rs : QA × QL × QX × QM} {ro : Int32} {Ao : QA} (hG : QG G) (hC : QCl K) {T : Int32 → Option QT} {ta : Int32 → Nat} (hT : QTx K G rs.2.2.1 rs.2.2.2 T ta) (E : EV K G p s m args meth c cX0_clash "VaneCourt" 2) (hr : meth.sig.returnType = (some .int)) : ∀ (x1 : Int32) (A : QA) {H : Heap} {locs : List Loc} {ls : Array Slot}, f_X0_clash T x1 A = some (ro, Ao) → WP K (A, rs) H locs → lv_has ls 2 [(0, .ref (K.2.1 0)), (1, .int x1)] → W p l e (qrm 69 4090 0 0) s m args below meth c H locs 0 0 (MQ below (QE K (QR (some (.int ro)) (Ao, rs))) args s 0 0 (qA K)) (F0 m 0 ls []) := by
  have hx := E.1
  have hb := E.2.1
  have hown := E.2.2.1
  have hts := E.2.2.2.2.1
  intro x1 A H locs ls  h hw hl
  rw [f_X0_clash] at h
  refine lv_aload_n hx hb dX0_clash_0 rfl (lv_at hl 0 rfl) ?_
  refine lv_iload_n hx hb dX0_clash_1 rfl (lv_at hl 1 rfl) ?_
  obtain ⟨u1, g2, h⟩ := qb1_s h
  refine d_V (As := [.int x1]) (v0 := some (.int u1)) (w0 := (A, rs)) hG E hw hl (m_X0_isCase l hG hC  g2) (qX0 hC) rfl (cwV 1 hts (lw_V q1077 q1079 qs38 q137 q1080) rfl rfl rfl ⟨rfl, kd_X0_isCase⟩ ⟨Nat.le_of_ble_eq_true rfl, Nat.le_of_ble_eq_true rfl⟩) rfl (rest := []) (st1 := [.int u1]) rfl rfl rfl dX0_clash_2 ⟨Nat.le_of_ble_eq_true rfl, Nat.le_of_ble_eq_true rfl⟩ (fun H locs hw => ?_)
  refine lv_if_eq (tgt := 27) hx hb dX0_clash_5 (by decide) (fun c => ?_) (fun c => ?_)
  · have h := qi_t c h
    refine lv_iconst (v := (-1:Int32)) hx hb dX0_clash_27 (by decide) ?_
    have h := Option.some.inj h
    obtain ⟨h1, h2⟩ := Prod.mk.inj h
    exact d_iret E hr rfl hw h1 (by rw [h2]) dX0_clash_28
  · have h := qi_f c h
    refine lv_aload_n hx hb dX0_clash_8 rfl (lv_at hl 0 rfl) ?_
    refine lv_iload_n hx hb dX0_clash_9 rfl (lv_at hl 1 rfl) ?_
    refine lv_aload_n hx hb dX0_clash_10 rfl (lv_at hl 0 rfl) ?_
    refine r_getX (v := .ref (K.2.1 1)) E hw hC 0 (by decide) q238 rfl dX0_clash_11 ?_
    refine r_getS1 (v := .ref (K.2.1 102)) hG E hw hC 2 (by decide) q195 rfl dX0_clash_14 ?_
    refine lv_iload_n hx hb dX0_clash_17 rfl (lv_at hl 1 rfl) ?_
    obtain ⟨z3, h⟩ := qif_s h
    refine r_gald (j := x1.toNatClampNeg) E hw (qg_102 hC).at (qok_in z3) rfl dX0_clash_18 ?_
    refine lv_iconst (v := (3:Int32)) hx hb dX0_clash_19 (by decide) ?_
    refine r_iald (j := 3) E hw (qi_f110 hC (k := x1.toNatClampNeg) (qok_lt z3)).at (q_lit (k := 3) (n := 4) rfl rfl) (q_clamp (k := 3) rfl) dX0_clash_20 ?_
    obtain ⟨u4, A5, g6, h⟩ := qb2_s h
    refine d_V (As := [.int x1, .int (A (110 + x1.toNatClampNeg) 3)]) (v0 := some (.int u4)) (w0 := (A5, rs)) hG E hw hl (m_X0_guiltyCodes l hG hC hT  g6) (qX0 hC) rfl (cwV 2 hts (lw_V q1230 q1232 qs49 q137 q1233) rfl rfl rfl ⟨rfl, kd_X0_guiltyCodes⟩ ⟨Nat.le_of_ble_eq_true rfl, Nat.le_of_ble_eq_true rfl⟩) rfl (rest := []) (st1 := [.int u4]) rfl rfl rfl dX0_clash_21 ⟨Nat.le_of_ble_eq_true rfl, Nat.le_of_ble_eq_true rfl⟩ (fun H locs hw => ?_)
    refine lv_goto (tgt := 28) hx hb dX0_clash_24 (by decide) ?_
    have h := Option.some.inj h
    obtain ⟨h1, h2⟩ := Prod.mk.inj h
    exact d_iret E hr rfl hw h1 (by rw [h2]) dX0_clash_28

theorem m_X0_clash (l : Launch) {K : QK} {G : State → Prop} (hG : QG G) (hC : QCl K) {rs : QA × QL × QX × QM} {T : Int32 → Option QT} {ta : Int32 → Nat} (hT : QTx K G rs.2.2.1 rs.2.2.2 T ta) {x1 : Int32} {A : QA} {ro : Int32} {Ao : QA} (h : f_X0_clash T x1 A = some (ro, Ao)) : MC l K G yX0_clash (ws_ yX0_clash cX0_clash 2 (some .int)) 69 4090 0 0 [.ref (K.2.1 0), .int x1] (A, rs) (QR (some (.int ro)) (Ao, rs)) := by
  refine MC.of (by decide) (Nat.le_of_ble_eq_true rfl) (lv := [(0, .ref (K.2.1 0)), (1, .int x1)]) rfl (fun p e s m below meth c ls E hr hl hw => ?_)
  exact w_X0_clash_0 hG hC hT E hr _ _  h hw hl

def f_X0_leastFacts_40 (T : Int32 → Option QT) (k14 : (Int32 → Int32 → Int32 → QA → Option (Int32 × QA))) (x1 : Int32) (x2 : Int32) (x3 : Int32) (A : QA) : Option (Int32 × QA) :=
  qif (qok x1 8) <|
  qb2 (f_X0_guiltyCodes T x1 ((A (110 + x1.toNatClampNeg) 3) ^^^ x3) A) fun u4 A5 =>
  if u4 = (0:Int32) then (
  qlet (x3 + (1:Int32)) fun x3_7 =>
  k14 x1 x3 x3_7 A5) else (
  if u4 = (15:Int32) then (
  qlet (x3 + (1:Int32)) fun x3_11 =>
  k14 x1 x3 x3_11 A5) else (
  qlet (x3 + (1:Int32)) fun x3_9 =>
  k14 x1 x2 x3_9 A5))
set_option maxHeartbeats 4000000 in
theorem w_X0_leastFacts_40 {p : Program} {l : Launch} {e : Env} {s : State} {m : MethodId} {args : Array Value} {below : List Frame} {meth : Method} {c : Code} {K : QK} {G : State → Prop} {rs : QA × QL × QX × QM} {ro : Int32} {Ao : QA} (hG : QG G) (hC : QCl K) {T : Int32 → Option QT} {ta : Int32 → Nat} (hT : QTx K G rs.2.2.1 rs.2.2.2 T ta) (E : EV K G p s m args meth c cX0_leastFacts "VaneCourt" 5) (hr : meth.sig.returnType = (some .int)) {k14 : (Int32 → Int32 → Int32 → QA → Option (Int32 × QA))} (hk14 : ∀ (x1 : Int32) (x2 : Int32) (x3 : Int32) (A : QA) {H : Heap} {locs : List Loc} {ls : Array Slot}, k14 x1 x2 x3 A = some (ro, Ao) → WP K (A, rs) H locs → lv_has ls 5 [(0, .ref (K.2.1 0)), (1, .int x1), (2, .int x2), (3, .int x3)] → W p l e (qrm 69 4090 0 0) s m args below meth c H locs 0 0 (MQ below (QE K (QR (some (.int ro)) (Ao, rs))) args s 0 0 (qA K)) (F0 m 14 ls [])) : ∀ (x1 : Int32) (x2 : Int32) (x3 : Int32) (A : QA) {H : Heap} {locs : List Loc} {ls : Array Slot}, f_X0_leastFacts_40 T k14 x1 x2 x3 A = some (ro, Ao) → WP K (A, rs) H locs → lv_has ls 5 [(0, .ref (K.2.1 0)), (1, .int x1), (2, .int x2), (3, .int x3)] → W p l e (qrm 69 4090 0 0) s m args below meth c H locs 0 0 (MQ below (QE K (QR (some (.int ro)) (Ao, rs))) args s 0 0 (qA K)) (F0 m 40 ls []) := by
  have hx := E.1
  have hb := E.2.1
  have hown := E.2.2.1
  have hts := E.2.2.2.2.1
  intro x1 x2 x3 A H locs ls  h hw hl
  rw [f_X0_leastFacts_40] at h
  refine lv_aload_n hx hb dX0_leastFacts_40 rfl (lv_at hl 0 rfl) ?_
  refine lv_iload_n hx hb dX0_leastFacts_41 rfl (lv_at hl 1 rfl) ?_
  refine lv_aload_n hx hb dX0_leastFacts_42 rfl (lv_at hl 0 rfl) ?_
  refine r_getX (v := .ref (K.2.1 1)) E hw hC 0 (by decide) q238 rfl dX0_leastFacts_43 ?_
  refine r_getS1 (v := .ref (K.2.1 102)) hG E hw hC 2 (by decide) q195 rfl dX0_leastFacts_46 ?_
  refine lv_iload_n hx hb dX0_leastFacts_49 rfl (lv_at hl 1 rfl) ?_
  obtain ⟨z3, h⟩ := qif_s h
  refine r_gald (j := x1.toNatClampNeg) E hw (qg_102 hC).at (qok_in z3) rfl dX0_leastFacts_50 ?_
  refine lv_iconst (v := (3:Int32)) hx hb dX0_leastFacts_51 (by decide) ?_
  refine r_iald (j := 3) E hw (qi_f110 hC (k := x1.toNatClampNeg) (qok_lt z3)).at (q_lit (k := 3) (n := 4) rfl rfl) (q_clamp (k := 3) rfl) dX0_leastFacts_52 ?_
  refine lv_iload_n hx hb dX0_leastFacts_53 rfl (lv_at hl 3 rfl) ?_
  refine lv_ixor hx hb dX0_leastFacts_54 ?_
  obtain ⟨u4, A5, g6, h⟩ := qb2_s h
  refine d_V (As := [.int x1, .int ((A (110 + x1.toNatClampNeg) 3) ^^^ x3)]) (v0 := some (.int u4)) (w0 := (A5, rs)) hG E hw hl (m_X0_guiltyCodes l hG hC hT  g6) (qX0 hC) rfl (cwV 2 hts (lw_V q1230 q1232 qs49 q137 q1233) rfl rfl rfl ⟨rfl, kd_X0_guiltyCodes⟩ ⟨Nat.le_of_ble_eq_true rfl, Nat.le_of_ble_eq_true rfl⟩) rfl (rest := []) (st1 := [.int u4]) rfl rfl rfl dX0_leastFacts_55 ⟨Nat.le_of_ble_eq_true rfl, Nat.le_of_ble_eq_true rfl⟩ (fun H locs hw => ?_)
  refine lv_istore (lv' := [(4, .int u4), (0, .ref (K.2.1 0)), (1, .int x1), (2, .int x2), (3, .int x3)]) hx hb dX0_leastFacts_58 hl (by decide) rfl (fun ls hl => ?_)
  refine lv_iload hx hb dX0_leastFacts_60 (lv_at hl 0 rfl) ?_
  refine lv_if_eq (tgt := 72) hx hb dX0_leastFacts_62 (by decide) (fun c => ?_) (fun c => ?_)
  · have h := qi_t c h
    refine lv_iload_n hx hb dX0_leastFacts_72 rfl (lv_at hl 4 rfl) ?_
    refine lv_istore_n (lv' := [(2, .int x3), (4, .int u4), (0, .ref (K.2.1 0)), (1, .int x1), (3, .int x3)]) hx hb dX0_leastFacts_73 rfl hl (by decide) rfl (fun ls hl => ?_)
    obtain ⟨x3_7, e8, h⟩ := qlet_s h
    refine lv_iinc (v := x3_7) (lv' := [(3, .int x3_7), (2, .int x3), (4, .int u4), (0, .ref (K.2.1 0)), (1, .int x1)]) (k := 4) hx hb dX0_leastFacts_74 hl rfl (by rw [e8]; rfl) (by decide) rfl (fun ls hl => ?_)
    refine lv_goto (tgt := 14) hx hb dX0_leastFacts_77 (by decide) ?_
    exact hk14 _ _ _ _  h hw (lv_sub hl [3, 4, 1, 0] rfl)
  · have h := qi_f c h
    refine lv_iload hx hb dX0_leastFacts_65 (lv_at hl 0 rfl) ?_
    refine lv_bipush (v := (15:Int32)) hx hb dX0_leastFacts_67 (by decide) ?_
    refine lv_icmp_ne (tgt := 74) hx hb dX0_leastFacts_69 (by decide) (fun c => ?_) (fun c => ?_)
    · have h := qi_f c h
      obtain ⟨x3_9, e10, h⟩ := qlet_s h
      refine lv_iinc (v := x3_9) (lv' := [(3, .int x3_9), (4, .int u4), (0, .ref (K.2.1 0)), (1, .int x1), (2, .int x2)]) (k := 4) hx hb dX0_leastFacts_74 hl rfl (by rw [e10]; rfl) (by decide) rfl (fun ls hl => ?_)
      refine lv_goto (tgt := 14) hx hb dX0_leastFacts_77 (by decide) ?_
      exact hk14 _ _ _ _  h hw (lv_sub hl [2, 3, 4, 0] rfl)
    · have h := qi_t c h
      refine lv_iload_n hx hb dX0_leastFacts_72 rfl (lv_at hl 4 rfl) ?_
      refine lv_istore_n (lv' := [(2, .int x3), (4, .int u4), (0, .ref (K.2.1 0)), (1, .int x1), (3, .int x3)]) hx hb dX0_leastFacts_73 rfl hl (by decide) rfl (fun ls hl => ?_)
      obtain ⟨x3_11, e12, h⟩ := qlet_s h
      refine lv_iinc (v := x3_11) (lv' := [(3, .int x3_11), (2, .int x3), (4, .int u4), (0, .ref (K.2.1 0)), (1, .int x1)]) (k := 4) hx hb dX0_leastFacts_74 hl rfl (by rw [e12]; rfl) (by decide) rfl (fun ls hl => ?_)
      refine lv_goto (tgt := 14) hx hb dX0_leastFacts_77 (by decide) ?_
      exact hk14 _ _ _ _  h hw (lv_sub hl [3, 4, 1, 0] rfl)

def f_X0_leastFacts_14 (T : Int32 → Option QT) : Nat → Int32 → Int32 → Int32 → QA → Option (Int32 × QA)
  | 0, _, _, _, _ => none
  | n + 1, x1, x2, x3, A => if (256:Int32) ≤ x3 then (
  some (x2, A)) else (
  if x2 = (-1:Int32) then (
  f_X0_leastFacts_40 T (fun x1' x2' x3' A' => f_X0_leastFacts_14 T n x1' x2' x3' A') x1 x2 x3 A) else (
  qb1 (f_J14_bitCount x3) fun u13 =>
  qb1 (f_J14_bitCount x2) fun u15 =>
  if u13 < u15 then (
  f_X0_leastFacts_40 T (fun x1' x2' x3' A' => f_X0_leastFacts_14 T n x1' x2' x3' A') x1 x2 x3 A) else (
  qlet (x3 + (1:Int32)) fun x3_17 =>
  f_X0_leastFacts_14 T n x1 x2 x3_17 A)))
set_option maxHeartbeats 4000000 in
theorem w_X0_leastFacts_14 {p : Program} {l : Launch} {e : Env} {s : State} {m : MethodId} {args : Array Value} {below : List Frame} {meth : Method} {c : Code} {K : QK} {G : State → Prop} {rs : QA × QL × QX × QM} {ro : Int32} {Ao : QA} (hG : QG G) (hC : QCl K) {T : Int32 → Option QT} {ta : Int32 → Nat} (hT : QTx K G rs.2.2.1 rs.2.2.2 T ta) (E : EV K G p s m args meth c cX0_leastFacts "VaneCourt" 5) (hr : meth.sig.returnType = (some .int)) : ∀ (n : Nat) (x1 : Int32) (x2 : Int32) (x3 : Int32) (A : QA) {H : Heap} {locs : List Loc} {ls : Array Slot}, f_X0_leastFacts_14 T n x1 x2 x3 A = some (ro, Ao) → WP K (A, rs) H locs → lv_has ls 5 [(0, .ref (K.2.1 0)), (1, .int x1), (2, .int x2), (3, .int x3)] → W p l e (qrm 69 4090 0 0) s m args below meth c H locs 0 0 (MQ below (QE K (QR (some (.int ro)) (Ao, rs))) args s 0 0 (qA K)) (F0 m 14 ls []) := by
  have hx := E.1
  have hb := E.2.1
  have hown := E.2.2.1
  have hts := E.2.2.2.2.1
  intro n
  induction n with
  | zero =>
    intro x1 x2 x3 A H locs ls  h hw hl
    cases h
  | succ n ih =>
    intro x1 x2 x3 A H locs ls  h hw hl
    rw [f_X0_leastFacts_14] at h
    refine lv_iload_n hx hb dX0_leastFacts_14 rfl (lv_at hl 3 rfl) ?_
    refine lv_sipush (v := (256:Int32)) hx hb dX0_leastFacts_15 (by decide) ?_
    refine lv_icmp_ge (tgt := 80) hx hb dX0_leastFacts_18 (by decide) (fun c => ?_) (fun c => ?_)
    · have h := qi_t c h
      refine lv_iload_n hx hb dX0_leastFacts_80 rfl (lv_at hl 2 rfl) ?_
      have h := Option.some.inj h
      obtain ⟨h1, h2⟩ := Prod.mk.inj h
      exact d_iret E hr rfl hw h1 (by rw [h2]) dX0_leastFacts_81
    · have h := qi_f c h
      refine lv_iload_n hx hb dX0_leastFacts_21 rfl (lv_at hl 2 rfl) ?_
      refine lv_iconst (v := (-1:Int32)) hx hb dX0_leastFacts_22 (by decide) ?_
      refine lv_icmp_eq (tgt := 40) hx hb dX0_leastFacts_23 (by decide) (fun c => ?_) (fun c => ?_)
      · have h := qi_t c h
        exact w_X0_leastFacts_40 hG hC hT E hr ih _ _ _ _   h hw (lv_sub hl [0, 1, 2, 3] rfl)
      · have h := qi_f c h
        refine lv_iload_n hx hb dX0_leastFacts_26 rfl (lv_at hl 3 rfl) ?_
        obtain ⟨u13, g14, h⟩ := qb1_s h
        refine d_S (As := [.int x3]) (v0 := some (.int u13)) (w0 := (A, rs)) hG E hw hl (m_J14_bitCount l hG   g14) (va_cwS 1 hts (lw_S q1035 q1036 q165 q1037) rfl rfl rfl kd_J14_bitCount ⟨Nat.le_of_ble_eq_true rfl, Nat.le_of_ble_eq_true rfl⟩) rfl (rest := []) (st1 := [.int u13]) rfl rfl rfl dX0_leastFacts_27 ⟨Nat.le_of_ble_eq_true rfl, Nat.le_of_ble_eq_true rfl⟩ (fun H locs hw => ?_)
        refine lv_iload_n hx hb dX0_leastFacts_30 rfl (lv_at hl 2 rfl) ?_
        obtain ⟨u15, g16, h⟩ := qb1_s h
        refine d_S (As := [.int x2]) (v0 := some (.int u15)) (w0 := (A, rs)) hG E hw hl (m_J14_bitCount l hG   g16) (va_cwS 1 hts (lw_S q1035 q1036 q165 q1037) rfl rfl rfl kd_J14_bitCount ⟨Nat.le_of_ble_eq_true rfl, Nat.le_of_ble_eq_true rfl⟩) rfl (rest := [.int u13]) (st1 := [.int u15, .int u13]) rfl rfl rfl dX0_leastFacts_31 ⟨Nat.le_of_ble_eq_true rfl, Nat.le_of_ble_eq_true rfl⟩ (fun H locs hw => ?_)
        refine lv_icmp_lt (tgt := 40) hx hb dX0_leastFacts_34 (by decide) (fun c => ?_) (fun c => ?_)
        · have h := qi_t c h
          exact w_X0_leastFacts_40 hG hC hT E hr ih _ _ _ _   h hw (lv_sub hl [0, 1, 2, 3] rfl)
        · have h := qi_f c h
          refine lv_goto (tgt := 74) hx hb dX0_leastFacts_37 (by decide) ?_
          obtain ⟨x3_17, e18, h⟩ := qlet_s h
          refine lv_iinc (v := x3_17) (lv' := [(3, .int x3_17), (0, .ref (K.2.1 0)), (1, .int x1), (2, .int x2)]) (k := 3) hx hb dX0_leastFacts_74 hl rfl (by rw [e18]; rfl) (by decide) rfl (fun ls hl => ?_)
          refine lv_goto (tgt := 14) hx hb dX0_leastFacts_77 (by decide) ?_
          exact ih _ _ _ _  h hw (lv_sub hl [1, 2, 3, 0] rfl)

def f_X0_leastFacts (T : Int32 → Option QT) (x1 : Int32) (A : QA) : Option (Int32 × QA) :=
  qb1 (f_X0_isCase x1 A) fun u1 =>
  if u1 = (0:Int32) then (
  some ((-1:Int32), A)) else (
  f_X0_leastFacts_14 T FU x1 (-1:Int32) (0:Int32) A)
set_option maxHeartbeats 4000000 in
theorem w_X0_leastFacts_0 {p : Program} {l : Launch} {e : Env} {s : State} {m : MethodId} {args : Array Value} {below : List Frame} {meth : Method} {c : Code} {K : QK} {G : State → Prop} {rs : QA × QL × QX × QM} {ro : Int32} {Ao : QA} (hG : QG G) (hC : QCl K) {T : Int32 → Option QT} {ta : Int32 → Nat} (hT : QTx K G rs.2.2.1 rs.2.2.2 T ta) (E : EV K G p s m args meth c cX0_leastFacts "VaneCourt" 5) (hr : meth.sig.returnType = (some .int)) : ∀ (x1 : Int32) (A : QA) {H : Heap} {locs : List Loc} {ls : Array Slot}, f_X0_leastFacts T x1 A = some (ro, Ao) → WP K (A, rs) H locs → lv_has ls 5 [(0, .ref (K.2.1 0)), (1, .int x1)] → W p l e (qrm 69 4090 0 0) s m args below meth c H locs 0 0 (MQ below (QE K (QR (some (.int ro)) (Ao, rs))) args s 0 0 (qA K)) (F0 m 0 ls []) := by
  have hx := E.1
  have hb := E.2.1
  have hown := E.2.2.1
  have hts := E.2.2.2.2.1
  intro x1 A H locs ls  h hw hl
  rw [f_X0_leastFacts] at h
  refine lv_aload_n hx hb dX0_leastFacts_0 rfl (lv_at hl 0 rfl) ?_
  refine lv_iload_n hx hb dX0_leastFacts_1 rfl (lv_at hl 1 rfl) ?_
  obtain ⟨u1, g2, h⟩ := qb1_s h
  refine d_V (As := [.int x1]) (v0 := some (.int u1)) (w0 := (A, rs)) hG E hw hl (m_X0_isCase l hG hC  g2) (qX0 hC) rfl (cwV 1 hts (lw_V q1077 q1079 qs38 q137 q1080) rfl rfl rfl ⟨rfl, kd_X0_isCase⟩ ⟨Nat.le_of_ble_eq_true rfl, Nat.le_of_ble_eq_true rfl⟩) rfl (rest := []) (st1 := [.int u1]) rfl rfl rfl dX0_leastFacts_2 ⟨Nat.le_of_ble_eq_true rfl, Nat.le_of_ble_eq_true rfl⟩ (fun H locs hw => ?_)
  refine lv_if_ne (tgt := 10) hx hb dX0_leastFacts_5 (by decide) (fun c => ?_) (fun c => ?_)
  · have h := qi_f c h
    refine lv_iconst (v := (-1:Int32)) hx hb dX0_leastFacts_10 (by decide) ?_
    refine lv_istore_n (lv' := [(2, .int (-1:Int32)), (0, .ref (K.2.1 0)), (1, .int x1)]) hx hb dX0_leastFacts_11 rfl hl (by decide) rfl (fun ls hl => ?_)
    refine lv_iconst (v := (0:Int32)) hx hb dX0_leastFacts_12 (by decide) ?_
    refine lv_istore_n (lv' := [(3, .int (0:Int32)), (2, .int (-1:Int32)), (0, .ref (K.2.1 0)), (1, .int x1)]) hx hb dX0_leastFacts_13 rfl hl (by decide) rfl (fun ls hl => ?_)
    exact w_X0_leastFacts_14 hG hC hT E hr  _ _ _ _ _   h hw (lv_sub hl [2, 3, 1, 0] rfl)
  · have h := qi_t c h
    refine lv_iconst (v := (-1:Int32)) hx hb dX0_leastFacts_8 (by decide) ?_
    have h := Option.some.inj h
    obtain ⟨h1, h2⟩ := Prod.mk.inj h
    exact d_iret E hr rfl hw h1 (by rw [h2]) dX0_leastFacts_9

theorem m_X0_leastFacts (l : Launch) {K : QK} {G : State → Prop} (hG : QG G) (hC : QCl K) {rs : QA × QL × QX × QM} {T : Int32 → Option QT} {ta : Int32 → Nat} (hT : QTx K G rs.2.2.1 rs.2.2.2 T ta) {x1 : Int32} {A : QA} {ro : Int32} {Ao : QA} (h : f_X0_leastFacts T x1 A = some (ro, Ao)) : MC l K G yX0_leastFacts (ws_ yX0_leastFacts cX0_leastFacts 5 (some .int)) 69 4090 0 0 [.ref (K.2.1 0), .int x1] (A, rs) (QR (some (.int ro)) (Ao, rs)) := by
  refine MC.of (by decide) (Nat.le_of_ble_eq_true rfl) (lv := [(0, .ref (K.2.1 0)), (1, .int x1)]) rfl (fun p e s m below meth c ls E hr hl hw => ?_)
  exact w_X0_leastFacts_0 hG hC hT E hr _ _  h hw hl

def f_X0_game_98 (T : Int32 → Option QT) (x4 : Int32) (s1 : Int32) (s2 : Int32) (s3 : Int32) (A : QA) : Option (Int32 × QA) :=
  qb1 (f_X0_plays 10 s1 s2 s3 A) fun u5 =>
  if u5 = x4 then (
  some ((0:Int32), A)) else (
  some ((1:Int32), A))
set_option maxHeartbeats 4000000 in
theorem w_X0_game_98 {p : Program} {l : Launch} {e : Env} {s : State} {m : MethodId} {args : Array Value} {below : List Frame} {meth : Method} {c : Code} {K : QK} {G : State → Prop} {rs : QA × QL × QX × QM} {ro : Int32} {Ao : QA} (hG : QG G) (hC : QCl K) {T : Int32 → Option QT} {ta : Int32 → Nat} (hT : QTx K G rs.2.2.1 rs.2.2.2 T ta) (E : EV K G p s m args meth c cX0_game "VaneCourt" 5) (hr : meth.sig.returnType = (some .int)) : ∀ (x4 : Int32) (s1 : Int32) (s2 : Int32) (s3 : Int32) (A : QA) {H : Heap} {locs : List Loc} {ls : Array Slot}, f_X0_game_98 T x4 s1 s2 s3 A = some (ro, Ao) → WP K (A, rs) H locs → lv_has ls 5 [(4, .int x4)] → W p l e (qrm 121 8025 0 0) s m args below meth c H locs 0 0 (MQ below (QE K (QR (some (.int ro)) (Ao, rs))) args s 0 0 (qA K)) (F0 m 98 ls [.int s3, .int s2, .int s1, .ref (K.2.1 0)]) := by
  have hx := E.1
  have hb := E.2.1
  have hown := E.2.2.1
  have hts := E.2.2.2.2.1
  intro x4 s1 s2 s3 A H locs ls  h hw hl
  rw [f_X0_game_98] at h
  obtain ⟨u5, g6, h⟩ := qb1_s h
  refine d_V (As := [.int s1, .int s2, .int s3]) (v0 := some (.int u5)) (w0 := (A, rs)) hG E hw hl (m_X0_plays l hG hC  g6) (qX0 hC) rfl (cwV 3 hts (lw_V q1243 q1245 qs50 q137 q1246) rfl rfl rfl ⟨rfl, kd_X0_plays⟩ ⟨Nat.le_of_ble_eq_true rfl, Nat.le_of_ble_eq_true rfl⟩) rfl (rest := []) (st1 := [.int u5]) rfl rfl rfl dX0_game_98 ⟨Nat.le_of_ble_eq_true rfl, Nat.le_of_ble_eq_true rfl⟩ (fun H locs hw => ?_)
  refine lv_iload hx hb dX0_game_101 (lv_at hl 0 rfl) ?_
  refine lv_icmp_ne (tgt := 110) hx hb dX0_game_103 (by decide) (fun c => ?_) (fun c => ?_)
  · have h := qi_f c h
    refine lv_iconst (v := (1:Int32)) hx hb dX0_game_110 (by decide) ?_
    refine lv_goto (tgt := 116) hx hb dX0_game_111 (by decide) ?_
    have h := Option.some.inj h
    obtain ⟨h1, h2⟩ := Prod.mk.inj h
    exact d_iret E hr rfl hw h1 (by rw [h2]) dX0_game_116
  · have h := qi_t c h
    refine lv_iconst (v := (0:Int32)) hx hb dX0_game_106 (by decide) ?_
    refine lv_goto (tgt := 116) hx hb dX0_game_107 (by decide) ?_
    have h := Option.some.inj h
    obtain ⟨h1, h2⟩ := Prod.mk.inj h
    exact d_iret E hr rfl hw h1 (by rw [h2]) dX0_game_116

def f_X0_game_13 (T : Int32 → Option QT) : Nat → Int32 → Int32 → Int32 → Int32 → QA → Option (Int32 × QA)
  | 0, _, _, _, _, _ => none
  | n + 1, x1, x2, x3, x4, A => if (3:Int32) < x4 then (
  qb1 (f_X0_plays 10 (0:Int32) (0:Int32) x2 A) fun u3 =>
  if x3 = (0:Int32) then (
  some (u3, A)) else (
  if x2 = (0:Int32) then (
  f_X0_game_98 T u3 (1:Int32) (0:Int32) (1:Int32) A) else (
  f_X0_game_98 T u3 (1:Int32) (0:Int32) (0:Int32) A))) else (
  qb2 (f_X0_endsIn T x1 (0:Int32) x4 A) fun u7 A8 =>
  if u7 = (0:Int32) then (
  qif (qok x4 4) <|
  qlet (qu A8 10 x4.toNatClampNeg (0:Int32)) fun A11 =>
  qlet (x4 + (1:Int32)) fun x4_13 =>
  f_X0_game_13 T n x1 x2 x3 x4_13 A11) else (
  qif (qok ((9:Int32) + x1) 154) <|
  if (A8 5 ((9:Int32) + x1).toNatClampNeg) = (3:Int32) then (
  qif (qok ((17:Int32) + x1) 154) <|
  qif (qok x4 4) <|
  qlet (qu A8 10 x4.toNatClampNeg ((100000:Int32) + (A8 5 ((17:Int32) + x1).toNatClampNeg))) fun A23 =>
  qlet (x4 + (1:Int32)) fun x4_25 =>
  f_X0_game_13 T n x1 x2 x3 x4_25 A23) else (
  qif (qok x4 4) <|
  qlet (qu A8 10 x4.toNatClampNeg (0:Int32)) fun A17 =>
  qlet (x4 + (1:Int32)) fun x4_19 =>
  f_X0_game_13 T n x1 x2 x3 x4_19 A17)))
set_option maxHeartbeats 4000000 in
theorem w_X0_game_13 {p : Program} {l : Launch} {e : Env} {s : State} {m : MethodId} {args : Array Value} {below : List Frame} {meth : Method} {c : Code} {K : QK} {G : State → Prop} {rs : QA × QL × QX × QM} {ro : Int32} {Ao : QA} (hG : QG G) (hC : QCl K) {T : Int32 → Option QT} {ta : Int32 → Nat} (hT : QTx K G rs.2.2.1 rs.2.2.2 T ta) (E : EV K G p s m args meth c cX0_game "VaneCourt" 5) (hr : meth.sig.returnType = (some .int)) : ∀ (n : Nat) (x1 : Int32) (x2 : Int32) (x3 : Int32) (x4 : Int32) (A : QA) {H : Heap} {locs : List Loc} {ls : Array Slot}, f_X0_game_13 T n x1 x2 x3 x4 A = some (ro, Ao) → WP K (A, rs) H locs → lv_has ls 5 [(0, .ref (K.2.1 0)), (1, .int x1), (2, .int x2), (3, .int x3), (4, .int x4)] → W p l e (qrm 121 8025 0 0) s m args below meth c H locs 0 0 (MQ below (QE K (QR (some (.int ro)) (Ao, rs))) args s 0 0 (qA K)) (F0 m 13 ls []) := by
  have hx := E.1
  have hb := E.2.1
  have hown := E.2.2.1
  have hts := E.2.2.2.2.1
  intro n
  induction n with
  | zero =>
    intro x1 x2 x3 x4 A H locs ls  h hw hl
    cases h
  | succ n ih =>
    intro x1 x2 x3 x4 A H locs ls  h hw hl
    rw [f_X0_game_13] at h
    refine lv_iload hx hb dX0_game_13 (lv_at hl 4 rfl) ?_
    refine lv_iconst (v := (3:Int32)) hx hb dX0_game_15 (by decide) ?_
    refine lv_icmp_gt (tgt := 73) hx hb dX0_game_16 (by decide) (fun c => ?_) (fun c => ?_)
    · have h := qi_t c h
      refine lv_aload_n hx hb dX0_game_73 rfl (lv_at hl 0 rfl) ?_
      refine lv_iconst (v := (0:Int32)) hx hb dX0_game_74 (by decide) ?_
      refine lv_iconst (v := (0:Int32)) hx hb dX0_game_75 (by decide) ?_
      refine lv_iload_n hx hb dX0_game_76 rfl (lv_at hl 2 rfl) ?_
      obtain ⟨u3, g4, h⟩ := qb1_s h
      refine d_V (As := [.int (0:Int32), .int (0:Int32), .int x2]) (v0 := some (.int u3)) (w0 := (A, rs)) hG E hw hl (m_X0_plays l hG hC  g4) (qX0 hC) rfl (cwV 3 hts (lw_V q1243 q1245 qs50 q137 q1246) rfl rfl rfl ⟨rfl, kd_X0_plays⟩ ⟨Nat.le_of_ble_eq_true rfl, Nat.le_of_ble_eq_true rfl⟩) rfl (rest := []) (st1 := [.int u3]) rfl rfl rfl dX0_game_77 ⟨Nat.le_of_ble_eq_true rfl, Nat.le_of_ble_eq_true rfl⟩ (fun H locs hw => ?_)
      refine lv_istore (lv' := [(4, .int u3), (0, .ref (K.2.1 0)), (1, .int x1), (2, .int x2), (3, .int x3)]) hx hb dX0_game_80 hl (by decide) rfl (fun ls hl => ?_)
      refine lv_iload_n hx hb dX0_game_82 rfl (lv_at hl 4 rfl) ?_
      refine lv_if_eq (tgt := 114) hx hb dX0_game_83 (by decide) (fun c => ?_) (fun c => ?_)
      · have h := qi_t c h
        refine lv_iload hx hb dX0_game_114 (lv_at hl 0 rfl) ?_
        have h := Option.some.inj h
        obtain ⟨h1, h2⟩ := Prod.mk.inj h
        exact d_iret E hr rfl hw h1 (by rw [h2]) dX0_game_116
      · have h := qi_f c h
        refine lv_aload_n hx hb dX0_game_86 rfl (lv_at hl 1 rfl) ?_
        refine lv_iconst (v := (1:Int32)) hx hb dX0_game_87 (by decide) ?_
        refine lv_iconst (v := (0:Int32)) hx hb dX0_game_88 (by decide) ?_
        refine lv_iload_n hx hb dX0_game_89 rfl (lv_at hl 3 rfl) ?_
        refine lv_if_ne (tgt := 97) hx hb dX0_game_90 (by decide) (fun c => ?_) (fun c => ?_)
        · have h := qi_f c h
          refine lv_iconst (v := (0:Int32)) hx hb dX0_game_97 (by decide) ?_
          exact w_X0_game_98 hG hC hT E hr  _ _ _ _ _   h hw (lv_sub hl [0] rfl)
        · have h := qi_t c h
          refine lv_iconst (v := (1:Int32)) hx hb dX0_game_93 (by decide) ?_
          refine lv_goto (tgt := 98) hx hb dX0_game_94 (by decide) ?_
          exact w_X0_game_98 hG hC hT E hr  _ _ _ _ _   h hw (lv_sub hl [0] rfl)
    · have h := qi_f c h
      refine lv_aload_n hx hb dX0_game_19 rfl (lv_at hl 0 rfl) ?_
      refine r_getX (v := .ref (K.2.1 10)) E hw hC 9 (by decide) q247 rfl dX0_game_20 ?_
      refine lv_iload hx hb dX0_game_23 (lv_at hl 4 rfl) ?_
      refine lv_aload_n hx hb dX0_game_25 rfl (lv_at hl 0 rfl) ?_
      refine lv_iload_n hx hb dX0_game_26 rfl (lv_at hl 1 rfl) ?_
      refine lv_iconst (v := (0:Int32)) hx hb dX0_game_27 (by decide) ?_
      refine lv_iload hx hb dX0_game_28 (lv_at hl 4 rfl) ?_
      obtain ⟨u7, A8, g9, h⟩ := qb2_s h
      refine d_V (As := [.int x1, .int (0:Int32), .int x4]) (v0 := some (.int u7)) (w0 := (A8, rs)) hG E hw hl (m_X0_endsIn l hG hC hT  g9) (qX0 hC) rfl (cwV 3 hts (lw_V q1194 q1196 qs46 q137 q1197) rfl rfl rfl ⟨rfl, kd_X0_endsIn⟩ ⟨Nat.le_of_ble_eq_true rfl, Nat.le_of_ble_eq_true rfl⟩) rfl (rest := [.int x4, .ref (K.2.1 10)]) (st1 := [.int u7, .int x4, .ref (K.2.1 10)]) rfl rfl rfl dX0_game_30 ⟨Nat.le_of_ble_eq_true rfl, Nat.le_of_ble_eq_true rfl⟩ (fun H locs hw => ?_)
      refine lv_if_eq (tgt := 65) hx hb dX0_game_33 (by decide) (fun c => ?_) (fun c => ?_)
      · have h := qi_t c h
        refine lv_iconst (v := (0:Int32)) hx hb dX0_game_65 (by decide) ?_
        obtain ⟨z10, h⟩ := qif_s h
        obtain ⟨A11, e12, h⟩ := qlet_s h
        refine r_iastA (j := x4.toNatClampNeg) E hw (qi_10 hC) (qok_in z10) rfl dX0_game_66 (fun H locs hw => ?_)
        rw [← e12] at hw
        obtain ⟨x4_13, e14, h⟩ := qlet_s h
        refine lv_iinc (v := x4_13) (lv' := [(4, .int x4_13), (0, .ref (K.2.1 0)), (1, .int x1), (2, .int x2), (3, .int x3)]) (k := 4) hx hb dX0_game_67 hl rfl (by rw [e14]; rfl) (by decide) rfl (fun ls hl => ?_)
        refine lv_goto (tgt := 13) hx hb dX0_game_70 (by decide) ?_
        exact ih _ _ _ _ _  h hw (lv_sub hl [1, 2, 3, 4, 0] rfl)
      · have h := qi_f c h
        refine lv_aload_n hx hb dX0_game_36 rfl (lv_at hl 0 rfl) ?_
        refine r_getX (v := .ref (K.2.1 5)) E hw hC 7 (by decide) q245 rfl dX0_game_37 ?_
        refine lv_bipush (v := (9:Int32)) hx hb dX0_game_40 (by decide) ?_
        refine lv_iload_n hx hb dX0_game_42 rfl (lv_at hl 1 rfl) ?_
        refine lv_iadd hx hb dX0_game_43 ?_
        obtain ⟨z15, h⟩ := qif_s h
        refine r_iald (j := ((9:Int32) + x1).toNatClampNeg) E hw (qi_5 hC).at (qok_in z15) rfl dX0_game_44 ?_
        refine lv_iconst (v := (3:Int32)) hx hb dX0_game_45 (by decide) ?_
        refine lv_icmp_ne (tgt := 65) hx hb dX0_game_46 (by decide) (fun c => ?_) (fun c => ?_)
        · have h := qi_f c h
          refine lv_iconst (v := (0:Int32)) hx hb dX0_game_65 (by decide) ?_
          obtain ⟨z16, h⟩ := qif_s h
          obtain ⟨A17, e18, h⟩ := qlet_s h
          refine r_iastA (j := x4.toNatClampNeg) E hw (qi_10 hC) (qok_in z16) rfl dX0_game_66 (fun H locs hw => ?_)
          rw [← e18] at hw
          obtain ⟨x4_19, e20, h⟩ := qlet_s h
          refine lv_iinc (v := x4_19) (lv' := [(4, .int x4_19), (0, .ref (K.2.1 0)), (1, .int x1), (2, .int x2), (3, .int x3)]) (k := 4) hx hb dX0_game_67 hl rfl (by rw [e20]; rfl) (by decide) rfl (fun ls hl => ?_)
          refine lv_goto (tgt := 13) hx hb dX0_game_70 (by decide) ?_
          exact ih _ _ _ _ _  h hw (lv_sub hl [1, 2, 3, 4, 0] rfl)
        · have h := qi_t c h
          refine lv_ldcw (v := (100000:Int32)) hx hb hown (hts _ q1242) dX0_game_49 ?_
          refine lv_aload_n hx hb dX0_game_52 rfl (lv_at hl 0 rfl) ?_
          refine r_getX (v := .ref (K.2.1 5)) E hw hC 7 (by decide) q245 rfl dX0_game_53 ?_
          refine lv_bipush (v := (17:Int32)) hx hb dX0_game_56 (by decide) ?_
          refine lv_iload_n hx hb dX0_game_58 rfl (lv_at hl 1 rfl) ?_
          refine lv_iadd hx hb dX0_game_59 ?_
          obtain ⟨z21, h⟩ := qif_s h
          refine r_iald (j := ((17:Int32) + x1).toNatClampNeg) E hw (qi_5 hC).at (qok_in z21) rfl dX0_game_60 ?_
          refine lv_iadd hx hb dX0_game_61 ?_
          refine lv_goto (tgt := 66) hx hb dX0_game_62 (by decide) ?_
          obtain ⟨z22, h⟩ := qif_s h
          obtain ⟨A23, e24, h⟩ := qlet_s h
          refine r_iastA (j := x4.toNatClampNeg) E hw (qi_10 hC) (qok_in z22) rfl dX0_game_66 (fun H locs hw => ?_)
          rw [← e24] at hw
          obtain ⟨x4_25, e26, h⟩ := qlet_s h
          refine lv_iinc (v := x4_25) (lv' := [(4, .int x4_25), (0, .ref (K.2.1 0)), (1, .int x1), (2, .int x2), (3, .int x3)]) (k := 4) hx hb dX0_game_67 hl rfl (by rw [e26]; rfl) (by decide) rfl (fun ls hl => ?_)
          refine lv_goto (tgt := 13) hx hb dX0_game_70 (by decide) ?_
          exact ih _ _ _ _ _  h hw (lv_sub hl [1, 2, 3, 4, 0] rfl)

def f_X0_game (T : Int32 → Option QT) (x1 : Int32) (x2 : Int32) (x3 : Int32) (A : QA) : Option (Int32 × QA) :=
  qb1 (f_X0_waits x1 A) fun u1 =>
  if u1 = (0:Int32) then (
  some ((-1:Int32), A)) else (
  f_X0_game_13 T FU x1 x2 x3 (0:Int32) A)
set_option maxHeartbeats 4000000 in
theorem w_X0_game_0 {p : Program} {l : Launch} {e : Env} {s : State} {m : MethodId} {args : Array Value} {below : List Frame} {meth : Method} {c : Code} {K : QK} {G : State → Prop} {rs : QA × QL × QX × QM} {ro : Int32} {Ao : QA} (hG : QG G) (hC : QCl K) {T : Int32 → Option QT} {ta : Int32 → Nat} (hT : QTx K G rs.2.2.1 rs.2.2.2 T ta) (E : EV K G p s m args meth c cX0_game "VaneCourt" 5) (hr : meth.sig.returnType = (some .int)) : ∀ (x1 : Int32) (x2 : Int32) (x3 : Int32) (A : QA) {H : Heap} {locs : List Loc} {ls : Array Slot}, f_X0_game T x1 x2 x3 A = some (ro, Ao) → WP K (A, rs) H locs → lv_has ls 5 [(0, .ref (K.2.1 0)), (1, .int x1), (2, .int x2), (3, .int x3)] → W p l e (qrm 121 8025 0 0) s m args below meth c H locs 0 0 (MQ below (QE K (QR (some (.int ro)) (Ao, rs))) args s 0 0 (qA K)) (F0 m 0 ls []) := by
  have hx := E.1
  have hb := E.2.1
  have hown := E.2.2.1
  have hts := E.2.2.2.2.1
  intro x1 x2 x3 A H locs ls  h hw hl
  rw [f_X0_game] at h
  refine lv_aload_n hx hb dX0_game_0 rfl (lv_at hl 0 rfl) ?_
  refine lv_iload_n hx hb dX0_game_1 rfl (lv_at hl 1 rfl) ?_
  obtain ⟨u1, g2, h⟩ := qb1_s h
  refine d_V (As := [.int x1]) (v0 := some (.int u1)) (w0 := (A, rs)) hG E hw hl (m_X0_waits l hG hC  g2) (qX0 hC) rfl (cwV 1 hts (lw_V q1073 q1075 qs37 q137 q1076) rfl rfl rfl ⟨rfl, kd_X0_waits⟩ ⟨Nat.le_of_ble_eq_true rfl, Nat.le_of_ble_eq_true rfl⟩) rfl (rest := []) (st1 := [.int u1]) rfl rfl rfl dX0_game_2 ⟨Nat.le_of_ble_eq_true rfl, Nat.le_of_ble_eq_true rfl⟩ (fun H locs hw => ?_)
  refine lv_if_ne (tgt := 10) hx hb dX0_game_5 (by decide) (fun c => ?_) (fun c => ?_)
  · have h := qi_f c h
    refine lv_iconst (v := (0:Int32)) hx hb dX0_game_10 (by decide) ?_
    refine lv_istore (lv' := [(4, .int (0:Int32)), (0, .ref (K.2.1 0)), (1, .int x1), (2, .int x2), (3, .int x3)]) hx hb dX0_game_11 hl (by decide) rfl (fun ls hl => ?_)
    exact w_X0_game_13 hG hC hT E hr  _ _ _ _ _ _   h hw (lv_sub hl [1, 2, 3, 4, 0] rfl)
  · have h := qi_t c h
    refine lv_iconst (v := (-1:Int32)) hx hb dX0_game_8 (by decide) ?_
    have h := Option.some.inj h
    obtain ⟨h1, h2⟩ := Prod.mk.inj h
    exact d_iret E hr rfl hw h1 (by rw [h2]) dX0_game_9

theorem m_X0_game (l : Launch) {K : QK} {G : State → Prop} (hG : QG G) (hC : QCl K) {rs : QA × QL × QX × QM} {T : Int32 → Option QT} {ta : Int32 → Nat} (hT : QTx K G rs.2.2.1 rs.2.2.2 T ta) {x1 : Int32} {x2 : Int32} {x3 : Int32} {A : QA} {ro : Int32} {Ao : QA} (h : f_X0_game T x1 x2 x3 A = some (ro, Ao)) : MC l K G yX0_game (ws_ yX0_game cX0_game 5 (some .int)) 121 8025 0 0 [.ref (K.2.1 0), .int x1, .int x2, .int x3] (A, rs) (QR (some (.int ro)) (Ao, rs)) := by
  refine MC.of (by decide) (Nat.le_of_ble_eq_true rfl) (lv := [(0, .ref (K.2.1 0)), (1, .int x1), (2, .int x2), (3, .int x3)]) rfl (fun p e s m below meth c ls E hr hl hw => ?_)
  exact w_X0_game_0 hG hC hT E hr _ _ _ _  h hw hl

def f_X0_sessionBy_18 (T : Int32 → Option QT) : Nat → Int32 → Int32 → Int32 → QA → Option (Int32 × QA)
  | 0, _, _, _, _ => none
  | n + 1, x1, x2, x3, A => if x1 ≤ x3 then (
  some (x2, A)) else (
  qif (qok x3 5) <|
  qb2 (f_X0_endsTried T (A 11 x3.toNatClampNeg) (0:Int32) A) fun u4 A5 =>
  if u4 = (0:Int32) then (
  qlet (x2 + (0:Int32)) fun x2_7 =>
  qlet (x3 + (1:Int32)) fun x3_9 =>
  f_X0_sessionBy_18 T n x1 x2_7 x3_9 A5) else (
  qif (qok ((17:Int32) + (A5 11 x3.toNatClampNeg)) 154) <|
  qlet (x2 + (A5 5 ((17:Int32) + (A5 11 x3.toNatClampNeg)).toNatClampNeg)) fun x2_12 =>
  qlet (x3 + (1:Int32)) fun x3_14 =>
  f_X0_sessionBy_18 T n x1 x2_12 x3_14 A5))
set_option maxHeartbeats 4000000 in
theorem w_X0_sessionBy_18 {p : Program} {l : Launch} {e : Env} {s : State} {m : MethodId} {args : Array Value} {below : List Frame} {meth : Method} {c : Code} {K : QK} {G : State → Prop} {rs : QA × QL × QX × QM} {ro : Int32} {Ao : QA} (hG : QG G) (hC : QCl K) {T : Int32 → Option QT} {ta : Int32 → Nat} (hT : QTx K G rs.2.2.1 rs.2.2.2 T ta) (E : EV K G p s m args meth c cX0_sessionBy "VaneCourt" 4) (hr : meth.sig.returnType = (some .int)) : ∀ (n : Nat) (x1 : Int32) (x2 : Int32) (x3 : Int32) (A : QA) {H : Heap} {locs : List Loc} {ls : Array Slot}, f_X0_sessionBy_18 T n x1 x2 x3 A = some (ro, Ao) → WP K (A, rs) H locs → lv_has ls 4 [(0, .ref (K.2.1 0)), (1, .int x1), (2, .int x2), (3, .int x3)] → W p l e (qrm 73 4179 0 0) s m args below meth c H locs 0 0 (MQ below (QE K (QR (some (.int ro)) (Ao, rs))) args s 0 0 (qA K)) (F0 m 18 ls []) := by
  have hx := E.1
  have hb := E.2.1
  have hown := E.2.2.1
  have hts := E.2.2.2.2.1
  intro n
  induction n with
  | zero =>
    intro x1 x2 x3 A H locs ls  h hw hl
    cases h
  | succ n ih =>
    intro x1 x2 x3 A H locs ls  h hw hl
    rw [f_X0_sessionBy_18] at h
    refine lv_iload_n hx hb dX0_sessionBy_18 rfl (lv_at hl 3 rfl) ?_
    refine lv_iload_n hx hb dX0_sessionBy_19 rfl (lv_at hl 1 rfl) ?_
    refine lv_icmp_ge (tgt := 64) hx hb dX0_sessionBy_20 (by decide) (fun c => ?_) (fun c => ?_)
    · have h := qi_t c h
      refine lv_iload_n hx hb dX0_sessionBy_64 rfl (lv_at hl 2 rfl) ?_
      have h := Option.some.inj h
      obtain ⟨h1, h2⟩ := Prod.mk.inj h
      exact d_iret E hr rfl hw h1 (by rw [h2]) dX0_sessionBy_65
    · have h := qi_f c h
      refine lv_iload_n hx hb dX0_sessionBy_23 rfl (lv_at hl 2 rfl) ?_
      refine lv_aload_n hx hb dX0_sessionBy_24 rfl (lv_at hl 0 rfl) ?_
      refine lv_aload_n hx hb dX0_sessionBy_25 rfl (lv_at hl 0 rfl) ?_
      refine r_getX (v := .ref (K.2.1 11)) E hw hC 10 (by decide) q248 rfl dX0_sessionBy_26 ?_
      refine lv_iload_n hx hb dX0_sessionBy_29 rfl (lv_at hl 3 rfl) ?_
      obtain ⟨z3, h⟩ := qif_s h
      refine r_iald (j := x3.toNatClampNeg) E hw (qi_11 hC).at (qok_in z3) rfl dX0_sessionBy_30 ?_
      refine lv_iconst (v := (0:Int32)) hx hb dX0_sessionBy_31 (by decide) ?_
      obtain ⟨u4, A5, g6, h⟩ := qb2_s h
      refine d_V (As := [.int (A 11 x3.toNatClampNeg), .int (0:Int32)]) (v0 := some (.int u4)) (w0 := (A5, rs)) hG E hw hl (m_X0_endsTried l hG hC hT  g6) (qX0 hC) rfl (cwV 2 hts (lw_V q1198 q1200 qs47 q137 q1201) rfl rfl rfl ⟨rfl, kd_X0_endsTried⟩ ⟨Nat.le_of_ble_eq_true rfl, Nat.le_of_ble_eq_true rfl⟩) rfl (rest := [.int x2]) (st1 := [.int u4, .int x2]) rfl rfl rfl dX0_sessionBy_32 ⟨Nat.le_of_ble_eq_true rfl, Nat.le_of_ble_eq_true rfl⟩ (fun H locs hw => ?_)
      refine lv_if_eq (tgt := 55) hx hb dX0_sessionBy_35 (by decide) (fun c => ?_) (fun c => ?_)
      · have h := qi_t c h
        refine lv_iconst (v := (0:Int32)) hx hb dX0_sessionBy_55 (by decide) ?_
        refine lv_iadd hx hb dX0_sessionBy_56 ?_
        obtain ⟨x2_7, e8, h⟩ := qlet_s h
        refine r_nm e8 ?_
        refine lv_istore_n (lv' := [(2, .int x2_7), (0, .ref (K.2.1 0)), (1, .int x1), (3, .int x3)]) hx hb dX0_sessionBy_57 rfl hl (by decide) rfl (fun ls hl => ?_)
        obtain ⟨x3_9, e10, h⟩ := qlet_s h
        refine lv_iinc (v := x3_9) (lv' := [(3, .int x3_9), (2, .int x2_7), (0, .ref (K.2.1 0)), (1, .int x1)]) (k := 3) hx hb dX0_sessionBy_58 hl rfl (by rw [e10]; rfl) (by decide) rfl (fun ls hl => ?_)
        refine lv_goto (tgt := 18) hx hb dX0_sessionBy_61 (by decide) ?_
        exact ih _ _ _ _  h hw (lv_sub hl [2, 3, 1, 0] rfl)
      · have h := qi_f c h
        refine lv_aload_n hx hb dX0_sessionBy_38 rfl (lv_at hl 0 rfl) ?_
        refine r_getX (v := .ref (K.2.1 5)) E hw hC 7 (by decide) q245 rfl dX0_sessionBy_39 ?_
        refine lv_bipush (v := (17:Int32)) hx hb dX0_sessionBy_42 (by decide) ?_
        refine lv_aload_n hx hb dX0_sessionBy_44 rfl (lv_at hl 0 rfl) ?_
        refine r_getX (v := .ref (K.2.1 11)) E hw hC 10 (by decide) q248 rfl dX0_sessionBy_45 ?_
        refine lv_iload_n hx hb dX0_sessionBy_48 rfl (lv_at hl 3 rfl) ?_
        refine r_iald (j := x3.toNatClampNeg) E hw (qi_11 hC).at (qok_in z3) rfl dX0_sessionBy_49 ?_
        refine lv_iadd hx hb dX0_sessionBy_50 ?_
        obtain ⟨z11, h⟩ := qif_s h
        refine r_iald (j := ((17:Int32) + (A5 11 x3.toNatClampNeg)).toNatClampNeg) E hw (qi_5 hC).at (qok_in z11) rfl dX0_sessionBy_51 ?_
        refine lv_goto (tgt := 56) hx hb dX0_sessionBy_52 (by decide) ?_
        refine lv_iadd hx hb dX0_sessionBy_56 ?_
        obtain ⟨x2_12, e13, h⟩ := qlet_s h
        refine r_nm e13 ?_
        refine lv_istore_n (lv' := [(2, .int x2_12), (0, .ref (K.2.1 0)), (1, .int x1), (3, .int x3)]) hx hb dX0_sessionBy_57 rfl hl (by decide) rfl (fun ls hl => ?_)
        obtain ⟨x3_14, e15, h⟩ := qlet_s h
        refine lv_iinc (v := x3_14) (lv' := [(3, .int x3_14), (2, .int x2_12), (0, .ref (K.2.1 0)), (1, .int x1)]) (k := 3) hx hb dX0_sessionBy_58 hl rfl (by rw [e15]; rfl) (by decide) rfl (fun ls hl => ?_)
        refine lv_goto (tgt := 18) hx hb dX0_sessionBy_61 (by decide) ?_
        exact ih _ _ _ _  h hw (lv_sub hl [2, 3, 1, 0] rfl)

def f_X0_sessionBy (T : Int32 → Option QT) (x1 : Int32) (A : QA) : Option (Int32 × QA) :=
  qlet (qset A 5 (va_cpy (A 101) (A 5) 0 0 154)) fun A1 =>
  f_X0_sessionBy_18 T FU x1 (0:Int32) (0:Int32) A1
set_option maxHeartbeats 4000000 in
theorem w_X0_sessionBy_0 {p : Program} {l : Launch} {e : Env} {s : State} {m : MethodId} {args : Array Value} {below : List Frame} {meth : Method} {c : Code} {K : QK} {G : State → Prop} {rs : QA × QL × QX × QM} {ro : Int32} {Ao : QA} (hG : QG G) (hC : QCl K) {T : Int32 → Option QT} {ta : Int32 → Nat} (hT : QTx K G rs.2.2.1 rs.2.2.2 T ta) (E : EV K G p s m args meth c cX0_sessionBy "VaneCourt" 4) (hr : meth.sig.returnType = (some .int)) : ∀ (x1 : Int32) (A : QA) {H : Heap} {locs : List Loc} {ls : Array Slot}, f_X0_sessionBy T x1 A = some (ro, Ao) → WP K (A, rs) H locs → lv_has ls 4 [(0, .ref (K.2.1 0)), (1, .int x1)] → W p l e (qrm 73 4179 0 0) s m args below meth c H locs 0 0 (MQ below (QE K (QR (some (.int ro)) (Ao, rs))) args s 0 0 (qA K)) (F0 m 0 ls []) := by
  have hx := E.1
  have hb := E.2.1
  have hown := E.2.2.1
  have hts := E.2.2.2.2.1
  intro x1 A H locs ls  h hw hl
  rw [f_X0_sessionBy] at h
  refine lv_aload_n hx hb dX0_sessionBy_0 rfl (lv_at hl 0 rfl) ?_
  refine r_getX (v := .ref (K.2.1 1)) E hw hC 0 (by decide) q238 rfl dX0_sessionBy_1 ?_
  refine r_getS1 (v := .ref (K.2.1 101)) hG E hw hC 1 (by decide) q193 rfl dX0_sessionBy_4 ?_
  refine lv_aload_n hx hb dX0_sessionBy_7 rfl (lv_at hl 0 rfl) ?_
  refine r_getX (v := .ref (K.2.1 5)) E hw hC 7 (by decide) q245 rfl dX0_sessionBy_8 ?_
  obtain ⟨A1, e2, h⟩ := qlet_s h
  refine d_SN (As := [.ref (K.2.1 101), .ref (K.2.1 5)]) (v0 := none) hG E hw hl (m_X1_copy l hG hC (qi_101 hC) (qi_5 hC) (Nat.le_of_ble_eq_true rfl)) ⟨va_cnB 2 hts (lw_meth q231) rfl rfl rfl (hG.2.2 s _ E.2.2.2.2.2.1 q1169 rfl) (hts _ q138) kd_X1_copy ⟨Nat.le_of_ble_eq_true rfl, Nat.le_of_ble_eq_true rfl⟩, hts _ q230, trivial⟩ rfl (rest := []) (st1 := []) rfl rfl rfl dX0_sessionBy_11 ⟨Nat.le_of_ble_eq_true rfl, Nat.le_of_ble_eq_true rfl⟩ (fun H locs hw => ?_)
  rw [← e2] at hw
  refine lv_iconst (v := (0:Int32)) hx hb dX0_sessionBy_14 (by decide) ?_
  refine lv_istore_n (lv' := [(2, .int (0:Int32)), (0, .ref (K.2.1 0)), (1, .int x1)]) hx hb dX0_sessionBy_15 rfl hl (by decide) rfl (fun ls hl => ?_)
  refine lv_iconst (v := (0:Int32)) hx hb dX0_sessionBy_16 (by decide) ?_
  refine lv_istore_n (lv' := [(3, .int (0:Int32)), (2, .int (0:Int32)), (0, .ref (K.2.1 0)), (1, .int x1)]) hx hb dX0_sessionBy_17 rfl hl (by decide) rfl (fun ls hl => ?_)
  exact w_X0_sessionBy_18 hG hC hT E hr  _ _ _ _ _   h hw (lv_sub hl [2, 3, 1, 0] rfl)

theorem m_X0_sessionBy (l : Launch) {K : QK} {G : State → Prop} (hG : QG G) (hC : QCl K) {rs : QA × QL × QX × QM} {T : Int32 → Option QT} {ta : Int32 → Nat} (hT : QTx K G rs.2.2.1 rs.2.2.2 T ta) {x1 : Int32} {A : QA} {ro : Int32} {Ao : QA} (h : f_X0_sessionBy T x1 A = some (ro, Ao)) : MC l K G yX0_sessionBy (ws_ yX0_sessionBy cX0_sessionBy 4 (some .int)) 73 4179 0 0 [.ref (K.2.1 0), .int x1] (A, rs) (QR (some (.int ro)) (Ao, rs)) := by
  refine MC.of (by decide) (Nat.le_of_ble_eq_true rfl) (lv := [(0, .ref (K.2.1 0)), (1, .int x1)]) rfl (fun p e s m below meth c ls E hr hl hw => ?_)
  exact w_X0_sessionBy_0 hG hC hT E hr _ _  h hw hl

def f_X0_orders_41 (slf : (Int32 → Int32 → QA → Option (QA))) (T : Int32 → Option QT) : Nat → Int32 → Int32 → Int32 → QA → Option (QA)
  | 0, _, _, _, _ => none
  | n + 1, x1, x2, x3, A => if (A 100 0) ≤ x3 then (
  some (A)) else (
  qb1 (f_X0_has x1 x3) fun u1 =>
  if u1 = (0:Int32) then (
  qlet (x3 + (1:Int32)) fun x3_10 =>
  f_X0_orders_41 slf T n x1 x2 x3_10 A) else (
  qif (qok x2 5) <|
  qlet (qu A 11 x2.toNatClampNeg x3) fun A4 =>
  qb1 (slf (x1 &&& (((1:Int32) <<< (x3 &&& 31)) ^^^ (-1:Int32))) (x2 + (1:Int32)) A4) fun A6 =>
  qlet (x3 + (1:Int32)) fun x3_8 =>
  f_X0_orders_41 slf T n x1 x2 x3_8 A6))
set_option maxHeartbeats 4000000 in
theorem w_X0_orders_41 {f1 l1 : Nat} {p : Program} {l : Launch} {e : Env} {s : State} {m : MethodId} {args : Array Value} {below : List Frame} {meth : Method} {c : Code} {K : QK} {G : State → Prop} {rs : QA × QL × QX × QM} {Ao : QA} (hG : QG G) (hC : QCl K) {T : Int32 → Option QT} {ta : Int32 → Nat} (hT : QTx K G rs.2.2.1 rs.2.2.2 T ta) (E : EV K G p s m args meth c cX0_orders "VaneCourt" 4) (hr : meth.sig.returnType = none) {slf : (Int32 → Int32 → QA → Option (QA))} (hslf : ∀ (x1 : Int32) (x2 : Int32) (A : QA) (Ao : QA), slf x1 x2 A = some Ao → MC l K G yX0_orders (ws_ yX0_orders cX0_orders 4 none) f1 l1 0 0 [.ref (K.2.1 0), .int x1, .int x2] (A, rs) (QR none (Ao, rs))) : ∀ (n : Nat) (x1 : Int32) (x2 : Int32) (x3 : Int32) (A : QA) {H : Heap} {locs : List Loc} {ls : Array Slot}, f_X0_orders_41 slf T n x1 x2 x3 A = some Ao → WP K (A, rs) H locs → lv_has ls 4 [(0, .ref (K.2.1 0)), (1, .int x1), (2, .int x2), (3, .int x3)] → W p l e (qrm (f1 + 120) (l1 + 6000) 0 0) s m args below meth c H locs 0 0 (MQ below (QE K (QR none (Ao, rs))) args s 0 0 (qA K)) (F0 m 41 ls []) := by
  have hx := E.1
  have hb := E.2.1
  have hown := E.2.2.1
  have hts := E.2.2.2.2.1
  intro n
  induction n with
  | zero =>
    intro x1 x2 x3 A H locs ls  h hw hl
    cases h
  | succ n ih =>
    intro x1 x2 x3 A H locs ls  h hw hl
    rw [f_X0_orders_41] at h
    refine lv_iload_n hx hb dX0_orders_41 rfl (lv_at hl 3 rfl) ?_
    refine lv_aload_n hx hb dX0_orders_42 rfl (lv_at hl 0 rfl) ?_
    refine r_getX (v := .ref (K.2.1 1)) E hw hC 0 (by decide) q238 rfl dX0_orders_43 ?_
    refine r_getS1 (v := .ref (K.2.1 100)) hG E hw hC 0 (by decide) q191 rfl dX0_orders_46 ?_
    refine lv_iconst (v := (0:Int32)) hx hb dX0_orders_49 (by decide) ?_
    refine r_iald (j := 0) E hw (qi_100 hC).at (q_lit (k := 0) (n := 7) rfl rfl) (q_clamp (k := 0) rfl) dX0_orders_50 ?_
    refine lv_icmp_ge (tgt := 92) hx hb dX0_orders_51 (by decide) (fun c => ?_) (fun c => ?_)
    · have h := qi_t c h
      have h := Option.some.inj h
      have h1 := h
      exact d_ret E hr hw (by rw [h1]) dX0_orders_92
    · have h := qi_f c h
      refine lv_iload_n hx hb dX0_orders_54 rfl (lv_at hl 1 rfl) ?_
      refine lv_iload_n hx hb dX0_orders_55 rfl (lv_at hl 3 rfl) ?_
      obtain ⟨u1, g2, h⟩ := qb1_s h
      refine d_S (As := [.int x1, .int x3]) (v0 := some (.int u1)) (w0 := (A, rs)) hG E hw hl (m_X0_has l hG hC  g2) (va_cwS 2 hts (lw_S q907 q908 q137 q909) rfl rfl rfl kd_X0_has ⟨(show 1 + 1 ≤ f1 + 120 by omega), (show 8 + (2 + 11) + 40 ≤ l1 + 6000 by omega)⟩) rfl (rest := []) (st1 := [.int u1]) rfl rfl rfl dX0_orders_56 ⟨Nat.le_of_ble_eq_true rfl, Nat.le_of_ble_eq_true rfl⟩ (fun H locs hw => ?_)
      refine lv_if_ne (tgt := 65) hx hb dX0_orders_59 (by decide) (fun c => ?_) (fun c => ?_)
      · have h := qi_f c h
        refine lv_aload_n hx hb dX0_orders_65 rfl (lv_at hl 0 rfl) ?_
        refine r_getX (v := .ref (K.2.1 11)) E hw hC 10 (by decide) q248 rfl dX0_orders_66 ?_
        refine lv_iload_n hx hb dX0_orders_69 rfl (lv_at hl 2 rfl) ?_
        refine lv_iload_n hx hb dX0_orders_70 rfl (lv_at hl 3 rfl) ?_
        obtain ⟨z3, h⟩ := qif_s h
        obtain ⟨A4, e5, h⟩ := qlet_s h
        refine r_iastA (j := x2.toNatClampNeg) E hw (qi_11 hC) (qok_in z3) rfl dX0_orders_71 (fun H locs hw => ?_)
        rw [← e5] at hw
        refine lv_aload_n hx hb dX0_orders_72 rfl (lv_at hl 0 rfl) ?_
        refine lv_iload_n hx hb dX0_orders_73 rfl (lv_at hl 1 rfl) ?_
        refine lv_iconst (v := (1:Int32)) hx hb dX0_orders_74 (by decide) ?_
        refine lv_iload_n hx hb dX0_orders_75 rfl (lv_at hl 3 rfl) ?_
        refine lv_ishl hx hb dX0_orders_76 ?_
        refine lv_iconst (v := (-1:Int32)) hx hb dX0_orders_77 (by decide) ?_
        refine lv_ixor hx hb dX0_orders_78 ?_
        refine lv_iand hx hb dX0_orders_79 ?_
        refine lv_iload_n hx hb dX0_orders_80 rfl (lv_at hl 2 rfl) ?_
        refine lv_iconst (v := (1:Int32)) hx hb dX0_orders_81 (by decide) ?_
        refine lv_iadd hx hb dX0_orders_82 ?_
        obtain ⟨A6, g7, h⟩ := qb1_s h
        refine d_V (As := [.int (x1 &&& (((1:Int32) <<< (x3 &&& 31)) ^^^ (-1:Int32))), .int (x2 + (1:Int32))]) (v0 := none) (w0 := (A6, rs)) hG E hw hl (hslf _ _ _ _  g7) (qX0 hC) rfl (cwV 2 hts (lw_V q1252 q1254 qs51 q137 q1255) rfl rfl rfl ⟨rfl, kd_X0_orders⟩ ⟨(show f1 + 1 ≤ f1 + 120 by omega), (show 8 + (4 + 11) + l1 ≤ l1 + 6000 by omega)⟩) rfl (rest := []) (st1 := []) rfl rfl rfl dX0_orders_83 ⟨Nat.le_of_ble_eq_true rfl, Nat.le_of_ble_eq_true rfl⟩ (fun H locs hw => ?_)
        obtain ⟨x3_8, e9, h⟩ := qlet_s h
        refine lv_iinc (v := x3_8) (lv' := [(3, .int x3_8), (0, .ref (K.2.1 0)), (1, .int x1), (2, .int x2)]) (k := 3) hx hb dX0_orders_86 hl rfl (by rw [e9]; rfl) (by decide) rfl (fun ls hl => ?_)
        refine lv_goto (tgt := 41) hx hb dX0_orders_89 (by decide) ?_
        exact ih _ _ _ _  h hw (lv_sub hl [1, 2, 3, 0] rfl)
      · have h := qi_t c h
        refine lv_goto (tgt := 86) hx hb dX0_orders_62 (by decide) ?_
        obtain ⟨x3_10, e11, h⟩ := qlet_s h
        refine lv_iinc (v := x3_10) (lv' := [(3, .int x3_10), (0, .ref (K.2.1 0)), (1, .int x1), (2, .int x2)]) (k := 3) hx hb dX0_orders_86 hl rfl (by rw [e11]; rfl) (by decide) rfl (fun ls hl => ?_)
        refine lv_goto (tgt := 41) hx hb dX0_orders_89 (by decide) ?_
        exact ih _ _ _ _  h hw (lv_sub hl [1, 2, 3, 0] rfl)

def f_X0_orders_0 (slf : (Int32 → Int32 → QA → Option (QA))) (T : Int32 → Option QT) (x1 : Int32) (x2 : Int32) (A : QA) : Option (QA) :=
  if x1 = (0:Int32) then (
  qb2 (f_X0_sessionBy T x2 A) fun u12 A13 =>
  if (A13 0 12) < u12 then (
  qlet (qu A13 0 12 u12) fun A15 =>
  qif (decide (¬ x2 < 0)) <|
  qif (decide (0 + x2.toNatClampNeg ≤ 5)) <|
  qif (decide (0 + x2.toNatClampNeg ≤ 5)) <|
  qlet (qset A15 12 (va_cpy (A15 11) (A15 12) 0 0 x2.toNatClampNeg)) fun A20 =>
  some (A20)) else (
  some (A13))) else (
  f_X0_orders_41 slf T FU x1 x2 (0:Int32) A)
set_option maxHeartbeats 4000000 in
theorem w_X0_orders_0 {f1 l1 : Nat} {p : Program} {l : Launch} {e : Env} {s : State} {m : MethodId} {args : Array Value} {below : List Frame} {meth : Method} {c : Code} {K : QK} {G : State → Prop} {rs : QA × QL × QX × QM} {Ao : QA} (hG : QG G) (hC : QCl K) {T : Int32 → Option QT} {ta : Int32 → Nat} (hT : QTx K G rs.2.2.1 rs.2.2.2 T ta) (E : EV K G p s m args meth c cX0_orders "VaneCourt" 4) (hr : meth.sig.returnType = none) {slf : (Int32 → Int32 → QA → Option (QA))} (hslf : ∀ (x1 : Int32) (x2 : Int32) (A : QA) (Ao : QA), slf x1 x2 A = some Ao → MC l K G yX0_orders (ws_ yX0_orders cX0_orders 4 none) f1 l1 0 0 [.ref (K.2.1 0), .int x1, .int x2] (A, rs) (QR none (Ao, rs))) : ∀ (x1 : Int32) (x2 : Int32) (A : QA) {H : Heap} {locs : List Loc} {ls : Array Slot}, f_X0_orders_0 slf T x1 x2 A = some Ao → WP K (A, rs) H locs → lv_has ls 4 [(0, .ref (K.2.1 0)), (1, .int x1), (2, .int x2)] → W p l e (qrm (f1 + 120) (l1 + 6000) 0 0) s m args below meth c H locs 0 0 (MQ below (QE K (QR none (Ao, rs))) args s 0 0 (qA K)) (F0 m 0 ls []) := by
  have hx := E.1
  have hb := E.2.1
  have hown := E.2.2.1
  have hts := E.2.2.2.2.1
  intro x1 x2 A H locs ls  h hw hl
  rw [f_X0_orders_0] at h
  refine lv_iload_n hx hb dX0_orders_0 rfl (lv_at hl 1 rfl) ?_
  refine lv_if_ne (tgt := 39) hx hb dX0_orders_1 (by decide) (fun c => ?_) (fun c => ?_)
  · have h := qi_f c h
    refine lv_iconst (v := (0:Int32)) hx hb dX0_orders_39 (by decide) ?_
    refine lv_istore_n (lv' := [(3, .int (0:Int32)), (0, .ref (K.2.1 0)), (1, .int x1), (2, .int x2)]) hx hb dX0_orders_40 rfl hl (by decide) rfl (fun ls hl => ?_)
    exact w_X0_orders_41 hG hC hT E hr hslf _ _ _ _ _   h hw (lv_sub hl [1, 2, 3, 0] rfl)
  · have h := qi_t c h
    refine lv_aload_n hx hb dX0_orders_4 rfl (lv_at hl 0 rfl) ?_
    refine lv_iload_n hx hb dX0_orders_5 rfl (lv_at hl 2 rfl) ?_
    obtain ⟨u12, A13, g14, h⟩ := qb2_s h
    refine d_V (As := [.int x2]) (v0 := some (.int u12)) (w0 := (A13, rs)) hG E hw hl (m_X0_sessionBy l hG hC hT  g14) (qX0 hC) rfl (cwV 1 hts (lw_V q1256 q1258 qs52 q137 q1259) rfl rfl rfl ⟨rfl, kd_X0_sessionBy⟩ ⟨(show 73 + 1 ≤ f1 + 120 by omega), (show 8 + (4 + 11) + 4179 ≤ l1 + 6000 by omega)⟩) rfl (rest := []) (st1 := [.int u12]) rfl rfl rfl dX0_orders_6 ⟨Nat.le_of_ble_eq_true rfl, Nat.le_of_ble_eq_true rfl⟩ (fun H locs hw => ?_)
    refine lv_istore_n (lv' := [(3, .int u12), (0, .ref (K.2.1 0)), (1, .int x1), (2, .int x2)]) hx hb dX0_orders_9 rfl hl (by decide) rfl (fun ls hl => ?_)
    refine lv_iload_n hx hb dX0_orders_10 rfl (lv_at hl 0 rfl) ?_
    refine lv_aload_n hx hb dX0_orders_11 rfl (lv_at hl 1 rfl) ?_
    refine r_getX (v := .int (A13 0 12)) E hw hC 12 (by decide) q250 rfl dX0_orders_12 ?_
    refine lv_icmp_gt (tgt := 19) hx hb dX0_orders_15 (by decide) (fun c => ?_) (fun c => ?_)
    · have h := qi_t c h
      refine lv_aload_n hx hb dX0_orders_19 rfl (lv_at hl 1 rfl) ?_
      refine lv_iload_n hx hb dX0_orders_20 rfl (lv_at hl 0 rfl) ?_
      obtain ⟨A15, e16, h⟩ := qlet_s h
      refine r_putX E hw hC 12 (by decide) q250 rfl rfl (fun _ => rfl) dX0_orders_21 (fun H locs hw => ?_)
      rw [← e16] at hw
      refine lv_aload_n hx hb dX0_orders_24 rfl (lv_at hl 1 rfl) ?_
      refine r_getX (v := .ref (K.2.1 11)) E hw hC 10 (by decide) q248 rfl dX0_orders_25 ?_
      refine lv_iconst (v := (0:Int32)) hx hb dX0_orders_28 (by decide) ?_
      refine lv_aload_n hx hb dX0_orders_29 rfl (lv_at hl 1 rfl) ?_
      refine r_getX (v := .ref (K.2.1 12)) E hw hC 11 (by decide) q249 rfl dX0_orders_30 ?_
      refine lv_iconst (v := (0:Int32)) hx hb dX0_orders_33 (by decide) ?_
      refine lv_iload_n hx hb dX0_orders_34 rfl (lv_at hl 3 rfl) ?_
      obtain ⟨z17, h⟩ := qif_s h
      obtain ⟨z18, h⟩ := qif_s h
      obtain ⟨z19, h⟩ := qif_s h
      obtain ⟨A20, e21, h⟩ := qlet_s h
      refine r_copyA (j0 := 0) (j1 := 0) (j2 := x2.toNatClampNeg) E hl hw (qi_11 hC) (qi_12 hC) q1051 q234 q233 q139 (by decide) (by decide) (of_decide_eq_true z17) (q_clamp (k := 0) rfl) (q_clamp (k := 0) rfl) rfl (of_decide_eq_true z18) (of_decide_eq_true z19) (Nat.le_trans (Nat.le_of_ble_eq_true rfl : 1 ≤ 120) (Nat.le_add_left _ _)) (Nat.le_trans (Nat.le_of_ble_eq_true rfl : _ ≤ 6000) (Nat.le_add_left _ _)) dX0_orders_35 (fun H locs hw => ?_)
      rw [← e21] at hw
      have h := Option.some.inj h
      have h1 := h
      exact d_ret E hr hw (by rw [h1]) dX0_orders_38
    · have h := qi_f c h
      have h := Option.some.inj h
      have h1 := h
      exact d_ret E hr hw (by rw [h1]) dX0_orders_18

def f_X0_orders (T : Int32 → Option QT) : Nat → Int32 → Int32 → QA → Option (QA)
  | 0, _, _, _ => none
  | d + 1, x1, x2, A => f_X0_orders_0 (f_X0_orders T d) T x1 x2 A

theorem m_X0_orders_d (l : Launch) {K : QK} {G : State → Prop} (hG : QG G) (hC : QCl K) {rs : QA × QL × QX × QM} {T : Int32 → Option QT} {ta : Int32 → Nat} (hT : QTx K G rs.2.2.1 rs.2.2.2 T ta) : ∀ (d : Nat) (x1 : Int32) (x2 : Int32) (A : QA) (Ao : QA), f_X0_orders T d x1 x2 A = some Ao → MC l K G yX0_orders (ws_ yX0_orders cX0_orders 4 none) (d * 120) (d * 6000) 0 0 [.ref (K.2.1 0), .int x1, .int x2] (A, rs) (QR none (Ao, rs)) := by
  intro d
  induction d with
  | zero =>
    intro x1 x2 A Ao h
    cases h
  | succ d ih =>
    intro x1 x2 A Ao h
    rw [f_X0_orders] at h
    rw [Nat.succ_mul, Nat.succ_mul]
    refine MC.of (by decide) (Nat.le_of_ble_eq_true rfl) (lv := [(0, .ref (K.2.1 0)), (1, .int x1), (2, .int x2)]) rfl (fun p e s m below meth c ls E hr hl hw => ?_)
    exact w_X0_orders_0 hG hC hT E hr ih _ _ _  h hw hl
theorem m_X0_orders (l : Launch) {K : QK} {G : State → Prop} (hG : QG G) (hC : QCl K) {rs : QA × QL × QX × QM} {T : Int32 → Option QT} {ta : Int32 → Nat} (hT : QTx K G rs.2.2.1 rs.2.2.2 T ta) {d : Nat} {x1 : Int32} {x2 : Int32} {A : QA} {Ao : QA} (h : f_X0_orders T d x1 x2 A = some Ao) : MC l K G yX0_orders (ws_ yX0_orders cX0_orders 4 none) (d * 120) (d * 6000) 0 0 [.ref (K.2.1 0), .int x1, .int x2] (A, rs) (QR none (Ao, rs)) := m_X0_orders_d l hG hC hT d _ _ _ _  h

def f_X0_session_48 (T : Int32 → Option QT) : Nat → Int32 → Int32 → Int32 → QA → Option (Int32 × QA)
  | 0, _, _, _, _ => none
  | n + 1, x1, x2, x3, A => if (A 100 0) ≤ x3 then (
  qlet (qu A 0 12 (-1:Int32)) fun A9 =>
  qb1 (f_X0_orders T 8 x1 (0:Int32) A9) fun A11 =>
  if x2 = (-1:Int32) then (
  some ((A11 0 12), A11)) else (
  qif (qok x2 5) <|
  some ((A11 12 x2.toNatClampNeg), A11))) else (
  qb1 (f_X0_has x1 x3) fun u14 =>
  if u14 = (0:Int32) then (
  qlet (x3 + (1:Int32)) fun x3_16 =>
  f_X0_session_48 T n x1 x2 x3_16 A) else (
  qb1 (f_X0_waits x3 A) fun u18 =>
  if u18 = (0:Int32) then (
  some ((-2:Int32), A)) else (
  qlet (x3 + (1:Int32)) fun x3_20 =>
  f_X0_session_48 T n x1 x2 x3_20 A)))
set_option maxHeartbeats 4000000 in
theorem w_X0_session_48 {p : Program} {l : Launch} {e : Env} {s : State} {m : MethodId} {args : Array Value} {below : List Frame} {meth : Method} {c : Code} {K : QK} {G : State → Prop} {rs : QA × QL × QX × QM} {ro : Int32} {Ao : QA} (hG : QG G) (hC : QCl K) {T : Int32 → Option QT} {ta : Int32 → Nat} (hT : QTx K G rs.2.2.1 rs.2.2.2 T ta) (E : EV K G p s m args meth c cX0_session "VaneCourt" 4) (hr : meth.sig.returnType = (some .int)) : ∀ (n : Nat) (x1 : Int32) (x2 : Int32) (x3 : Int32) (A : QA) {H : Heap} {locs : List Loc} {ls : Array Slot}, f_X0_session_48 T n x1 x2 x3 A = some (ro, Ao) → WP K (A, rs) H locs → lv_has ls 4 [(0, .ref (K.2.1 0)), (1, .int x1), (2, .int x2), (3, .int x3)] → W p l e (qrm 961 48023 0 0) s m args below meth c H locs 0 0 (MQ below (QE K (QR (some (.int ro)) (Ao, rs))) args s 0 0 (qA K)) (F0 m 48 ls []) := by
  have hx := E.1
  have hb := E.2.1
  have hown := E.2.2.1
  have hts := E.2.2.2.2.1
  intro n
  induction n with
  | zero =>
    intro x1 x2 x3 A H locs ls  h hw hl
    cases h
  | succ n ih =>
    intro x1 x2 x3 A H locs ls  h hw hl
    rw [f_X0_session_48] at h
    refine lv_iload_n hx hb dX0_session_48 rfl (lv_at hl 3 rfl) ?_
    refine lv_aload_n hx hb dX0_session_49 rfl (lv_at hl 0 rfl) ?_
    refine r_getX (v := .ref (K.2.1 1)) E hw hC 0 (by decide) q238 rfl dX0_session_50 ?_
    refine r_getS1 (v := .ref (K.2.1 100)) hG E hw hC 0 (by decide) q191 rfl dX0_session_53 ?_
    refine lv_iconst (v := (0:Int32)) hx hb dX0_session_56 (by decide) ?_
    refine r_iald (j := 0) E hw (qi_100 hC).at (q_lit (k := 0) (n := 7) rfl rfl) (q_clamp (k := 0) rfl) dX0_session_57 ?_
    refine lv_icmp_ge (tgt := 86) hx hb dX0_session_58 (by decide) (fun c => ?_) (fun c => ?_)
    · have h := qi_t c h
      refine lv_aload_n hx hb dX0_session_86 rfl (lv_at hl 0 rfl) ?_
      refine lv_iconst (v := (-1:Int32)) hx hb dX0_session_87 (by decide) ?_
      obtain ⟨A9, e10, h⟩ := qlet_s h
      refine r_putX E hw hC 12 (by decide) q250 rfl rfl (fun _ => rfl) dX0_session_88 (fun H locs hw => ?_)
      rw [← e10] at hw
      refine lv_aload_n hx hb dX0_session_91 rfl (lv_at hl 0 rfl) ?_
      refine lv_iload_n hx hb dX0_session_92 rfl (lv_at hl 1 rfl) ?_
      refine lv_iconst (v := (0:Int32)) hx hb dX0_session_93 (by decide) ?_
      obtain ⟨A11, g12, h⟩ := qb1_s h
      refine d_V (As := [.int x1, .int (0:Int32)]) (v0 := none) (w0 := (A11, rs)) hG E hw hl (m_X0_orders l hG hC hT  g12) (qX0 hC) rfl (cwV 2 hts (lw_V q1252 q1254 qs51 q137 q1255) rfl rfl rfl ⟨rfl, kd_X0_orders⟩ ⟨Nat.le_of_ble_eq_true rfl, Nat.le_of_ble_eq_true rfl⟩) rfl (rest := []) (st1 := []) rfl rfl rfl dX0_session_94 ⟨Nat.le_of_ble_eq_true rfl, Nat.le_of_ble_eq_true rfl⟩ (fun H locs hw => ?_)
      refine lv_iload_n hx hb dX0_session_97 rfl (lv_at hl 2 rfl) ?_
      refine lv_iconst (v := (-1:Int32)) hx hb dX0_session_98 (by decide) ?_
      refine lv_icmp_ne (tgt := 109) hx hb dX0_session_99 (by decide) (fun c => ?_) (fun c => ?_)
      · have h := qi_f c h
        refine lv_aload_n hx hb dX0_session_109 rfl (lv_at hl 0 rfl) ?_
        refine r_getX (v := .ref (K.2.1 12)) E hw hC 11 (by decide) q249 rfl dX0_session_110 ?_
        refine lv_iload_n hx hb dX0_session_113 rfl (lv_at hl 2 rfl) ?_
        obtain ⟨z13, h⟩ := qif_s h
        refine r_iald (j := x2.toNatClampNeg) E hw (qi_12 hC).at (qok_in z13) rfl dX0_session_114 ?_
        have h := Option.some.inj h
        obtain ⟨h1, h2⟩ := Prod.mk.inj h
        exact d_iret E hr rfl hw h1 (by rw [h2]) dX0_session_115
      · have h := qi_t c h
        refine lv_aload_n hx hb dX0_session_102 rfl (lv_at hl 0 rfl) ?_
        refine r_getX (v := .int (A11 0 12)) E hw hC 12 (by decide) q250 rfl dX0_session_103 ?_
        refine lv_goto (tgt := 115) hx hb dX0_session_106 (by decide) ?_
        have h := Option.some.inj h
        obtain ⟨h1, h2⟩ := Prod.mk.inj h
        exact d_iret E hr rfl hw h1 (by rw [h2]) dX0_session_115
    · have h := qi_f c h
      refine lv_iload_n hx hb dX0_session_61 rfl (lv_at hl 1 rfl) ?_
      refine lv_iload_n hx hb dX0_session_62 rfl (lv_at hl 3 rfl) ?_
      obtain ⟨u14, g15, h⟩ := qb1_s h
      refine d_S (As := [.int x1, .int x3]) (v0 := some (.int u14)) (w0 := (A, rs)) hG E hw hl (m_X0_has l hG hC  g15) (va_cwS 2 hts (lw_S q907 q908 q137 q909) rfl rfl rfl kd_X0_has ⟨Nat.le_of_ble_eq_true rfl, Nat.le_of_ble_eq_true rfl⟩) rfl (rest := []) (st1 := [.int u14]) rfl rfl rfl dX0_session_63 ⟨Nat.le_of_ble_eq_true rfl, Nat.le_of_ble_eq_true rfl⟩ (fun H locs hw => ?_)
      refine lv_if_eq (tgt := 80) hx hb dX0_session_66 (by decide) (fun c => ?_) (fun c => ?_)
      · have h := qi_t c h
        obtain ⟨x3_16, e17, h⟩ := qlet_s h
        refine lv_iinc (v := x3_16) (lv' := [(3, .int x3_16), (0, .ref (K.2.1 0)), (1, .int x1), (2, .int x2)]) (k := 3) hx hb dX0_session_80 hl rfl (by rw [e17]; rfl) (by decide) rfl (fun ls hl => ?_)
        refine lv_goto (tgt := 48) hx hb dX0_session_83 (by decide) ?_
        exact ih _ _ _ _  h hw (lv_sub hl [1, 2, 3, 0] rfl)
      · have h := qi_f c h
        refine lv_aload_n hx hb dX0_session_69 rfl (lv_at hl 0 rfl) ?_
        refine lv_iload_n hx hb dX0_session_70 rfl (lv_at hl 3 rfl) ?_
        obtain ⟨u18, g19, h⟩ := qb1_s h
        refine d_V (As := [.int x3]) (v0 := some (.int u18)) (w0 := (A, rs)) hG E hw hl (m_X0_waits l hG hC  g19) (qX0 hC) rfl (cwV 1 hts (lw_V q1073 q1075 qs37 q137 q1076) rfl rfl rfl ⟨rfl, kd_X0_waits⟩ ⟨Nat.le_of_ble_eq_true rfl, Nat.le_of_ble_eq_true rfl⟩) rfl (rest := []) (st1 := [.int u18]) rfl rfl rfl dX0_session_71 ⟨Nat.le_of_ble_eq_true rfl, Nat.le_of_ble_eq_true rfl⟩ (fun H locs hw => ?_)
        refine lv_if_ne (tgt := 80) hx hb dX0_session_74 (by decide) (fun c => ?_) (fun c => ?_)
        · have h := qi_f c h
          obtain ⟨x3_20, e21, h⟩ := qlet_s h
          refine lv_iinc (v := x3_20) (lv' := [(3, .int x3_20), (0, .ref (K.2.1 0)), (1, .int x1), (2, .int x2)]) (k := 3) hx hb dX0_session_80 hl rfl (by rw [e21]; rfl) (by decide) rfl (fun ls hl => ?_)
          refine lv_goto (tgt := 48) hx hb dX0_session_83 (by decide) ?_
          exact ih _ _ _ _  h hw (lv_sub hl [1, 2, 3, 0] rfl)
        · have h := qi_t c h
          refine lv_bipush (v := (-2:Int32)) hx hb dX0_session_77 (by decide) ?_
          have h := Option.some.inj h
          obtain ⟨h1, h2⟩ := Prod.mk.inj h
          exact d_iret E hr rfl hw h1 (by rw [h2]) dX0_session_79

def f_X0_session (T : Int32 → Option QT) (x1 : Int32) (x2 : Int32) (A : QA) : Option (Int32 × QA) :=
  qb1 (f_X0_in x1 (1:Int32) (((1:Int32) <<< ((A 100 0) &&& 31)) - (1:Int32))) fun u1 =>
  if u1 = (0:Int32) then (
  some ((-2:Int32), A)) else (
  qb1 (f_J14_bitCount x1) fun u3 =>
  if (5:Int32) < u3 then (
  some ((-2:Int32), A)) else (
  qb1 (f_J14_bitCount x1) fun u5 =>
  qb1 (f_X0_in x2 (-1:Int32) (u5 - (1:Int32))) fun u7 =>
  if u7 = (0:Int32) then (
  some ((-2:Int32), A)) else (
  f_X0_session_48 T FU x1 x2 (0:Int32) A)))
set_option maxHeartbeats 4000000 in
theorem w_X0_session_0 {p : Program} {l : Launch} {e : Env} {s : State} {m : MethodId} {args : Array Value} {below : List Frame} {meth : Method} {c : Code} {K : QK} {G : State → Prop} {rs : QA × QL × QX × QM} {ro : Int32} {Ao : QA} (hG : QG G) (hC : QCl K) {T : Int32 → Option QT} {ta : Int32 → Nat} (hT : QTx K G rs.2.2.1 rs.2.2.2 T ta) (E : EV K G p s m args meth c cX0_session "VaneCourt" 4) (hr : meth.sig.returnType = (some .int)) : ∀ (x1 : Int32) (x2 : Int32) (A : QA) {H : Heap} {locs : List Loc} {ls : Array Slot}, f_X0_session T x1 x2 A = some (ro, Ao) → WP K (A, rs) H locs → lv_has ls 4 [(0, .ref (K.2.1 0)), (1, .int x1), (2, .int x2)] → W p l e (qrm 961 48023 0 0) s m args below meth c H locs 0 0 (MQ below (QE K (QR (some (.int ro)) (Ao, rs))) args s 0 0 (qA K)) (F0 m 0 ls []) := by
  have hx := E.1
  have hb := E.2.1
  have hown := E.2.2.1
  have hts := E.2.2.2.2.1
  intro x1 x2 A H locs ls  h hw hl
  rw [f_X0_session] at h
  refine lv_iload_n hx hb dX0_session_0 rfl (lv_at hl 1 rfl) ?_
  refine lv_iconst (v := (1:Int32)) hx hb dX0_session_1 (by decide) ?_
  refine lv_iconst (v := (1:Int32)) hx hb dX0_session_2 (by decide) ?_
  refine lv_aload_n hx hb dX0_session_3 rfl (lv_at hl 0 rfl) ?_
  refine r_getX (v := .ref (K.2.1 1)) E hw hC 0 (by decide) q238 rfl dX0_session_4 ?_
  refine r_getS1 (v := .ref (K.2.1 100)) hG E hw hC 0 (by decide) q191 rfl dX0_session_7 ?_
  refine lv_iconst (v := (0:Int32)) hx hb dX0_session_10 (by decide) ?_
  refine r_iald (j := 0) E hw (qi_100 hC).at (q_lit (k := 0) (n := 7) rfl rfl) (q_clamp (k := 0) rfl) dX0_session_11 ?_
  refine lv_ishl hx hb dX0_session_12 ?_
  refine lv_iconst (v := (1:Int32)) hx hb dX0_session_13 (by decide) ?_
  refine lv_isub hx hb dX0_session_14 ?_
  obtain ⟨u1, g2, h⟩ := qb1_s h
  refine d_S (As := [.int x1, .int (1:Int32), .int (((1:Int32) <<< ((A 100 0) &&& 31)) - (1:Int32))]) (v0 := some (.int u1)) (w0 := (A, rs)) hG E hw hl (m_X0_in l hG hC  g2) (va_cwS 3 hts (lw_S q283 q284 q137 q285) rfl rfl rfl kd_X0_in ⟨Nat.le_of_ble_eq_true rfl, Nat.le_of_ble_eq_true rfl⟩) rfl (rest := []) (st1 := [.int u1]) rfl rfl rfl dX0_session_15 ⟨Nat.le_of_ble_eq_true rfl, Nat.le_of_ble_eq_true rfl⟩ (fun H locs hw => ?_)
  refine lv_if_eq (tgt := 43) hx hb dX0_session_18 (by decide) (fun c => ?_) (fun c => ?_)
  · have h := qi_t c h
    refine lv_bipush (v := (-2:Int32)) hx hb dX0_session_43 (by decide) ?_
    have h := Option.some.inj h
    obtain ⟨h1, h2⟩ := Prod.mk.inj h
    exact d_iret E hr rfl hw h1 (by rw [h2]) dX0_session_45
  · have h := qi_f c h
    refine lv_iload_n hx hb dX0_session_21 rfl (lv_at hl 1 rfl) ?_
    obtain ⟨u3, g4, h⟩ := qb1_s h
    refine d_S (As := [.int x1]) (v0 := some (.int u3)) (w0 := (A, rs)) hG E hw hl (m_J14_bitCount l hG   g4) (va_cwS 1 hts (lw_S q1035 q1036 q165 q1037) rfl rfl rfl kd_J14_bitCount ⟨Nat.le_of_ble_eq_true rfl, Nat.le_of_ble_eq_true rfl⟩) rfl (rest := []) (st1 := [.int u3]) rfl rfl rfl dX0_session_22 ⟨Nat.le_of_ble_eq_true rfl, Nat.le_of_ble_eq_true rfl⟩ (fun H locs hw => ?_)
    refine lv_iconst (v := (5:Int32)) hx hb dX0_session_25 (by decide) ?_
    refine lv_icmp_gt (tgt := 43) hx hb dX0_session_26 (by decide) (fun c => ?_) (fun c => ?_)
    · have h := qi_t c h
      refine lv_bipush (v := (-2:Int32)) hx hb dX0_session_43 (by decide) ?_
      have h := Option.some.inj h
      obtain ⟨h1, h2⟩ := Prod.mk.inj h
      exact d_iret E hr rfl hw h1 (by rw [h2]) dX0_session_45
    · have h := qi_f c h
      refine lv_iload_n hx hb dX0_session_29 rfl (lv_at hl 2 rfl) ?_
      refine lv_iconst (v := (-1:Int32)) hx hb dX0_session_30 (by decide) ?_
      refine lv_iload_n hx hb dX0_session_31 rfl (lv_at hl 1 rfl) ?_
      obtain ⟨u5, g6, h⟩ := qb1_s h
      refine d_S (As := [.int x1]) (v0 := some (.int u5)) (w0 := (A, rs)) hG E hw hl (m_J14_bitCount l hG   g6) (va_cwS 1 hts (lw_S q1035 q1036 q165 q1037) rfl rfl rfl kd_J14_bitCount ⟨Nat.le_of_ble_eq_true rfl, Nat.le_of_ble_eq_true rfl⟩) rfl (rest := [.int (-1:Int32), .int x2]) (st1 := [.int u5, .int (-1:Int32), .int x2]) rfl rfl rfl dX0_session_32 ⟨Nat.le_of_ble_eq_true rfl, Nat.le_of_ble_eq_true rfl⟩ (fun H locs hw => ?_)
      refine lv_iconst (v := (1:Int32)) hx hb dX0_session_35 (by decide) ?_
      refine lv_isub hx hb dX0_session_36 ?_
      obtain ⟨u7, g8, h⟩ := qb1_s h
      refine d_S (As := [.int x2, .int (-1:Int32), .int (u5 - (1:Int32))]) (v0 := some (.int u7)) (w0 := (A, rs)) hG E hw hl (m_X0_in l hG hC  g8) (va_cwS 3 hts (lw_S q283 q284 q137 q285) rfl rfl rfl kd_X0_in ⟨Nat.le_of_ble_eq_true rfl, Nat.le_of_ble_eq_true rfl⟩) rfl (rest := []) (st1 := [.int u7]) rfl rfl rfl dX0_session_37 ⟨Nat.le_of_ble_eq_true rfl, Nat.le_of_ble_eq_true rfl⟩ (fun H locs hw => ?_)
      refine lv_if_ne (tgt := 46) hx hb dX0_session_40 (by decide) (fun c => ?_) (fun c => ?_)
      · have h := qi_f c h
        refine lv_iconst (v := (0:Int32)) hx hb dX0_session_46 (by decide) ?_
        refine lv_istore_n (lv' := [(3, .int (0:Int32)), (0, .ref (K.2.1 0)), (1, .int x1), (2, .int x2)]) hx hb dX0_session_47 rfl hl (by decide) rfl (fun ls hl => ?_)
        exact w_X0_session_48 hG hC hT E hr  _ _ _ _ _   h hw (lv_sub hl [1, 2, 3, 0] rfl)
      · have h := qi_t c h
        refine lv_bipush (v := (-2:Int32)) hx hb dX0_session_43 (by decide) ?_
        have h := Option.some.inj h
        obtain ⟨h1, h2⟩ := Prod.mk.inj h
        exact d_iret E hr rfl hw h1 (by rw [h2]) dX0_session_45

theorem m_X0_session (l : Launch) {K : QK} {G : State → Prop} (hG : QG G) (hC : QCl K) {rs : QA × QL × QX × QM} {T : Int32 → Option QT} {ta : Int32 → Nat} (hT : QTx K G rs.2.2.1 rs.2.2.2 T ta) {x1 : Int32} {x2 : Int32} {A : QA} {ro : Int32} {Ao : QA} (h : f_X0_session T x1 x2 A = some (ro, Ao)) : MC l K G yX0_session (ws_ yX0_session cX0_session 4 (some .int)) 961 48023 0 0 [.ref (K.2.1 0), .int x1, .int x2] (A, rs) (QR (some (.int ro)) (Ao, rs)) := by
  refine MC.of (by decide) (Nat.le_of_ble_eq_true rfl) (lv := [(0, .ref (K.2.1 0)), (1, .int x1), (2, .int x2)]) rfl (fun p e s m below meth c ls E hr hl hw => ?_)
  exact w_X0_session_0 hG hC hT E hr _ _ _  h hw hl

def f_X0_wrongBy_97 (T : Int32 → Option QT) (k5 : (Int32 → Int32 → Int32 → Int32 → QA → Option (Int32 × QA))) (x1 : Int32) (x2 : Int32) (x4 : Int32) (s0 : Int32) (s1 : Int32) (s2 : Int32) (A : QA) : Option (Int32 × QA) :=
  if s1 = s2 then (
  qlet (s0 + (0:Int32)) fun x3_10 =>
  qlet (x4 + (1:Int32)) fun x4_12 =>
  k5 x1 x2 x3_10 x4_12 A) else (
  qlet (s0 + (1:Int32)) fun x3_6 =>
  qlet (x4 + (1:Int32)) fun x4_8 =>
  k5 x1 x2 x3_6 x4_8 A)
set_option maxHeartbeats 4000000 in
theorem w_X0_wrongBy_97 {p : Program} {l : Launch} {e : Env} {s : State} {m : MethodId} {args : Array Value} {below : List Frame} {meth : Method} {c : Code} {K : QK} {G : State → Prop} {rs : QA × QL × QX × QM} {ro : Int32} {Ao : QA} (hG : QG G) (hC : QCl K) {T : Int32 → Option QT} {ta : Int32 → Nat} (hT : QTx K G rs.2.2.1 rs.2.2.2 T ta) (E : EV K G p s m args meth c cX0_wrongBy "VaneCourt" 6) (hr : meth.sig.returnType = (some .int)) {k5 : (Int32 → Int32 → Int32 → Int32 → QA → Option (Int32 × QA))} (hk5 : ∀ (x1 : Int32) (x2 : Int32) (x3 : Int32) (x4 : Int32) (A : QA) {H : Heap} {locs : List Loc} {ls : Array Slot}, k5 x1 x2 x3 x4 A = some (ro, Ao) → WP K (A, rs) H locs → lv_has ls 6 [(0, .ref (K.2.1 0)), (1, .ref (ta x1)), (2, .int x2), (3, .int x3), (4, .int x4)] → W p l e (qrm 68 4066 0 0) s m args below meth c H locs 0 0 (MQ below (QE K (QR (some (.int ro)) (Ao, rs))) args s 0 0 (qA K)) (F0 m 5 ls [])) : ∀ (x1 : Int32) (x2 : Int32) (x4 : Int32) (s0 : Int32) (s1 : Int32) (s2 : Int32) (A : QA) {H : Heap} {locs : List Loc} {ls : Array Slot}, f_X0_wrongBy_97 T k5 x1 x2 x4 s0 s1 s2 A = some (ro, Ao) → WP K (A, rs) H locs → lv_has ls 6 [(0, .ref (K.2.1 0)), (1, .ref (ta x1)), (2, .int x2), (4, .int x4)] → W p l e (qrm 68 4066 0 0) s m args below meth c H locs 0 0 (MQ below (QE K (QR (some (.int ro)) (Ao, rs))) args s 0 0 (qA K)) (F0 m 97 ls [.int s2, .int s1, .int s0]) := by
  have hx := E.1
  have hb := E.2.1
  have hown := E.2.2.1
  have hts := E.2.2.2.2.1
  intro x1 x2 x4 s0 s1 s2 A H locs ls  h hw hl
  rw [f_X0_wrongBy_97] at h
  refine lv_icmp_ne (tgt := 104) hx hb dX0_wrongBy_97 (by decide) (fun c => ?_) (fun c => ?_)
  · have h := qi_f c h
    refine lv_iconst (v := (1:Int32)) hx hb dX0_wrongBy_104 (by decide) ?_
    refine lv_iadd hx hb dX0_wrongBy_105 ?_
    obtain ⟨x3_6, e7, h⟩ := qlet_s h
    refine r_nm e7 ?_
    refine lv_istore_n (lv' := [(3, .int x3_6), (0, .ref (K.2.1 0)), (1, .ref (ta x1)), (2, .int x2), (4, .int x4)]) hx hb dX0_wrongBy_106 rfl hl (by decide) rfl (fun ls hl => ?_)
    obtain ⟨x4_8, e9, h⟩ := qlet_s h
    refine lv_iinc (v := x4_8) (lv' := [(4, .int x4_8), (3, .int x3_6), (0, .ref (K.2.1 0)), (1, .ref (ta x1)), (2, .int x2)]) (k := 4) hx hb dX0_wrongBy_107 hl rfl (by rw [e9]; rfl) (by decide) rfl (fun ls hl => ?_)
    refine lv_goto (tgt := 5) hx hb dX0_wrongBy_110 (by decide) ?_
    exact hk5 _ _ _ _ _  h hw (lv_sub hl [2, 3, 4, 1, 0] rfl)
  · have h := qi_t c h
    refine lv_iconst (v := (0:Int32)) hx hb dX0_wrongBy_100 (by decide) ?_
    refine lv_goto (tgt := 105) hx hb dX0_wrongBy_101 (by decide) ?_
    refine lv_iadd hx hb dX0_wrongBy_105 ?_
    obtain ⟨x3_10, e11, h⟩ := qlet_s h
    refine r_nm e11 ?_
    refine lv_istore_n (lv' := [(3, .int x3_10), (0, .ref (K.2.1 0)), (1, .ref (ta x1)), (2, .int x2), (4, .int x4)]) hx hb dX0_wrongBy_106 rfl hl (by decide) rfl (fun ls hl => ?_)
    obtain ⟨x4_12, e13, h⟩ := qlet_s h
    refine lv_iinc (v := x4_12) (lv' := [(4, .int x4_12), (3, .int x3_10), (0, .ref (K.2.1 0)), (1, .ref (ta x1)), (2, .int x2)]) (k := 4) hx hb dX0_wrongBy_107 hl rfl (by rw [e13]; rfl) (by decide) rfl (fun ls hl => ?_)
    refine lv_goto (tgt := 5) hx hb dX0_wrongBy_110 (by decide) ?_
    exact hk5 _ _ _ _ _  h hw (lv_sub hl [2, 3, 4, 1, 0] rfl)

def f_X0_wrongBy_5 (T : Int32 → Option QT) : Nat → Int32 → Int32 → Int32 → Int32 → QA → Option (Int32 × QA)
  | 0, _, _, _, _, _ => none
  | n + 1, x1, x2, x3, x4, A => if (A 100 4) ≤ x4 then (
  some (x3, A)) else (
  qif (qok x4 8) <|
  qif (qok (A (120 + x4.toNatClampNeg) 0) 8) <|
  qb2 (f_X0_isGuiltyBy T x1 101 (((A (120 + x4.toNatClampNeg) 1) + x2) &&& (3:Int32)) (A (120 + x4.toNatClampNeg) 0) (A (110 + (A (120 + x4.toNatClampNeg) 0).toNatClampNeg) 2) (A (110 + (A (120 + x4.toNatClampNeg) 0).toNatClampNeg) 3) A) fun u3 A4 =>
  if (A4 (120 + x4.toNatClampNeg) 2) = (1:Int32) then (
  f_X0_wrongBy_97 T (fun x1' x2' x3' x4' A' => f_X0_wrongBy_5 T n x1' x2' x3' x4' A') x1 x2 x4 x3 u3 (1:Int32) A4) else (
  f_X0_wrongBy_97 T (fun x1' x2' x3' x4' A' => f_X0_wrongBy_5 T n x1' x2' x3' x4' A') x1 x2 x4 x3 u3 (0:Int32) A4))
set_option maxHeartbeats 4000000 in
theorem w_X0_wrongBy_5 {p : Program} {l : Launch} {e : Env} {s : State} {m : MethodId} {args : Array Value} {below : List Frame} {meth : Method} {c : Code} {K : QK} {G : State → Prop} {rs : QA × QL × QX × QM} {ro : Int32} {Ao : QA} (hG : QG G) (hC : QCl K) {T : Int32 → Option QT} {ta : Int32 → Nat} (hT : QTx K G rs.2.2.1 rs.2.2.2 T ta) (E : EV K G p s m args meth c cX0_wrongBy "VaneCourt" 6) (hr : meth.sig.returnType = (some .int)) : ∀ (n : Nat) (x1 : Int32) (x2 : Int32) (x3 : Int32) (x4 : Int32) (A : QA) {H : Heap} {locs : List Loc} {ls : Array Slot}, f_X0_wrongBy_5 T n x1 x2 x3 x4 A = some (ro, Ao) → WP K (A, rs) H locs → lv_has ls 6 [(0, .ref (K.2.1 0)), (1, .ref (ta x1)), (2, .int x2), (3, .int x3), (4, .int x4)] → W p l e (qrm 68 4066 0 0) s m args below meth c H locs 0 0 (MQ below (QE K (QR (some (.int ro)) (Ao, rs))) args s 0 0 (qA K)) (F0 m 5 ls []) := by
  have hx := E.1
  have hb := E.2.1
  have hown := E.2.2.1
  have hts := E.2.2.2.2.1
  intro n
  induction n with
  | zero =>
    intro x1 x2 x3 x4 A H locs ls  h hw hl
    cases h
  | succ n ih =>
    intro x1 x2 x3 x4 A H locs ls  h hw hl
    rw [f_X0_wrongBy_5] at h
    refine lv_iload hx hb dX0_wrongBy_5 (lv_at hl 4 rfl) ?_
    refine lv_aload_n hx hb dX0_wrongBy_7 rfl (lv_at hl 0 rfl) ?_
    refine r_getX (v := .ref (K.2.1 1)) E hw hC 0 (by decide) q238 rfl dX0_wrongBy_8 ?_
    refine r_getS1 (v := .ref (K.2.1 100)) hG E hw hC 0 (by decide) q191 rfl dX0_wrongBy_11 ?_
    refine lv_iconst (v := (4:Int32)) hx hb dX0_wrongBy_14 (by decide) ?_
    refine r_iald (j := 4) E hw (qi_100 hC).at (q_lit (k := 4) (n := 7) rfl rfl) (q_clamp (k := 4) rfl) dX0_wrongBy_15 ?_
    refine lv_icmp_ge (tgt := 113) hx hb dX0_wrongBy_16 (by decide) (fun c => ?_) (fun c => ?_)
    · have h := qi_t c h
      refine lv_iload_n hx hb dX0_wrongBy_113 rfl (lv_at hl 3 rfl) ?_
      have h := Option.some.inj h
      obtain ⟨h1, h2⟩ := Prod.mk.inj h
      exact d_iret E hr rfl hw h1 (by rw [h2]) dX0_wrongBy_114
    · have h := qi_f c h
      refine lv_aload_n hx hb dX0_wrongBy_19 rfl (lv_at hl 0 rfl) ?_
      refine r_getX (v := .ref (K.2.1 1)) E hw hC 0 (by decide) q238 rfl dX0_wrongBy_20 ?_
      refine r_getS1 (v := .ref (K.2.1 103)) hG E hw hC 3 (by decide) q197 rfl dX0_wrongBy_23 ?_
      refine lv_iload hx hb dX0_wrongBy_26 (lv_at hl 4 rfl) ?_
      obtain ⟨z1, h⟩ := qif_s h
      refine r_gald (j := x4.toNatClampNeg) E hw (qg_103 hC).at (qok_in z1) rfl dX0_wrongBy_28 ?_
      refine lv_astore (lv' := [(5, .ref (K.2.1 (120 + x4.toNatClampNeg))), (0, .ref (K.2.1 0)), (1, .ref (ta x1)), (2, .int x2), (3, .int x3), (4, .int x4)]) hx hb dX0_wrongBy_29 hl (by decide) rfl (fun ls hl => ?_)
      refine lv_iload_n hx hb dX0_wrongBy_31 rfl (lv_at hl 4 rfl) ?_
      refine lv_aload_n hx hb dX0_wrongBy_32 rfl (lv_at hl 1 rfl) ?_
      refine lv_aload_n hx hb dX0_wrongBy_33 rfl (lv_at hl 2 rfl) ?_
      refine lv_aload_n hx hb dX0_wrongBy_34 rfl (lv_at hl 1 rfl) ?_
      refine r_getX (v := .ref (K.2.1 1)) E hw hC 0 (by decide) q238 rfl dX0_wrongBy_35 ?_
      refine r_getS1 (v := .ref (K.2.1 101)) hG E hw hC 1 (by decide) q193 rfl dX0_wrongBy_38 ?_
      refine lv_aload hx hb dX0_wrongBy_41 (lv_at hl 0 rfl) ?_
      refine lv_iconst (v := (1:Int32)) hx hb dX0_wrongBy_43 (by decide) ?_
      refine r_iald (j := 1) E hw (qi_f120 hC (k := x4.toNatClampNeg) (qok_lt z1)).at (q_lit (k := 1) (n := 3) rfl rfl) (q_clamp (k := 1) rfl) dX0_wrongBy_44 ?_
      refine lv_iload_n hx hb dX0_wrongBy_45 rfl (lv_at hl 3 rfl) ?_
      refine lv_iadd hx hb dX0_wrongBy_46 ?_
      refine lv_iconst (v := (3:Int32)) hx hb dX0_wrongBy_47 (by decide) ?_
      refine lv_iand hx hb dX0_wrongBy_48 ?_
      refine lv_aload hx hb dX0_wrongBy_49 (lv_at hl 0 rfl) ?_
      refine lv_iconst (v := (0:Int32)) hx hb dX0_wrongBy_51 (by decide) ?_
      refine r_iald (j := 0) E hw (qi_f120 hC (k := x4.toNatClampNeg) (qok_lt z1)).at (q_lit (k := 0) (n := 3) rfl rfl) (q_clamp (k := 0) rfl) dX0_wrongBy_52 ?_
      refine lv_aload_n hx hb dX0_wrongBy_53 rfl (lv_at hl 1 rfl) ?_
      refine r_getX (v := .ref (K.2.1 1)) E hw hC 0 (by decide) q238 rfl dX0_wrongBy_54 ?_
      refine r_getS1 (v := .ref (K.2.1 102)) hG E hw hC 2 (by decide) q195 rfl dX0_wrongBy_57 ?_
      refine lv_aload hx hb dX0_wrongBy_60 (lv_at hl 0 rfl) ?_
      refine lv_iconst (v := (0:Int32)) hx hb dX0_wrongBy_62 (by decide) ?_
      refine r_iald (j := 0) E hw (qi_f120 hC (k := x4.toNatClampNeg) (qok_lt z1)).at (q_lit (k := 0) (n := 3) rfl rfl) (q_clamp (k := 0) rfl) dX0_wrongBy_63 ?_
      obtain ⟨z2, h⟩ := qif_s h
      refine r_gald (j := (A (120 + x4.toNatClampNeg) 0).toNatClampNeg) E hw (qg_102 hC).at (qok_in z2) rfl dX0_wrongBy_64 ?_
      refine lv_iconst (v := (2:Int32)) hx hb dX0_wrongBy_65 (by decide) ?_
      refine r_iald (j := 2) E hw (qi_f110 hC (k := (A (120 + x4.toNatClampNeg) 0).toNatClampNeg) (qok_lt z2)).at (q_lit (k := 2) (n := 4) rfl rfl) (q_clamp (k := 2) rfl) dX0_wrongBy_66 ?_
      refine lv_aload_n hx hb dX0_wrongBy_67 rfl (lv_at hl 1 rfl) ?_
      refine r_getX (v := .ref (K.2.1 1)) E hw hC 0 (by decide) q238 rfl dX0_wrongBy_68 ?_
      refine r_getS1 (v := .ref (K.2.1 102)) hG E hw hC 2 (by decide) q195 rfl dX0_wrongBy_71 ?_
      refine lv_aload hx hb dX0_wrongBy_74 (lv_at hl 0 rfl) ?_
      refine lv_iconst (v := (0:Int32)) hx hb dX0_wrongBy_76 (by decide) ?_
      refine r_iald (j := 0) E hw (qi_f120 hC (k := x4.toNatClampNeg) (qok_lt z1)).at (q_lit (k := 0) (n := 3) rfl rfl) (q_clamp (k := 0) rfl) dX0_wrongBy_77 ?_
      refine r_gald (j := (A (120 + x4.toNatClampNeg) 0).toNatClampNeg) E hw (qg_102 hC).at (qok_in z2) rfl dX0_wrongBy_78 ?_
      refine lv_iconst (v := (3:Int32)) hx hb dX0_wrongBy_79 (by decide) ?_
      refine r_iald (j := 3) E hw (qi_f110 hC (k := (A (120 + x4.toNatClampNeg) 0).toNatClampNeg) (qok_lt z2)).at (q_lit (k := 3) (n := 4) rfl rfl) (q_clamp (k := 3) rfl) dX0_wrongBy_80 ?_
      obtain ⟨u3, A4, g5, h⟩ := qb2_s h
      refine d_V (As := [.ref (ta x1), .ref (K.2.1 101), .int (((A (120 + x4.toNatClampNeg) 1) + x2) &&& (3:Int32)), .int (A (120 + x4.toNatClampNeg) 0), .int (A (110 + (A (120 + x4.toNatClampNeg) 0).toNatClampNeg) 2), .int (A (110 + (A (120 + x4.toNatClampNeg) 0).toNatClampNeg) 3)]) (v0 := some (.int u3)) (w0 := (A4, rs)) hG E hw hl (m_X0_isGuiltyBy l hG hC hT (qi_101 hC) g5) (qX0 hC) rfl (cwV 6 hts (lw_V q916 q918 qs31 q137 q919) rfl rfl rfl ⟨rfl, kd_X0_isGuiltyBy⟩ ⟨Nat.le_of_ble_eq_true rfl, Nat.le_of_ble_eq_true rfl⟩) rfl (rest := [.int x3]) (st1 := [.int u3, .int x3]) rfl rfl rfl dX0_wrongBy_81 ⟨Nat.le_of_ble_eq_true rfl, Nat.le_of_ble_eq_true rfl⟩ (fun H locs hw => ?_)
      refine lv_aload hx hb dX0_wrongBy_84 (lv_at hl 0 rfl) ?_
      refine lv_iconst (v := (2:Int32)) hx hb dX0_wrongBy_86 (by decide) ?_
      refine r_iald (j := 2) E hw (qi_f120 hC (k := x4.toNatClampNeg) (qok_lt z1)).at (q_lit (k := 2) (n := 3) rfl rfl) (q_clamp (k := 2) rfl) dX0_wrongBy_87 ?_
      refine lv_iconst (v := (1:Int32)) hx hb dX0_wrongBy_88 (by decide) ?_
      refine lv_icmp_ne (tgt := 96) hx hb dX0_wrongBy_89 (by decide) (fun c => ?_) (fun c => ?_)
      · have h := qi_f c h
        refine lv_iconst (v := (0:Int32)) hx hb dX0_wrongBy_96 (by decide) ?_
        exact w_X0_wrongBy_97 hG hC hT E hr ih _ _ _ _ _ _ _   h hw (lv_sub hl [1, 2, 3, 5] rfl)
      · have h := qi_t c h
        refine lv_iconst (v := (1:Int32)) hx hb dX0_wrongBy_92 (by decide) ?_
        refine lv_goto (tgt := 97) hx hb dX0_wrongBy_93 (by decide) ?_
        exact w_X0_wrongBy_97 hG hC hT E hr ih _ _ _ _ _ _ _   h hw (lv_sub hl [1, 2, 3, 5] rfl)

def f_X0_wrongBy (T : Int32 → Option QT) (x1 : Int32) (x2 : Int32) (A : QA) : Option (Int32 × QA) :=
  f_X0_wrongBy_5 T FU x1 x2 (0:Int32) (0:Int32) A
set_option maxHeartbeats 4000000 in
theorem w_X0_wrongBy_0 {p : Program} {l : Launch} {e : Env} {s : State} {m : MethodId} {args : Array Value} {below : List Frame} {meth : Method} {c : Code} {K : QK} {G : State → Prop} {rs : QA × QL × QX × QM} {ro : Int32} {Ao : QA} (hG : QG G) (hC : QCl K) {T : Int32 → Option QT} {ta : Int32 → Nat} (hT : QTx K G rs.2.2.1 rs.2.2.2 T ta) (E : EV K G p s m args meth c cX0_wrongBy "VaneCourt" 6) (hr : meth.sig.returnType = (some .int)) : ∀ (x1 : Int32) (x2 : Int32) (A : QA) {H : Heap} {locs : List Loc} {ls : Array Slot}, f_X0_wrongBy T x1 x2 A = some (ro, Ao) → WP K (A, rs) H locs → lv_has ls 6 [(0, .ref (K.2.1 0)), (1, .ref (ta x1)), (2, .int x2)] → W p l e (qrm 68 4066 0 0) s m args below meth c H locs 0 0 (MQ below (QE K (QR (some (.int ro)) (Ao, rs))) args s 0 0 (qA K)) (F0 m 0 ls []) := by
  have hx := E.1
  have hb := E.2.1
  have hown := E.2.2.1
  have hts := E.2.2.2.2.1
  intro x1 x2 A H locs ls  h hw hl
  rw [f_X0_wrongBy] at h
  refine lv_iconst (v := (0:Int32)) hx hb dX0_wrongBy_0 (by decide) ?_
  refine lv_istore_n (lv' := [(3, .int (0:Int32)), (0, .ref (K.2.1 0)), (1, .ref (ta x1)), (2, .int x2)]) hx hb dX0_wrongBy_1 rfl hl (by decide) rfl (fun ls hl => ?_)
  refine lv_iconst (v := (0:Int32)) hx hb dX0_wrongBy_2 (by decide) ?_
  refine lv_istore (lv' := [(4, .int (0:Int32)), (3, .int (0:Int32)), (0, .ref (K.2.1 0)), (1, .ref (ta x1)), (2, .int x2)]) hx hb dX0_wrongBy_3 hl (by decide) rfl (fun ls hl => ?_)
  exact w_X0_wrongBy_5 hG hC hT E hr  _ _ _ _ _ _   h hw (lv_sub hl [2, 3, 4, 1, 0] rfl)

theorem m_X0_wrongBy (l : Launch) {K : QK} {G : State → Prop} (hG : QG G) (hC : QCl K) {rs : QA × QL × QX × QM} {T : Int32 → Option QT} {ta : Int32 → Nat} (hT : QTx K G rs.2.2.1 rs.2.2.2 T ta) {x1 : Int32} {x2 : Int32} {A : QA} {ro : Int32} {Ao : QA} (h : f_X0_wrongBy T x1 x2 A = some (ro, Ao)) : MC l K G yX0_wrongBy (ws_ yX0_wrongBy cX0_wrongBy 6 (some .int)) 68 4066 0 0 [.ref (K.2.1 0), .ref (ta x1), .int x2] (A, rs) (QR (some (.int ro)) (Ao, rs)) := by
  refine MC.of (by decide) (Nat.le_of_ble_eq_true rfl) (lv := [(0, .ref (K.2.1 0)), (1, .ref (ta x1)), (2, .int x2)]) rfl (fun p e s m below meth c ls E hr hl hw => ?_)
  exact w_X0_wrongBy_0 hG hC hT E hr _ _ _  h hw hl

def f_X0_turned_4 (T : Int32 → Option QT) : Nat → Int32 → Int32 → QA → Option (Int32 × QA)
  | 0, _, _, _ => none
  | n + 1, x1, x2, A => if (4:Int32) ≤ x2 then (
  some (x1, A)) else (
  qb1 (f_X0_rules T A) fun u1 =>
  qb2 (f_X0_wrongBy T u1 x2 A) fun u3 A4 =>
  if u3 = (0:Int32) then (
  qlet (x1 ||| ((1:Int32) <<< (x2 &&& 31))) fun x1_10 =>
  qlet (x2 + (1:Int32)) fun x2_12 =>
  f_X0_turned_4 T n x1_10 x2_12 A4) else (
  qlet (x1 ||| (0:Int32)) fun x1_6 =>
  qlet (x2 + (1:Int32)) fun x2_8 =>
  f_X0_turned_4 T n x1_6 x2_8 A4))
set_option maxHeartbeats 4000000 in
theorem w_X0_turned_4 {p : Program} {l : Launch} {e : Env} {s : State} {m : MethodId} {args : Array Value} {below : List Frame} {meth : Method} {c : Code} {K : QK} {G : State → Prop} {rs : QA × QL × QX × QM} {ro : Int32} {Ao : QA} (hG : QG G) (hC : QCl K) {T : Int32 → Option QT} {ta : Int32 → Nat} (hT : QTx K G rs.2.2.1 rs.2.2.2 T ta) (E : EV K G p s m args meth c cX0_turned "VaneCourt" 3) (hr : meth.sig.returnType = (some .int)) : ∀ (n : Nat) (x1 : Int32) (x2 : Int32) (A : QA) {H : Heap} {locs : List Loc} {ls : Array Slot}, f_X0_turned_4 T n x1 x2 A = some (ro, Ao) → WP K (A, rs) H locs → lv_has ls 3 [(0, .ref (K.2.1 0)), (1, .int x1), (2, .int x2)] → W p l e (qrm 69 4091 0 0) s m args below meth c H locs 0 0 (MQ below (QE K (QR (some (.int ro)) (Ao, rs))) args s 0 0 (qA K)) (F0 m 4 ls []) := by
  have hx := E.1
  have hb := E.2.1
  have hown := E.2.2.1
  have hts := E.2.2.2.2.1
  intro n
  induction n with
  | zero =>
    intro x1 x2 A H locs ls  h hw hl
    cases h
  | succ n ih =>
    intro x1 x2 A H locs ls  h hw hl
    rw [f_X0_turned_4] at h
    refine lv_iload_n hx hb dX0_turned_4 rfl (lv_at hl 2 rfl) ?_
    refine lv_iconst (v := (4:Int32)) hx hb dX0_turned_5 (by decide) ?_
    refine lv_icmp_ge (tgt := 37) hx hb dX0_turned_6 (by decide) (fun c => ?_) (fun c => ?_)
    · have h := qi_t c h
      refine lv_iload_n hx hb dX0_turned_37 rfl (lv_at hl 1 rfl) ?_
      have h := Option.some.inj h
      obtain ⟨h1, h2⟩ := Prod.mk.inj h
      exact d_iret E hr rfl hw h1 (by rw [h2]) dX0_turned_38
    · have h := qi_f c h
      refine lv_iload_n hx hb dX0_turned_9 rfl (lv_at hl 1 rfl) ?_
      refine lv_aload_n hx hb dX0_turned_10 rfl (lv_at hl 0 rfl) ?_
      refine lv_aload_n hx hb dX0_turned_11 rfl (lv_at hl 0 rfl) ?_
      obtain ⟨u1, g2, h⟩ := qb1_s h
      refine d_V (As := []) (v0 := some (.ref (ta u1))) (w0 := (A, rs)) hG E hw hl (m_X0_rules l hG hC hT  g2) (qX0 hC) rfl (cwV 0 hts (lw_V q910 q912 qs30 q137 q913) rfl rfl rfl ⟨rfl, kd_X0_rules⟩ ⟨Nat.le_of_ble_eq_true rfl, Nat.le_of_ble_eq_true rfl⟩) rfl (rest := [.ref (K.2.1 0), .int x1]) (st1 := [.ref (ta u1), .ref (K.2.1 0), .int x1]) rfl rfl rfl dX0_turned_12 ⟨Nat.le_of_ble_eq_true rfl, Nat.le_of_ble_eq_true rfl⟩ (fun H locs hw => ?_)
      refine lv_iload_n hx hb dX0_turned_15 rfl (lv_at hl 2 rfl) ?_
      obtain ⟨u3, A4, g5, h⟩ := qb2_s h
      refine d_V (As := [.ref (ta u1), .int x2]) (v0 := some (.int u3)) (w0 := (A4, rs)) hG E hw hl (m_X0_wrongBy l hG hC hT  g5) (qX0 hC) rfl (cwV 2 hts (lw_V q1268 q1270 qs53 q137 q1271) rfl rfl rfl ⟨rfl, kd_X0_wrongBy⟩ ⟨Nat.le_of_ble_eq_true rfl, Nat.le_of_ble_eq_true rfl⟩) rfl (rest := [.int x1]) (st1 := [.int u3, .int x1]) rfl rfl rfl dX0_turned_16 ⟨Nat.le_of_ble_eq_true rfl, Nat.le_of_ble_eq_true rfl⟩ (fun H locs hw => ?_)
      refine lv_if_ne (tgt := 28) hx hb dX0_turned_19 (by decide) (fun c => ?_) (fun c => ?_)
      · have h := qi_f c h
        refine lv_iconst (v := (0:Int32)) hx hb dX0_turned_28 (by decide) ?_
        refine lv_ior hx hb dX0_turned_29 ?_
        obtain ⟨x1_6, e7, h⟩ := qlet_s h
        refine r_nm e7 ?_
        refine lv_istore_n (lv' := [(1, .int x1_6), (0, .ref (K.2.1 0)), (2, .int x2)]) hx hb dX0_turned_30 rfl hl (by decide) rfl (fun ls hl => ?_)
        obtain ⟨x2_8, e9, h⟩ := qlet_s h
        refine lv_iinc (v := x2_8) (lv' := [(2, .int x2_8), (1, .int x1_6), (0, .ref (K.2.1 0))]) (k := 2) hx hb dX0_turned_31 hl rfl (by rw [e9]; rfl) (by decide) rfl (fun ls hl => ?_)
        refine lv_goto (tgt := 4) hx hb dX0_turned_34 (by decide) ?_
        exact ih _ _ _  h hw (lv_sub hl [2, 1, 0] rfl)
      · have h := qi_t c h
        refine lv_iconst (v := (1:Int32)) hx hb dX0_turned_22 (by decide) ?_
        refine lv_iload_n hx hb dX0_turned_23 rfl (lv_at hl 2 rfl) ?_
        refine lv_ishl hx hb dX0_turned_24 ?_
        refine lv_goto (tgt := 29) hx hb dX0_turned_25 (by decide) ?_
        refine lv_ior hx hb dX0_turned_29 ?_
        obtain ⟨x1_10, e11, h⟩ := qlet_s h
        refine r_nm e11 ?_
        refine lv_istore_n (lv' := [(1, .int x1_10), (0, .ref (K.2.1 0)), (2, .int x2)]) hx hb dX0_turned_30 rfl hl (by decide) rfl (fun ls hl => ?_)
        obtain ⟨x2_12, e13, h⟩ := qlet_s h
        refine lv_iinc (v := x2_12) (lv' := [(2, .int x2_12), (1, .int x1_10), (0, .ref (K.2.1 0))]) (k := 2) hx hb dX0_turned_31 hl rfl (by rw [e13]; rfl) (by decide) rfl (fun ls hl => ?_)
        refine lv_goto (tgt := 4) hx hb dX0_turned_34 (by decide) ?_
        exact ih _ _ _  h hw (lv_sub hl [2, 1, 0] rfl)

def f_X0_turned (T : Int32 → Option QT) (A : QA) : Option (Int32 × QA) :=
  f_X0_turned_4 T FU (0:Int32) (0:Int32) A
set_option maxHeartbeats 4000000 in
theorem w_X0_turned_0 {p : Program} {l : Launch} {e : Env} {s : State} {m : MethodId} {args : Array Value} {below : List Frame} {meth : Method} {c : Code} {K : QK} {G : State → Prop} {rs : QA × QL × QX × QM} {ro : Int32} {Ao : QA} (hG : QG G) (hC : QCl K) {T : Int32 → Option QT} {ta : Int32 → Nat} (hT : QTx K G rs.2.2.1 rs.2.2.2 T ta) (E : EV K G p s m args meth c cX0_turned "VaneCourt" 3) (hr : meth.sig.returnType = (some .int)) : ∀ (A : QA) {H : Heap} {locs : List Loc} {ls : Array Slot}, f_X0_turned T A = some (ro, Ao) → WP K (A, rs) H locs → lv_has ls 3 [(0, .ref (K.2.1 0))] → W p l e (qrm 69 4091 0 0) s m args below meth c H locs 0 0 (MQ below (QE K (QR (some (.int ro)) (Ao, rs))) args s 0 0 (qA K)) (F0 m 0 ls []) := by
  have hx := E.1
  have hb := E.2.1
  have hown := E.2.2.1
  have hts := E.2.2.2.2.1
  intro A H locs ls  h hw hl
  rw [f_X0_turned] at h
  refine lv_iconst (v := (0:Int32)) hx hb dX0_turned_0 (by decide) ?_
  refine lv_istore_n (lv' := [(1, .int (0:Int32)), (0, .ref (K.2.1 0))]) hx hb dX0_turned_1 rfl hl (by decide) rfl (fun ls hl => ?_)
  refine lv_iconst (v := (0:Int32)) hx hb dX0_turned_2 (by decide) ?_
  refine lv_istore_n (lv' := [(2, .int (0:Int32)), (1, .int (0:Int32)), (0, .ref (K.2.1 0))]) hx hb dX0_turned_3 rfl hl (by decide) rfl (fun ls hl => ?_)
  exact w_X0_turned_4 hG hC hT E hr  _ _ _ _   h hw (lv_sub hl [2, 1, 0] rfl)

theorem m_X0_turned (l : Launch) {K : QK} {G : State → Prop} (hG : QG G) (hC : QCl K) {rs : QA × QL × QX × QM} {T : Int32 → Option QT} {ta : Int32 → Nat} (hT : QTx K G rs.2.2.1 rs.2.2.2 T ta) {A : QA} {ro : Int32} {Ao : QA} (h : f_X0_turned T A = some (ro, Ao)) : MC l K G yX0_turned (ws_ yX0_turned cX0_turned 3 (some .int)) 69 4091 0 0 [.ref (K.2.1 0)] (A, rs) (QR (some (.int ro)) (Ao, rs)) := by
  refine MC.of (by decide) (Nat.le_of_ble_eq_true rfl) (lv := [(0, .ref (K.2.1 0))]) rfl (fun p e s m below meth c ls E hr hl hw => ?_)
  exact w_X0_turned_0 hG hC hT E hr _  h hw hl

def f_X0_fewestWrong_5 (T : Int32 → Option QT) : Nat → Int32 → Int32 → QA → Option (Int32 × QA)
  | 0, _, _, _ => none
  | n + 1, x1, x2, A => if (4:Int32) ≤ x2 then (
  some (x1, A)) else (
  qb1 (f_X0_rules T A) fun u1 =>
  qb2 (f_X0_wrongBy T u1 x2 A) fun u3 A4 =>
  qlet (if u3 < x1 then u3 else x1) fun x1_6 =>
  qlet (x2 + (1:Int32)) fun x2_8 =>
  f_X0_fewestWrong_5 T n x1_6 x2_8 A4)
set_option maxHeartbeats 4000000 in
theorem w_X0_fewestWrong_5 {p : Program} {l : Launch} {e : Env} {s : State} {m : MethodId} {args : Array Value} {below : List Frame} {meth : Method} {c : Code} {K : QK} {G : State → Prop} {rs : QA × QL × QX × QM} {ro : Int32} {Ao : QA} (hG : QG G) (hC : QCl K) {T : Int32 → Option QT} {ta : Int32 → Nat} (hT : QTx K G rs.2.2.1 rs.2.2.2 T ta) (E : EV K G p s m args meth c cX0_fewestWrong "VaneCourt" 3) (hr : meth.sig.returnType = (some .int)) : ∀ (n : Nat) (x1 : Int32) (x2 : Int32) (A : QA) {H : Heap} {locs : List Loc} {ls : Array Slot}, f_X0_fewestWrong_5 T n x1 x2 A = some (ro, Ao) → WP K (A, rs) H locs → lv_has ls 3 [(0, .ref (K.2.1 0)), (1, .int x1), (2, .int x2)] → W p l e (qrm 69 4091 0 0) s m args below meth c H locs 0 0 (MQ below (QE K (QR (some (.int ro)) (Ao, rs))) args s 0 0 (qA K)) (F0 m 5 ls []) := by
  have hx := E.1
  have hb := E.2.1
  have hown := E.2.2.1
  have hts := E.2.2.2.2.1
  intro n
  induction n with
  | zero =>
    intro x1 x2 A H locs ls  h hw hl
    cases h
  | succ n ih =>
    intro x1 x2 A H locs ls  h hw hl
    rw [f_X0_fewestWrong_5] at h
    refine lv_iload_n hx hb dX0_fewestWrong_5 rfl (lv_at hl 2 rfl) ?_
    refine lv_iconst (v := (4:Int32)) hx hb dX0_fewestWrong_6 (by decide) ?_
    refine lv_icmp_ge (tgt := 30) hx hb dX0_fewestWrong_7 (by decide) (fun c => ?_) (fun c => ?_)
    · have h := qi_t c h
      refine lv_iload_n hx hb dX0_fewestWrong_30 rfl (lv_at hl 1 rfl) ?_
      have h := Option.some.inj h
      obtain ⟨h1, h2⟩ := Prod.mk.inj h
      exact d_iret E hr rfl hw h1 (by rw [h2]) dX0_fewestWrong_31
    · have h := qi_f c h
      refine lv_iload_n hx hb dX0_fewestWrong_10 rfl (lv_at hl 1 rfl) ?_
      refine lv_aload_n hx hb dX0_fewestWrong_11 rfl (lv_at hl 0 rfl) ?_
      refine lv_aload_n hx hb dX0_fewestWrong_12 rfl (lv_at hl 0 rfl) ?_
      obtain ⟨u1, g2, h⟩ := qb1_s h
      refine d_V (As := []) (v0 := some (.ref (ta u1))) (w0 := (A, rs)) hG E hw hl (m_X0_rules l hG hC hT  g2) (qX0 hC) rfl (cwV 0 hts (lw_V q910 q912 qs30 q137 q913) rfl rfl rfl ⟨rfl, kd_X0_rules⟩ ⟨Nat.le_of_ble_eq_true rfl, Nat.le_of_ble_eq_true rfl⟩) rfl (rest := [.ref (K.2.1 0), .int x1]) (st1 := [.ref (ta u1), .ref (K.2.1 0), .int x1]) rfl rfl rfl dX0_fewestWrong_13 ⟨Nat.le_of_ble_eq_true rfl, Nat.le_of_ble_eq_true rfl⟩ (fun H locs hw => ?_)
      refine lv_iload_n hx hb dX0_fewestWrong_16 rfl (lv_at hl 2 rfl) ?_
      obtain ⟨u3, A4, g5, h⟩ := qb2_s h
      refine d_V (As := [.ref (ta u1), .int x2]) (v0 := some (.int u3)) (w0 := (A4, rs)) hG E hw hl (m_X0_wrongBy l hG hC hT  g5) (qX0 hC) rfl (cwV 2 hts (lw_V q1268 q1270 qs53 q137 q1271) rfl rfl rfl ⟨rfl, kd_X0_wrongBy⟩ ⟨Nat.le_of_ble_eq_true rfl, Nat.le_of_ble_eq_true rfl⟩) rfl (rest := [.int x1]) (st1 := [.int u3, .int x1]) rfl rfl rfl dX0_fewestWrong_17 ⟨Nat.le_of_ble_eq_true rfl, Nat.le_of_ble_eq_true rfl⟩ (fun H locs hw => ?_)
      refine va_mmin hx hb (E.2.2.2.2.2.2.2.trans hl.1.symm) hown (hts _ q1247) (hts _ q472) (hts _ q150) (hts _ q473) (Nat.le_of_ble_eq_true rfl) (Nat.le_of_ble_eq_true rfl) (Nat.le_refl _) (Nat.le_refl _) dX0_fewestWrong_20 ?_
      obtain ⟨x1_6, e7, h⟩ := qlet_s h
      refine r_nm e7 ?_
      refine lv_istore_n (lv' := [(1, .int x1_6), (0, .ref (K.2.1 0)), (2, .int x2)]) hx hb dX0_fewestWrong_23 rfl hl (by decide) rfl (fun ls hl => ?_)
      obtain ⟨x2_8, e9, h⟩ := qlet_s h
      refine lv_iinc (v := x2_8) (lv' := [(2, .int x2_8), (1, .int x1_6), (0, .ref (K.2.1 0))]) (k := 2) hx hb dX0_fewestWrong_24 hl rfl (by rw [e9]; rfl) (by decide) rfl (fun ls hl => ?_)
      refine lv_goto (tgt := 5) hx hb dX0_fewestWrong_27 (by decide) ?_
      exact ih _ _ _  h hw (lv_sub hl [2, 1, 0] rfl)

def f_X0_fewestWrong (T : Int32 → Option QT) (A : QA) : Option (Int32 × QA) :=
  f_X0_fewestWrong_5 T FU (8:Int32) (0:Int32) A
set_option maxHeartbeats 4000000 in
theorem w_X0_fewestWrong_0 {p : Program} {l : Launch} {e : Env} {s : State} {m : MethodId} {args : Array Value} {below : List Frame} {meth : Method} {c : Code} {K : QK} {G : State → Prop} {rs : QA × QL × QX × QM} {ro : Int32} {Ao : QA} (hG : QG G) (hC : QCl K) {T : Int32 → Option QT} {ta : Int32 → Nat} (hT : QTx K G rs.2.2.1 rs.2.2.2 T ta) (E : EV K G p s m args meth c cX0_fewestWrong "VaneCourt" 3) (hr : meth.sig.returnType = (some .int)) : ∀ (A : QA) {H : Heap} {locs : List Loc} {ls : Array Slot}, f_X0_fewestWrong T A = some (ro, Ao) → WP K (A, rs) H locs → lv_has ls 3 [(0, .ref (K.2.1 0))] → W p l e (qrm 69 4091 0 0) s m args below meth c H locs 0 0 (MQ below (QE K (QR (some (.int ro)) (Ao, rs))) args s 0 0 (qA K)) (F0 m 0 ls []) := by
  have hx := E.1
  have hb := E.2.1
  have hown := E.2.2.1
  have hts := E.2.2.2.2.1
  intro A H locs ls  h hw hl
  rw [f_X0_fewestWrong] at h
  refine lv_bipush (v := (8:Int32)) hx hb dX0_fewestWrong_0 (by decide) ?_
  refine lv_istore_n (lv' := [(1, .int (8:Int32)), (0, .ref (K.2.1 0))]) hx hb dX0_fewestWrong_2 rfl hl (by decide) rfl (fun ls hl => ?_)
  refine lv_iconst (v := (0:Int32)) hx hb dX0_fewestWrong_3 (by decide) ?_
  refine lv_istore_n (lv' := [(2, .int (0:Int32)), (1, .int (8:Int32)), (0, .ref (K.2.1 0))]) hx hb dX0_fewestWrong_4 rfl hl (by decide) rfl (fun ls hl => ?_)
  exact w_X0_fewestWrong_5 hG hC hT E hr  _ _ _ _   h hw (lv_sub hl [2, 1, 0] rfl)

theorem m_X0_fewestWrong (l : Launch) {K : QK} {G : State → Prop} (hG : QG G) (hC : QCl K) {rs : QA × QL × QX × QM} {T : Int32 → Option QT} {ta : Int32 → Nat} (hT : QTx K G rs.2.2.1 rs.2.2.2 T ta) {A : QA} {ro : Int32} {Ao : QA} (h : f_X0_fewestWrong T A = some (ro, Ao)) : MC l K G yX0_fewestWrong (ws_ yX0_fewestWrong cX0_fewestWrong 3 (some .int)) 69 4091 0 0 [.ref (K.2.1 0)] (A, rs) (QR (some (.int ro)) (Ao, rs)) := by
  refine MC.of (by decide) (Nat.le_of_ble_eq_true rfl) (lv := [(0, .ref (K.2.1 0))]) rfl (fun p e s m below meth c ls E hr hl hw => ?_)
  exact w_X0_fewestWrong_0 hG hC hT E hr _  h hw hl

def f_X0_whose_4 (T : Int32 → Option QT) : Nat → Int32 → Int32 → QA → Option (Int32 × QA)
  | 0, _, _, _ => none
  | n + 1, x1, x2, A => if (A 100 1) ≤ x2 then (
  some (x1, A)) else (
  qif (qok x2 4) <|
  qb1 (T x2) fun t2 =>
  qb2 (f_X0_wrongBy T x2 (0:Int32) A) fun u4 A5 =>
  if u4 = (0:Int32) then (
  qlet (x1 ||| ((1:Int32) <<< (x2 &&& 31))) fun x1_11 =>
  qlet (x2 + (1:Int32)) fun x2_13 =>
  f_X0_whose_4 T n x1_11 x2_13 A5) else (
  qlet (x1 ||| (0:Int32)) fun x1_7 =>
  qlet (x2 + (1:Int32)) fun x2_9 =>
  f_X0_whose_4 T n x1_7 x2_9 A5))
set_option maxHeartbeats 4000000 in
theorem w_X0_whose_4 {p : Program} {l : Launch} {e : Env} {s : State} {m : MethodId} {args : Array Value} {below : List Frame} {meth : Method} {c : Code} {K : QK} {G : State → Prop} {rs : QA × QL × QX × QM} {ro : Int32} {Ao : QA} (hG : QG G) (hC : QCl K) {T : Int32 → Option QT} {ta : Int32 → Nat} (hT : QTx K G rs.2.2.1 rs.2.2.2 T ta) (E : EV K G p s m args meth c cX0_whose "VaneCourt" 3) (hr : meth.sig.returnType = (some .int)) : ∀ (n : Nat) (x1 : Int32) (x2 : Int32) (A : QA) {H : Heap} {locs : List Loc} {ls : Array Slot}, f_X0_whose_4 T n x1 x2 A = some (ro, Ao) → WP K (A, rs) H locs → lv_has ls 3 [(0, .ref (K.2.1 0)), (1, .int x1), (2, .int x2)] → W p l e (qrm 69 4091 0 0) s m args below meth c H locs 0 0 (MQ below (QE K (QR (some (.int ro)) (Ao, rs))) args s 0 0 (qA K)) (F0 m 4 ls []) := by
  have hx := E.1
  have hb := E.2.1
  have hown := E.2.2.1
  have hts := E.2.2.2.2.1
  intro n
  induction n with
  | zero =>
    intro x1 x2 A H locs ls  h hw hl
    cases h
  | succ n ih =>
    intro x1 x2 A H locs ls  h hw hl
    rw [f_X0_whose_4] at h
    refine lv_iload_n hx hb dX0_whose_4 rfl (lv_at hl 2 rfl) ?_
    refine lv_aload_n hx hb dX0_whose_5 rfl (lv_at hl 0 rfl) ?_
    refine r_getX (v := .ref (K.2.1 1)) E hw hC 0 (by decide) q238 rfl dX0_whose_6 ?_
    refine r_getS1 (v := .ref (K.2.1 100)) hG E hw hC 0 (by decide) q191 rfl dX0_whose_9 ?_
    refine lv_iconst (v := (1:Int32)) hx hb dX0_whose_12 (by decide) ?_
    refine r_iald (j := 1) E hw (qi_100 hC).at (q_lit (k := 1) (n := 7) rfl rfl) (q_clamp (k := 1) rfl) dX0_whose_13 ?_
    refine lv_icmp_ge (tgt := 50) hx hb dX0_whose_14 (by decide) (fun c => ?_) (fun c => ?_)
    · have h := qi_t c h
      refine lv_iload_n hx hb dX0_whose_50 rfl (lv_at hl 1 rfl) ?_
      have h := Option.some.inj h
      obtain ⟨h1, h2⟩ := Prod.mk.inj h
      exact d_iret E hr rfl hw h1 (by rw [h2]) dX0_whose_51
    · have h := qi_f c h
      refine lv_iload_n hx hb dX0_whose_17 rfl (lv_at hl 1 rfl) ?_
      refine lv_aload_n hx hb dX0_whose_18 rfl (lv_at hl 0 rfl) ?_
      refine lv_aload_n hx hb dX0_whose_19 rfl (lv_at hl 0 rfl) ?_
      refine r_getX (v := .ref (K.2.1 1)) E hw hC 0 (by decide) q238 rfl dX0_whose_20 ?_
      refine r_getS1 (v := .ref (K.2.1 107)) hG E hw hC 7 (by decide) q205 rfl dX0_whose_23 ?_
      refine lv_iload_n hx hb dX0_whose_26 rfl (lv_at hl 2 rfl) ?_
      obtain ⟨z1, h⟩ := qif_s h
      obtain ⟨t2, et3, h⟩ := qb1_s h
      refine r_txa E hw hC hT z1 et3 dX0_whose_27 ?_
      refine lv_iconst (v := (0:Int32)) hx hb dX0_whose_28 (by decide) ?_
      obtain ⟨u4, A5, g6, h⟩ := qb2_s h
      refine d_V (As := [.ref (ta x2), .int (0:Int32)]) (v0 := some (.int u4)) (w0 := (A5, rs)) hG E hw hl (m_X0_wrongBy l hG hC hT  g6) (qX0 hC) rfl (cwV 2 hts (lw_V q1268 q1270 qs53 q137 q1271) rfl rfl rfl ⟨rfl, kd_X0_wrongBy⟩ ⟨Nat.le_of_ble_eq_true rfl, Nat.le_of_ble_eq_true rfl⟩) rfl (rest := [.int x1]) (st1 := [.int u4, .int x1]) rfl rfl rfl dX0_whose_29 ⟨Nat.le_of_ble_eq_true rfl, Nat.le_of_ble_eq_true rfl⟩ (fun H locs hw => ?_)
      refine lv_if_ne (tgt := 41) hx hb dX0_whose_32 (by decide) (fun c => ?_) (fun c => ?_)
      · have h := qi_f c h
        refine lv_iconst (v := (0:Int32)) hx hb dX0_whose_41 (by decide) ?_
        refine lv_ior hx hb dX0_whose_42 ?_
        obtain ⟨x1_7, e8, h⟩ := qlet_s h
        refine r_nm e8 ?_
        refine lv_istore_n (lv' := [(1, .int x1_7), (0, .ref (K.2.1 0)), (2, .int x2)]) hx hb dX0_whose_43 rfl hl (by decide) rfl (fun ls hl => ?_)
        obtain ⟨x2_9, e10, h⟩ := qlet_s h
        refine lv_iinc (v := x2_9) (lv' := [(2, .int x2_9), (1, .int x1_7), (0, .ref (K.2.1 0))]) (k := 2) hx hb dX0_whose_44 hl rfl (by rw [e10]; rfl) (by decide) rfl (fun ls hl => ?_)
        refine lv_goto (tgt := 4) hx hb dX0_whose_47 (by decide) ?_
        exact ih _ _ _  h hw (lv_sub hl [2, 1, 0] rfl)
      · have h := qi_t c h
        refine lv_iconst (v := (1:Int32)) hx hb dX0_whose_35 (by decide) ?_
        refine lv_iload_n hx hb dX0_whose_36 rfl (lv_at hl 2 rfl) ?_
        refine lv_ishl hx hb dX0_whose_37 ?_
        refine lv_goto (tgt := 42) hx hb dX0_whose_38 (by decide) ?_
        refine lv_ior hx hb dX0_whose_42 ?_
        obtain ⟨x1_11, e12, h⟩ := qlet_s h
        refine r_nm e12 ?_
        refine lv_istore_n (lv' := [(1, .int x1_11), (0, .ref (K.2.1 0)), (2, .int x2)]) hx hb dX0_whose_43 rfl hl (by decide) rfl (fun ls hl => ?_)
        obtain ⟨x2_13, e14, h⟩ := qlet_s h
        refine lv_iinc (v := x2_13) (lv' := [(2, .int x2_13), (1, .int x1_11), (0, .ref (K.2.1 0))]) (k := 2) hx hb dX0_whose_44 hl rfl (by rw [e14]; rfl) (by decide) rfl (fun ls hl => ?_)
        refine lv_goto (tgt := 4) hx hb dX0_whose_47 (by decide) ?_
        exact ih _ _ _  h hw (lv_sub hl [2, 1, 0] rfl)

def f_X0_whose (T : Int32 → Option QT) (A : QA) : Option (Int32 × QA) :=
  f_X0_whose_4 T FU (0:Int32) (0:Int32) A
set_option maxHeartbeats 4000000 in
theorem w_X0_whose_0 {p : Program} {l : Launch} {e : Env} {s : State} {m : MethodId} {args : Array Value} {below : List Frame} {meth : Method} {c : Code} {K : QK} {G : State → Prop} {rs : QA × QL × QX × QM} {ro : Int32} {Ao : QA} (hG : QG G) (hC : QCl K) {T : Int32 → Option QT} {ta : Int32 → Nat} (hT : QTx K G rs.2.2.1 rs.2.2.2 T ta) (E : EV K G p s m args meth c cX0_whose "VaneCourt" 3) (hr : meth.sig.returnType = (some .int)) : ∀ (A : QA) {H : Heap} {locs : List Loc} {ls : Array Slot}, f_X0_whose T A = some (ro, Ao) → WP K (A, rs) H locs → lv_has ls 3 [(0, .ref (K.2.1 0))] → W p l e (qrm 69 4091 0 0) s m args below meth c H locs 0 0 (MQ below (QE K (QR (some (.int ro)) (Ao, rs))) args s 0 0 (qA K)) (F0 m 0 ls []) := by
  have hx := E.1
  have hb := E.2.1
  have hown := E.2.2.1
  have hts := E.2.2.2.2.1
  intro A H locs ls  h hw hl
  rw [f_X0_whose] at h
  refine lv_iconst (v := (0:Int32)) hx hb dX0_whose_0 (by decide) ?_
  refine lv_istore_n (lv' := [(1, .int (0:Int32)), (0, .ref (K.2.1 0))]) hx hb dX0_whose_1 rfl hl (by decide) rfl (fun ls hl => ?_)
  refine lv_iconst (v := (0:Int32)) hx hb dX0_whose_2 (by decide) ?_
  refine lv_istore_n (lv' := [(2, .int (0:Int32)), (1, .int (0:Int32)), (0, .ref (K.2.1 0))]) hx hb dX0_whose_3 rfl hl (by decide) rfl (fun ls hl => ?_)
  exact w_X0_whose_4 hG hC hT E hr  _ _ _ _   h hw (lv_sub hl [2, 1, 0] rfl)

theorem m_X0_whose (l : Launch) {K : QK} {G : State → Prop} (hG : QG G) (hC : QCl K) {rs : QA × QL × QX × QM} {T : Int32 → Option QT} {ta : Int32 → Nat} (hT : QTx K G rs.2.2.1 rs.2.2.2 T ta) {A : QA} {ro : Int32} {Ao : QA} (h : f_X0_whose T A = some (ro, Ao)) : MC l K G yX0_whose (ws_ yX0_whose cX0_whose 3 (some .int)) 69 4091 0 0 [.ref (K.2.1 0)] (A, rs) (QR (some (.int ro)) (Ao, rs)) := by
  refine MC.of (by decide) (Nat.le_of_ble_eq_true rfl) (lv := [(0, .ref (K.2.1 0))]) rfl (fun p e s m below meth c ls E hr hl hw => ?_)
  exact w_X0_whose_0 hG hC hT E hr _  h hw hl

def f_X0_calm_77 (T : Int32 → Option QT) (k33 : (Int32 → Int32 → Int32 → Int32 → QA → Option (Int32 × QA))) (x1 : Int32) (x2 : Int32) (x4 : Int32) (s0 : Int32) (A : QA) : Option (Int32 × QA) :=
  qlet (if x2 < s0 then s0 else x2) fun x2_5 =>
  qb2 (f_X0_passes T 5 A) fun u7 A8 =>
  qlet (x4 + (1:Int32)) fun x4_10 =>
  k33 x1 x2_5 s0 x4_10 A8
set_option maxHeartbeats 4000000 in
theorem w_X0_calm_77 {p : Program} {l : Launch} {e : Env} {s : State} {m : MethodId} {args : Array Value} {below : List Frame} {meth : Method} {c : Code} {K : QK} {G : State → Prop} {rs : QA × QL × QX × QM} {ro : Int32} {Ao : QA} (hG : QG G) (hC : QCl K) {T : Int32 → Option QT} {ta : Int32 → Nat} (hT : QTx K G rs.2.2.1 rs.2.2.2 T ta) (E : EV K G p s m args meth c cX0_calm "VaneCourt" 6) (hr : meth.sig.returnType = (some .int)) {k33 : (Int32 → Int32 → Int32 → Int32 → QA → Option (Int32 × QA))} (hk33 : ∀ (x1 : Int32) (x2 : Int32) (x3 : Int32) (x4 : Int32) (A : QA) {H : Heap} {locs : List Loc} {ls : Array Slot}, k33 x1 x2 x3 x4 A = some (ro, Ao) → WP K (A, rs) H locs → lv_has ls 6 [(0, .ref (K.2.1 0)), (1, .int x1), (2, .int x2), (3, .int x3), (4, .int x4)] → W p l e (qrm 71 4134 0 0) s m args below meth c H locs 0 0 (MQ below (QE K (QR (some (.int ro)) (Ao, rs))) args s 0 0 (qA K)) (F0 m 33 ls [])) : ∀ (x1 : Int32) (x2 : Int32) (x4 : Int32) (s0 : Int32) (A : QA) {H : Heap} {locs : List Loc} {ls : Array Slot}, f_X0_calm_77 T k33 x1 x2 x4 s0 A = some (ro, Ao) → WP K (A, rs) H locs → lv_has ls 6 [(0, .ref (K.2.1 0)), (1, .int x1), (2, .int x2), (4, .int x4)] → W p l e (qrm 71 4134 0 0) s m args below meth c H locs 0 0 (MQ below (QE K (QR (some (.int ro)) (Ao, rs))) args s 0 0 (qA K)) (F0 m 77 ls [.int s0]) := by
  have hx := E.1
  have hb := E.2.1
  have hown := E.2.2.1
  have hts := E.2.2.2.2.1
  intro x1 x2 x4 s0 A H locs ls  h hw hl
  rw [f_X0_calm_77] at h
  refine lv_istore_n (lv' := [(3, .int s0), (0, .ref (K.2.1 0)), (1, .int x1), (2, .int x2), (4, .int x4)]) hx hb dX0_calm_77 rfl hl (by decide) rfl (fun ls hl => ?_)
  refine lv_iload_n hx hb dX0_calm_78 rfl (lv_at hl 3 rfl) ?_
  refine lv_iload_n hx hb dX0_calm_79 rfl (lv_at hl 0 rfl) ?_
  refine va_mmax hx hb (E.2.2.2.2.2.2.2.trans hl.1.symm) hown (hts _ q1210) (hts _ q632) (hts _ q150) (hts _ q633) (Nat.le_of_ble_eq_true rfl) (Nat.le_of_ble_eq_true rfl) (Nat.le_refl _) (Nat.le_refl _) dX0_calm_80 ?_
  obtain ⟨x2_5, e6, h⟩ := qlet_s h
  refine r_nm e6 ?_
  refine lv_istore_n (lv' := [(2, .int x2_5), (3, .int s0), (0, .ref (K.2.1 0)), (1, .int x1), (4, .int x4)]) hx hb dX0_calm_83 rfl hl (by decide) rfl (fun ls hl => ?_)
  refine lv_aload_n hx hb dX0_calm_84 rfl (lv_at hl 2 rfl) ?_
  refine lv_aload_n hx hb dX0_calm_85 rfl (lv_at hl 2 rfl) ?_
  refine r_getX (v := .ref (K.2.1 5)) E hw hC 7 (by decide) q245 rfl dX0_calm_86 ?_
  obtain ⟨u7, A8, g9, h⟩ := qb2_s h
  refine d_V (As := [.ref (K.2.1 5)]) (v0 := some (.int u7)) (w0 := (A8, rs)) hG E hw hl (m_X0_passes l hG hC hT (qi_5 hC) g9) (qX0 hC) rfl (cwV 1 hts (lw_V q895 q897 qs27 q137 q898) rfl rfl rfl ⟨rfl, kd_X0_passes⟩ ⟨Nat.le_of_ble_eq_true rfl, Nat.le_of_ble_eq_true rfl⟩) rfl (rest := []) (st1 := [.int u7]) rfl rfl rfl dX0_calm_89 ⟨Nat.le_of_ble_eq_true rfl, Nat.le_of_ble_eq_true rfl⟩ (fun H locs hw => ?_)
  refine lv_istore (lv' := [(5, .int u7), (2, .int x2_5), (3, .int s0), (0, .ref (K.2.1 0)), (1, .int x1), (4, .int x4)]) hx hb dX0_calm_92 hl (by decide) rfl (fun ls hl => ?_)
  obtain ⟨x4_10, e11, h⟩ := qlet_s h
  refine lv_iinc (v := x4_10) (lv' := [(4, .int x4_10), (5, .int u7), (2, .int x2_5), (3, .int s0), (0, .ref (K.2.1 0)), (1, .int x1)]) (k := 5) hx hb dX0_calm_94 hl rfl (by rw [e11]; rfl) (by decide) rfl (fun ls hl => ?_)
  refine lv_goto (tgt := 33) hx hb dX0_calm_97 (by decide) ?_
  exact hk33 _ _ _ _ _  h hw (lv_sub hl [4, 5, 2, 3, 0] rfl)

def f_X0_calm_70 (T : Int32 → Option QT) (k33 : (Int32 → Int32 → Int32 → Int32 → QA → Option (Int32 × QA))) (x1 : Int32) (x2 : Int32) (x3 : Int32) (x4 : Int32) (A : QA) : Option (Int32 × QA) :=
  f_X0_calm_77 T k33 x1 x2 x4 (x3 + (1:Int32)) A
set_option maxHeartbeats 4000000 in
theorem w_X0_calm_70 {p : Program} {l : Launch} {e : Env} {s : State} {m : MethodId} {args : Array Value} {below : List Frame} {meth : Method} {c : Code} {K : QK} {G : State → Prop} {rs : QA × QL × QX × QM} {ro : Int32} {Ao : QA} (hG : QG G) (hC : QCl K) {T : Int32 → Option QT} {ta : Int32 → Nat} (hT : QTx K G rs.2.2.1 rs.2.2.2 T ta) (E : EV K G p s m args meth c cX0_calm "VaneCourt" 6) (hr : meth.sig.returnType = (some .int)) {k33 : (Int32 → Int32 → Int32 → Int32 → QA → Option (Int32 × QA))} (hk33 : ∀ (x1 : Int32) (x2 : Int32) (x3 : Int32) (x4 : Int32) (A : QA) {H : Heap} {locs : List Loc} {ls : Array Slot}, k33 x1 x2 x3 x4 A = some (ro, Ao) → WP K (A, rs) H locs → lv_has ls 6 [(0, .ref (K.2.1 0)), (1, .int x1), (2, .int x2), (3, .int x3), (4, .int x4)] → W p l e (qrm 71 4134 0 0) s m args below meth c H locs 0 0 (MQ below (QE K (QR (some (.int ro)) (Ao, rs))) args s 0 0 (qA K)) (F0 m 33 ls [])) : ∀ (x1 : Int32) (x2 : Int32) (x3 : Int32) (x4 : Int32) (A : QA) {H : Heap} {locs : List Loc} {ls : Array Slot}, f_X0_calm_70 T k33 x1 x2 x3 x4 A = some (ro, Ao) → WP K (A, rs) H locs → lv_has ls 6 [(0, .ref (K.2.1 0)), (1, .int x1), (2, .int x2), (3, .int x3), (4, .int x4)] → W p l e (qrm 71 4134 0 0) s m args below meth c H locs 0 0 (MQ below (QE K (QR (some (.int ro)) (Ao, rs))) args s 0 0 (qA K)) (F0 m 70 ls []) := by
  have hx := E.1
  have hb := E.2.1
  have hown := E.2.2.1
  have hts := E.2.2.2.2.1
  intro x1 x2 x3 x4 A H locs ls  h hw hl
  rw [f_X0_calm_70] at h
  refine lv_iload_n hx hb dX0_calm_70 rfl (lv_at hl 3 rfl) ?_
  refine lv_iconst (v := (1:Int32)) hx hb dX0_calm_71 (by decide) ?_
  refine lv_iadd hx hb dX0_calm_72 ?_
  refine lv_goto (tgt := 77) hx hb dX0_calm_73 (by decide) ?_
  exact w_X0_calm_77 hG hC hT E hr hk33 _ _ _ _ _   h hw (lv_sub hl [0, 1, 2, 4] rfl)

def f_X0_calm_33 (T : Int32 → Option QT) : Nat → Int32 → Int32 → Int32 → Int32 → QA → Option (Int32 × QA)
  | 0, _, _, _, _, _ => none
  | n + 1, x1, x2, x3, x4, A => if x1 ≤ x4 then (
  some (x2, A)) else (
  if (9999:Int32) ≤ (A 5 3) then (
  some (x2, A)) else (
  if (A 5 1) = (0:Int32) then (
  f_X0_calm_70 T (fun x1' x2' x3' x4' A' => f_X0_calm_33 T n x1' x2' x3' x4' A') x1 x2 x3 x4 A) else (
  if (A 5 2) = (1:Int32) then (
  f_X0_calm_70 T (fun x1' x2' x3' x4' A' => f_X0_calm_33 T n x1' x2' x3' x4' A') x1 x2 x3 x4 A) else (
  f_X0_calm_77 T (fun x1' x2' x3' x4' A' => f_X0_calm_33 T n x1' x2' x3' x4' A') x1 x2 x4 (0:Int32) A))))
set_option maxHeartbeats 4000000 in
theorem w_X0_calm_33 {p : Program} {l : Launch} {e : Env} {s : State} {m : MethodId} {args : Array Value} {below : List Frame} {meth : Method} {c : Code} {K : QK} {G : State → Prop} {rs : QA × QL × QX × QM} {ro : Int32} {Ao : QA} (hG : QG G) (hC : QCl K) {T : Int32 → Option QT} {ta : Int32 → Nat} (hT : QTx K G rs.2.2.1 rs.2.2.2 T ta) (E : EV K G p s m args meth c cX0_calm "VaneCourt" 6) (hr : meth.sig.returnType = (some .int)) : ∀ (n : Nat) (x1 : Int32) (x2 : Int32) (x3 : Int32) (x4 : Int32) (A : QA) {H : Heap} {locs : List Loc} {ls : Array Slot}, f_X0_calm_33 T n x1 x2 x3 x4 A = some (ro, Ao) → WP K (A, rs) H locs → lv_has ls 6 [(0, .ref (K.2.1 0)), (1, .int x1), (2, .int x2), (3, .int x3), (4, .int x4)] → W p l e (qrm 71 4134 0 0) s m args below meth c H locs 0 0 (MQ below (QE K (QR (some (.int ro)) (Ao, rs))) args s 0 0 (qA K)) (F0 m 33 ls []) := by
  have hx := E.1
  have hb := E.2.1
  have hown := E.2.2.1
  have hts := E.2.2.2.2.1
  intro n
  induction n with
  | zero =>
    intro x1 x2 x3 x4 A H locs ls  h hw hl
    cases h
  | succ n ih =>
    intro x1 x2 x3 x4 A H locs ls  h hw hl
    rw [f_X0_calm_33] at h
    refine lv_iload hx hb dX0_calm_33 (lv_at hl 4 rfl) ?_
    refine lv_iload_n hx hb dX0_calm_35 rfl (lv_at hl 1 rfl) ?_
    refine lv_icmp_ge (tgt := 100) hx hb dX0_calm_36 (by decide) (fun c => ?_) (fun c => ?_)
    · have h := qi_t c h
      refine lv_iload_n hx hb dX0_calm_100 rfl (lv_at hl 2 rfl) ?_
      have h := Option.some.inj h
      obtain ⟨h1, h2⟩ := Prod.mk.inj h
      exact d_iret E hr rfl hw h1 (by rw [h2]) dX0_calm_101
    · have h := qi_f c h
      refine lv_aload_n hx hb dX0_calm_39 rfl (lv_at hl 0 rfl) ?_
      refine r_getX (v := .ref (K.2.1 5)) E hw hC 7 (by decide) q245 rfl dX0_calm_40 ?_
      refine lv_iconst (v := (3:Int32)) hx hb dX0_calm_43 (by decide) ?_
      refine r_iald (j := 3) E hw (qi_5 hC).at (q_lit (k := 3) (n := 154) rfl rfl) (q_clamp (k := 3) rfl) dX0_calm_44 ?_
      refine lv_sipush (v := (9999:Int32)) hx hb dX0_calm_45 (by decide) ?_
      refine lv_icmp_ge (tgt := 100) hx hb dX0_calm_48 (by decide) (fun c => ?_) (fun c => ?_)
      · have h := qi_t c h
        refine lv_iload_n hx hb dX0_calm_100 rfl (lv_at hl 2 rfl) ?_
        have h := Option.some.inj h
        obtain ⟨h1, h2⟩ := Prod.mk.inj h
        exact d_iret E hr rfl hw h1 (by rw [h2]) dX0_calm_101
      · have h := qi_f c h
        refine lv_aload_n hx hb dX0_calm_51 rfl (lv_at hl 0 rfl) ?_
        refine r_getX (v := .ref (K.2.1 5)) E hw hC 7 (by decide) q245 rfl dX0_calm_52 ?_
        refine lv_iconst (v := (1:Int32)) hx hb dX0_calm_55 (by decide) ?_
        refine r_iald (j := 1) E hw (qi_5 hC).at (q_lit (k := 1) (n := 154) rfl rfl) (q_clamp (k := 1) rfl) dX0_calm_56 ?_
        refine lv_if_eq (tgt := 70) hx hb dX0_calm_57 (by decide) (fun c => ?_) (fun c => ?_)
        · have h := qi_t c h
          exact w_X0_calm_70 hG hC hT E hr ih _ _ _ _ _   h hw (lv_sub hl [0, 1, 2, 3, 4] rfl)
        · have h := qi_f c h
          refine lv_aload_n hx hb dX0_calm_60 rfl (lv_at hl 0 rfl) ?_
          refine r_getX (v := .ref (K.2.1 5)) E hw hC 7 (by decide) q245 rfl dX0_calm_61 ?_
          refine lv_iconst (v := (2:Int32)) hx hb dX0_calm_64 (by decide) ?_
          refine r_iald (j := 2) E hw (qi_5 hC).at (q_lit (k := 2) (n := 154) rfl rfl) (q_clamp (k := 2) rfl) dX0_calm_65 ?_
          refine lv_iconst (v := (1:Int32)) hx hb dX0_calm_66 (by decide) ?_
          refine lv_icmp_ne (tgt := 76) hx hb dX0_calm_67 (by decide) (fun c => ?_) (fun c => ?_)
          · have h := qi_f c h
            refine lv_iconst (v := (0:Int32)) hx hb dX0_calm_76 (by decide) ?_
            exact w_X0_calm_77 hG hC hT E hr ih _ _ _ _ _   h hw (lv_sub hl [0, 1, 2, 4] rfl)
          · have h := qi_t c h
            exact w_X0_calm_70 hG hC hT E hr ih _ _ _ _ _   h hw (lv_sub hl [0, 1, 2, 3, 4] rfl)

def f_X0_calm (T : Int32 → Option QT) (x1 : Int32) (A : QA) : Option (Int32 × QA) :=
  qb1 (f_X0_in x1 (1:Int32) (60:Int32)) fun u1 =>
  if u1 = (0:Int32) then (
  some ((-1:Int32), A)) else (
  qlet (qset A 5 (va_cpy (A 101) (A 5) 0 0 154)) fun A3 =>
  f_X0_calm_33 T FU x1 (0:Int32) (0:Int32) (0:Int32) A3)
set_option maxHeartbeats 4000000 in
theorem w_X0_calm_0 {p : Program} {l : Launch} {e : Env} {s : State} {m : MethodId} {args : Array Value} {below : List Frame} {meth : Method} {c : Code} {K : QK} {G : State → Prop} {rs : QA × QL × QX × QM} {ro : Int32} {Ao : QA} (hG : QG G) (hC : QCl K) {T : Int32 → Option QT} {ta : Int32 → Nat} (hT : QTx K G rs.2.2.1 rs.2.2.2 T ta) (E : EV K G p s m args meth c cX0_calm "VaneCourt" 6) (hr : meth.sig.returnType = (some .int)) : ∀ (x1 : Int32) (A : QA) {H : Heap} {locs : List Loc} {ls : Array Slot}, f_X0_calm T x1 A = some (ro, Ao) → WP K (A, rs) H locs → lv_has ls 6 [(0, .ref (K.2.1 0)), (1, .int x1)] → W p l e (qrm 71 4134 0 0) s m args below meth c H locs 0 0 (MQ below (QE K (QR (some (.int ro)) (Ao, rs))) args s 0 0 (qA K)) (F0 m 0 ls []) := by
  have hx := E.1
  have hb := E.2.1
  have hown := E.2.2.1
  have hts := E.2.2.2.2.1
  intro x1 A H locs ls  h hw hl
  rw [f_X0_calm] at h
  refine lv_iload_n hx hb dX0_calm_0 rfl (lv_at hl 1 rfl) ?_
  refine lv_iconst (v := (1:Int32)) hx hb dX0_calm_1 (by decide) ?_
  refine lv_bipush (v := (60:Int32)) hx hb dX0_calm_2 (by decide) ?_
  obtain ⟨u1, g2, h⟩ := qb1_s h
  refine d_S (As := [.int x1, .int (1:Int32), .int (60:Int32)]) (v0 := some (.int u1)) (w0 := (A, rs)) hG E hw hl (m_X0_in l hG hC  g2) (va_cwS 3 hts (lw_S q283 q284 q137 q285) rfl rfl rfl kd_X0_in ⟨Nat.le_of_ble_eq_true rfl, Nat.le_of_ble_eq_true rfl⟩) rfl (rest := []) (st1 := [.int u1]) rfl rfl rfl dX0_calm_4 ⟨Nat.le_of_ble_eq_true rfl, Nat.le_of_ble_eq_true rfl⟩ (fun H locs hw => ?_)
  refine lv_if_ne (tgt := 12) hx hb dX0_calm_7 (by decide) (fun c => ?_) (fun c => ?_)
  · have h := qi_f c h
    refine lv_aload_n hx hb dX0_calm_12 rfl (lv_at hl 0 rfl) ?_
    refine r_getX (v := .ref (K.2.1 1)) E hw hC 0 (by decide) q238 rfl dX0_calm_13 ?_
    refine r_getS1 (v := .ref (K.2.1 101)) hG E hw hC 1 (by decide) q193 rfl dX0_calm_16 ?_
    refine lv_aload_n hx hb dX0_calm_19 rfl (lv_at hl 0 rfl) ?_
    refine r_getX (v := .ref (K.2.1 5)) E hw hC 7 (by decide) q245 rfl dX0_calm_20 ?_
    obtain ⟨A3, e4, h⟩ := qlet_s h
    refine d_SN (As := [.ref (K.2.1 101), .ref (K.2.1 5)]) (v0 := none) hG E hw hl (m_X1_copy l hG hC (qi_101 hC) (qi_5 hC) (Nat.le_of_ble_eq_true rfl)) ⟨va_cnB 2 hts (lw_meth q231) rfl rfl rfl (hG.2.2 s _ E.2.2.2.2.2.1 q1169 rfl) (hts _ q138) kd_X1_copy ⟨Nat.le_of_ble_eq_true rfl, Nat.le_of_ble_eq_true rfl⟩, hts _ q230, trivial⟩ rfl (rest := []) (st1 := []) rfl rfl rfl dX0_calm_23 ⟨Nat.le_of_ble_eq_true rfl, Nat.le_of_ble_eq_true rfl⟩ (fun H locs hw => ?_)
    rw [← e4] at hw
    refine lv_iconst (v := (0:Int32)) hx hb dX0_calm_26 (by decide) ?_
    refine lv_istore_n (lv' := [(2, .int (0:Int32)), (0, .ref (K.2.1 0)), (1, .int x1)]) hx hb dX0_calm_27 rfl hl (by decide) rfl (fun ls hl => ?_)
    refine lv_iconst (v := (0:Int32)) hx hb dX0_calm_28 (by decide) ?_
    refine lv_istore_n (lv' := [(3, .int (0:Int32)), (2, .int (0:Int32)), (0, .ref (K.2.1 0)), (1, .int x1)]) hx hb dX0_calm_29 rfl hl (by decide) rfl (fun ls hl => ?_)
    refine lv_iconst (v := (0:Int32)) hx hb dX0_calm_30 (by decide) ?_
    refine lv_istore (lv' := [(4, .int (0:Int32)), (3, .int (0:Int32)), (2, .int (0:Int32)), (0, .ref (K.2.1 0)), (1, .int x1)]) hx hb dX0_calm_31 hl (by decide) rfl (fun ls hl => ?_)
    exact w_X0_calm_33 hG hC hT E hr  _ _ _ _ _ _   h hw (lv_sub hl [3, 4, 2, 1, 0] rfl)
  · have h := qi_t c h
    refine lv_iconst (v := (-1:Int32)) hx hb dX0_calm_10 (by decide) ?_
    have h := Option.some.inj h
    obtain ⟨h1, h2⟩ := Prod.mk.inj h
    exact d_iret E hr rfl hw h1 (by rw [h2]) dX0_calm_11

theorem m_X0_calm (l : Launch) {K : QK} {G : State → Prop} (hG : QG G) (hC : QCl K) {rs : QA × QL × QX × QM} {T : Int32 → Option QT} {ta : Int32 → Nat} (hT : QTx K G rs.2.2.1 rs.2.2.2 T ta) {x1 : Int32} {A : QA} {ro : Int32} {Ao : QA} (h : f_X0_calm T x1 A = some (ro, Ao)) : MC l K G yX0_calm (ws_ yX0_calm cX0_calm 6 (some .int)) 71 4134 0 0 [.ref (K.2.1 0), .int x1] (A, rs) (QR (some (.int ro)) (Ao, rs)) := by
  refine MC.of (by decide) (Nat.le_of_ble_eq_true rfl) (lv := [(0, .ref (K.2.1 0)), (1, .int x1)]) rfl (fun p e s m below meth c ls E hr hl hw => ?_)
  exact w_X0_calm_0 hG hC hT E hr _ _  h hw hl

def f_X0_standing_74 (T : Int32 → Option QT) (k40 : (Int32 → Int32 → Int32 → Int32 → QA → Option (Int32 × QA))) (x1 : Int32) (x2 : Int32) (x4 : Int32) (s0 : Int32) (s1 : Int32) (A : QA) : Option (Int32 × QA) :=
  qlet (s0 + s1) fun x3_7 =>
  qb2 (f_X0_passes T 5 A) fun u9 A10 =>
  qlet (x4 + (1:Int32)) fun x4_12 =>
  k40 x1 x2 x3_7 x4_12 A10
set_option maxHeartbeats 4000000 in
theorem w_X0_standing_74 {p : Program} {l : Launch} {e : Env} {s : State} {m : MethodId} {args : Array Value} {below : List Frame} {meth : Method} {c : Code} {K : QK} {G : State → Prop} {rs : QA × QL × QX × QM} {ro : Int32} {Ao : QA} (hG : QG G) (hC : QCl K) {T : Int32 → Option QT} {ta : Int32 → Nat} (hT : QTx K G rs.2.2.1 rs.2.2.2 T ta) (E : EV K G p s m args meth c cX0_standing "VaneCourt" 6) (hr : meth.sig.returnType = (some .int)) {k40 : (Int32 → Int32 → Int32 → Int32 → QA → Option (Int32 × QA))} (hk40 : ∀ (x1 : Int32) (x2 : Int32) (x3 : Int32) (x4 : Int32) (A : QA) {H : Heap} {locs : List Loc} {ls : Array Slot}, k40 x1 x2 x3 x4 A = some (ro, Ao) → WP K (A, rs) H locs → lv_has ls 6 [(0, .ref (K.2.1 0)), (1, .int x1), (2, .int x2), (3, .int x3), (4, .int x4)] → W p l e (qrm 71 4134 0 0) s m args below meth c H locs 0 0 (MQ below (QE K (QR (some (.int ro)) (Ao, rs))) args s 0 0 (qA K)) (F0 m 40 ls [])) : ∀ (x1 : Int32) (x2 : Int32) (x4 : Int32) (s0 : Int32) (s1 : Int32) (A : QA) {H : Heap} {locs : List Loc} {ls : Array Slot}, f_X0_standing_74 T k40 x1 x2 x4 s0 s1 A = some (ro, Ao) → WP K (A, rs) H locs → lv_has ls 6 [(0, .ref (K.2.1 0)), (1, .int x1), (2, .int x2), (4, .int x4)] → W p l e (qrm 71 4134 0 0) s m args below meth c H locs 0 0 (MQ below (QE K (QR (some (.int ro)) (Ao, rs))) args s 0 0 (qA K)) (F0 m 74 ls [.int s1, .int s0]) := by
  have hx := E.1
  have hb := E.2.1
  have hown := E.2.2.1
  have hts := E.2.2.2.2.1
  intro x1 x2 x4 s0 s1 A H locs ls  h hw hl
  rw [f_X0_standing_74] at h
  refine lv_iadd hx hb dX0_standing_74 ?_
  obtain ⟨x3_7, e8, h⟩ := qlet_s h
  refine r_nm e8 ?_
  refine lv_istore_n (lv' := [(3, .int x3_7), (0, .ref (K.2.1 0)), (1, .int x1), (2, .int x2), (4, .int x4)]) hx hb dX0_standing_75 rfl hl (by decide) rfl (fun ls hl => ?_)
  refine lv_aload_n hx hb dX0_standing_76 rfl (lv_at hl 1 rfl) ?_
  refine lv_aload_n hx hb dX0_standing_77 rfl (lv_at hl 1 rfl) ?_
  refine r_getX (v := .ref (K.2.1 5)) E hw hC 7 (by decide) q245 rfl dX0_standing_78 ?_
  obtain ⟨u9, A10, g11, h⟩ := qb2_s h
  refine d_V (As := [.ref (K.2.1 5)]) (v0 := some (.int u9)) (w0 := (A10, rs)) hG E hw hl (m_X0_passes l hG hC hT (qi_5 hC) g11) (qX0 hC) rfl (cwV 1 hts (lw_V q895 q897 qs27 q137 q898) rfl rfl rfl ⟨rfl, kd_X0_passes⟩ ⟨Nat.le_of_ble_eq_true rfl, Nat.le_of_ble_eq_true rfl⟩) rfl (rest := []) (st1 := [.int u9]) rfl rfl rfl dX0_standing_81 ⟨Nat.le_of_ble_eq_true rfl, Nat.le_of_ble_eq_true rfl⟩ (fun H locs hw => ?_)
  refine lv_istore (lv' := [(5, .int u9), (3, .int x3_7), (0, .ref (K.2.1 0)), (1, .int x1), (2, .int x2), (4, .int x4)]) hx hb dX0_standing_84 hl (by decide) rfl (fun ls hl => ?_)
  obtain ⟨x4_12, e13, h⟩ := qlet_s h
  refine lv_iinc (v := x4_12) (lv' := [(4, .int x4_12), (5, .int u9), (3, .int x3_7), (0, .ref (K.2.1 0)), (1, .int x1), (2, .int x2)]) (k := 5) hx hb dX0_standing_86 hl rfl (by rw [e13]; rfl) (by decide) rfl (fun ls hl => ?_)
  refine lv_goto (tgt := 40) hx hb dX0_standing_89 (by decide) ?_
  exact hk40 _ _ _ _ _  h hw (lv_sub hl [3, 4, 5, 2, 0] rfl)

def f_X0_standing_40 (T : Int32 → Option QT) : Nat → Int32 → Int32 → Int32 → Int32 → QA → Option (Int32 × QA)
  | 0, _, _, _, _, _ => none
  | n + 1, x1, x2, x3, x4, A => if x1 ≤ x4 then (
  some (x3, A)) else (
  if (9999:Int32) ≤ (A 5 3) then (
  some (x3, A)) else (
  if (A 5 0) = x2 then (
  f_X0_standing_74 T (fun x1' x2' x3' x4' A' => f_X0_standing_40 T n x1' x2' x3' x4' A') x1 x2 x4 x3 (1:Int32) A) else (
  f_X0_standing_74 T (fun x1' x2' x3' x4' A' => f_X0_standing_40 T n x1' x2' x3' x4' A') x1 x2 x4 x3 (0:Int32) A)))
set_option maxHeartbeats 4000000 in
theorem w_X0_standing_40 {p : Program} {l : Launch} {e : Env} {s : State} {m : MethodId} {args : Array Value} {below : List Frame} {meth : Method} {c : Code} {K : QK} {G : State → Prop} {rs : QA × QL × QX × QM} {ro : Int32} {Ao : QA} (hG : QG G) (hC : QCl K) {T : Int32 → Option QT} {ta : Int32 → Nat} (hT : QTx K G rs.2.2.1 rs.2.2.2 T ta) (E : EV K G p s m args meth c cX0_standing "VaneCourt" 6) (hr : meth.sig.returnType = (some .int)) : ∀ (n : Nat) (x1 : Int32) (x2 : Int32) (x3 : Int32) (x4 : Int32) (A : QA) {H : Heap} {locs : List Loc} {ls : Array Slot}, f_X0_standing_40 T n x1 x2 x3 x4 A = some (ro, Ao) → WP K (A, rs) H locs → lv_has ls 6 [(0, .ref (K.2.1 0)), (1, .int x1), (2, .int x2), (3, .int x3), (4, .int x4)] → W p l e (qrm 71 4134 0 0) s m args below meth c H locs 0 0 (MQ below (QE K (QR (some (.int ro)) (Ao, rs))) args s 0 0 (qA K)) (F0 m 40 ls []) := by
  have hx := E.1
  have hb := E.2.1
  have hown := E.2.2.1
  have hts := E.2.2.2.2.1
  intro n
  induction n with
  | zero =>
    intro x1 x2 x3 x4 A H locs ls  h hw hl
    cases h
  | succ n ih =>
    intro x1 x2 x3 x4 A H locs ls  h hw hl
    rw [f_X0_standing_40] at h
    refine lv_iload hx hb dX0_standing_40 (lv_at hl 4 rfl) ?_
    refine lv_iload_n hx hb dX0_standing_42 rfl (lv_at hl 1 rfl) ?_
    refine lv_icmp_ge (tgt := 92) hx hb dX0_standing_43 (by decide) (fun c => ?_) (fun c => ?_)
    · have h := qi_t c h
      refine lv_iload_n hx hb dX0_standing_92 rfl (lv_at hl 3 rfl) ?_
      have h := Option.some.inj h
      obtain ⟨h1, h2⟩ := Prod.mk.inj h
      exact d_iret E hr rfl hw h1 (by rw [h2]) dX0_standing_93
    · have h := qi_f c h
      refine lv_aload_n hx hb dX0_standing_46 rfl (lv_at hl 0 rfl) ?_
      refine r_getX (v := .ref (K.2.1 5)) E hw hC 7 (by decide) q245 rfl dX0_standing_47 ?_
      refine lv_iconst (v := (3:Int32)) hx hb dX0_standing_50 (by decide) ?_
      refine r_iald (j := 3) E hw (qi_5 hC).at (q_lit (k := 3) (n := 154) rfl rfl) (q_clamp (k := 3) rfl) dX0_standing_51 ?_
      refine lv_sipush (v := (9999:Int32)) hx hb dX0_standing_52 (by decide) ?_
      refine lv_icmp_ge (tgt := 92) hx hb dX0_standing_55 (by decide) (fun c => ?_) (fun c => ?_)
      · have h := qi_t c h
        refine lv_iload_n hx hb dX0_standing_92 rfl (lv_at hl 3 rfl) ?_
        have h := Option.some.inj h
        obtain ⟨h1, h2⟩ := Prod.mk.inj h
        exact d_iret E hr rfl hw h1 (by rw [h2]) dX0_standing_93
      · have h := qi_f c h
        refine lv_iload_n hx hb dX0_standing_58 rfl (lv_at hl 3 rfl) ?_
        refine lv_aload_n hx hb dX0_standing_59 rfl (lv_at hl 0 rfl) ?_
        refine r_getX (v := .ref (K.2.1 5)) E hw hC 7 (by decide) q245 rfl dX0_standing_60 ?_
        refine lv_iconst (v := (0:Int32)) hx hb dX0_standing_63 (by decide) ?_
        refine r_iald (j := 0) E hw (qi_5 hC).at (q_lit (k := 0) (n := 154) rfl rfl) (q_clamp (k := 0) rfl) dX0_standing_64 ?_
        refine lv_iload_n hx hb dX0_standing_65 rfl (lv_at hl 2 rfl) ?_
        refine lv_icmp_ne (tgt := 73) hx hb dX0_standing_66 (by decide) (fun c => ?_) (fun c => ?_)
        · have h := qi_f c h
          refine lv_iconst (v := (0:Int32)) hx hb dX0_standing_73 (by decide) ?_
          exact w_X0_standing_74 hG hC hT E hr ih _ _ _ _ _ _   h hw (lv_sub hl [0, 1, 2, 4] rfl)
        · have h := qi_t c h
          refine lv_iconst (v := (1:Int32)) hx hb dX0_standing_69 (by decide) ?_
          refine lv_goto (tgt := 74) hx hb dX0_standing_70 (by decide) ?_
          exact w_X0_standing_74 hG hC hT E hr ih _ _ _ _ _ _   h hw (lv_sub hl [0, 1, 2, 4] rfl)

def f_X0_standing (T : Int32 → Option QT) (x1 : Int32) (x2 : Int32) (A : QA) : Option (Int32 × QA) :=
  qb1 (f_X0_in x1 (1:Int32) (60:Int32)) fun u1 =>
  if u1 = (0:Int32) then (
  some ((-1:Int32), A)) else (
  qb1 (f_X0_in x2 (0:Int32) (3:Int32)) fun u3 =>
  if u3 = (0:Int32) then (
  some ((-1:Int32), A)) else (
  qlet (qset A 5 (va_cpy (A 101) (A 5) 0 0 154)) fun A5 =>
  f_X0_standing_40 T FU x1 x2 (0:Int32) (0:Int32) A5))
set_option maxHeartbeats 4000000 in
theorem w_X0_standing_0 {p : Program} {l : Launch} {e : Env} {s : State} {m : MethodId} {args : Array Value} {below : List Frame} {meth : Method} {c : Code} {K : QK} {G : State → Prop} {rs : QA × QL × QX × QM} {ro : Int32} {Ao : QA} (hG : QG G) (hC : QCl K) {T : Int32 → Option QT} {ta : Int32 → Nat} (hT : QTx K G rs.2.2.1 rs.2.2.2 T ta) (E : EV K G p s m args meth c cX0_standing "VaneCourt" 6) (hr : meth.sig.returnType = (some .int)) : ∀ (x1 : Int32) (x2 : Int32) (A : QA) {H : Heap} {locs : List Loc} {ls : Array Slot}, f_X0_standing T x1 x2 A = some (ro, Ao) → WP K (A, rs) H locs → lv_has ls 6 [(0, .ref (K.2.1 0)), (1, .int x1), (2, .int x2)] → W p l e (qrm 71 4134 0 0) s m args below meth c H locs 0 0 (MQ below (QE K (QR (some (.int ro)) (Ao, rs))) args s 0 0 (qA K)) (F0 m 0 ls []) := by
  have hx := E.1
  have hb := E.2.1
  have hown := E.2.2.1
  have hts := E.2.2.2.2.1
  intro x1 x2 A H locs ls  h hw hl
  rw [f_X0_standing] at h
  refine lv_iload_n hx hb dX0_standing_0 rfl (lv_at hl 1 rfl) ?_
  refine lv_iconst (v := (1:Int32)) hx hb dX0_standing_1 (by decide) ?_
  refine lv_bipush (v := (60:Int32)) hx hb dX0_standing_2 (by decide) ?_
  obtain ⟨u1, g2, h⟩ := qb1_s h
  refine d_S (As := [.int x1, .int (1:Int32), .int (60:Int32)]) (v0 := some (.int u1)) (w0 := (A, rs)) hG E hw hl (m_X0_in l hG hC  g2) (va_cwS 3 hts (lw_S q283 q284 q137 q285) rfl rfl rfl kd_X0_in ⟨Nat.le_of_ble_eq_true rfl, Nat.le_of_ble_eq_true rfl⟩) rfl (rest := []) (st1 := [.int u1]) rfl rfl rfl dX0_standing_4 ⟨Nat.le_of_ble_eq_true rfl, Nat.le_of_ble_eq_true rfl⟩ (fun H locs hw => ?_)
  refine lv_if_eq (tgt := 19) hx hb dX0_standing_7 (by decide) (fun c => ?_) (fun c => ?_)
  · have h := qi_t c h
    refine lv_iconst (v := (-1:Int32)) hx hb dX0_standing_19 (by decide) ?_
    have h := Option.some.inj h
    obtain ⟨h1, h2⟩ := Prod.mk.inj h
    exact d_iret E hr rfl hw h1 (by rw [h2]) dX0_standing_20
  · have h := qi_f c h
    refine lv_iload_n hx hb dX0_standing_10 rfl (lv_at hl 2 rfl) ?_
    refine lv_iconst (v := (0:Int32)) hx hb dX0_standing_11 (by decide) ?_
    refine lv_iconst (v := (3:Int32)) hx hb dX0_standing_12 (by decide) ?_
    obtain ⟨u3, g4, h⟩ := qb1_s h
    refine d_S (As := [.int x2, .int (0:Int32), .int (3:Int32)]) (v0 := some (.int u3)) (w0 := (A, rs)) hG E hw hl (m_X0_in l hG hC  g4) (va_cwS 3 hts (lw_S q283 q284 q137 q285) rfl rfl rfl kd_X0_in ⟨Nat.le_of_ble_eq_true rfl, Nat.le_of_ble_eq_true rfl⟩) rfl (rest := []) (st1 := [.int u3]) rfl rfl rfl dX0_standing_13 ⟨Nat.le_of_ble_eq_true rfl, Nat.le_of_ble_eq_true rfl⟩ (fun H locs hw => ?_)
    refine lv_if_ne (tgt := 21) hx hb dX0_standing_16 (by decide) (fun c => ?_) (fun c => ?_)
    · have h := qi_f c h
      refine lv_aload_n hx hb dX0_standing_21 rfl (lv_at hl 0 rfl) ?_
      refine r_getX (v := .ref (K.2.1 1)) E hw hC 0 (by decide) q238 rfl dX0_standing_22 ?_
      refine r_getS1 (v := .ref (K.2.1 101)) hG E hw hC 1 (by decide) q193 rfl dX0_standing_25 ?_
      refine lv_aload_n hx hb dX0_standing_28 rfl (lv_at hl 0 rfl) ?_
      refine r_getX (v := .ref (K.2.1 5)) E hw hC 7 (by decide) q245 rfl dX0_standing_29 ?_
      obtain ⟨A5, e6, h⟩ := qlet_s h
      refine d_SN (As := [.ref (K.2.1 101), .ref (K.2.1 5)]) (v0 := none) hG E hw hl (m_X1_copy l hG hC (qi_101 hC) (qi_5 hC) (Nat.le_of_ble_eq_true rfl)) ⟨va_cnB 2 hts (lw_meth q231) rfl rfl rfl (hG.2.2 s _ E.2.2.2.2.2.1 q1169 rfl) (hts _ q138) kd_X1_copy ⟨Nat.le_of_ble_eq_true rfl, Nat.le_of_ble_eq_true rfl⟩, hts _ q230, trivial⟩ rfl (rest := []) (st1 := []) rfl rfl rfl dX0_standing_32 ⟨Nat.le_of_ble_eq_true rfl, Nat.le_of_ble_eq_true rfl⟩ (fun H locs hw => ?_)
      rw [← e6] at hw
      refine lv_iconst (v := (0:Int32)) hx hb dX0_standing_35 (by decide) ?_
      refine lv_istore_n (lv' := [(3, .int (0:Int32)), (0, .ref (K.2.1 0)), (1, .int x1), (2, .int x2)]) hx hb dX0_standing_36 rfl hl (by decide) rfl (fun ls hl => ?_)
      refine lv_iconst (v := (0:Int32)) hx hb dX0_standing_37 (by decide) ?_
      refine lv_istore (lv' := [(4, .int (0:Int32)), (3, .int (0:Int32)), (0, .ref (K.2.1 0)), (1, .int x1), (2, .int x2)]) hx hb dX0_standing_38 hl (by decide) rfl (fun ls hl => ?_)
      exact w_X0_standing_40 hG hC hT E hr  _ _ _ _ _ _   h hw (lv_sub hl [2, 3, 4, 1, 0] rfl)
    · have h := qi_t c h
      refine lv_iconst (v := (-1:Int32)) hx hb dX0_standing_19 (by decide) ?_
      have h := Option.some.inj h
      obtain ⟨h1, h2⟩ := Prod.mk.inj h
      exact d_iret E hr rfl hw h1 (by rw [h2]) dX0_standing_20

theorem m_X0_standing (l : Launch) {K : QK} {G : State → Prop} (hG : QG G) (hC : QCl K) {rs : QA × QL × QX × QM} {T : Int32 → Option QT} {ta : Int32 → Nat} (hT : QTx K G rs.2.2.1 rs.2.2.2 T ta) {x1 : Int32} {x2 : Int32} {A : QA} {ro : Int32} {Ao : QA} (h : f_X0_standing T x1 x2 A = some (ro, Ao)) : MC l K G yX0_standing (ws_ yX0_standing cX0_standing 6 (some .int)) 71 4134 0 0 [.ref (K.2.1 0), .int x1, .int x2] (A, rs) (QR (some (.int ro)) (Ao, rs)) := by
  refine MC.of (by decide) (Nat.le_of_ble_eq_true rfl) (lv := [(0, .ref (K.2.1 0)), (1, .int x1), (2, .int x2)]) rfl (fun p e s m below meth c ls E hr hl hw => ?_)
  exact w_X0_standing_0 hG hC hT E hr _ _ _  h hw hl
