/-! written by dc.py: X0_newCase X0_record X0_learn X0_counsel -/
set_option maxRecDepth 100000
def f_X0_newCase (x1 : Int32) (x2 : Int32) (x3 : Int32) (x4 : Int32) (A : QA) : Option (Int32 × QA) :=
  qb1 (f_X0_in x1 (0:Int32) (5:Int32)) fun u1 =>
  if u1 = (0:Int32) then (
  some ((-1:Int32), A)) else (
  qb1 (f_X0_in x2 (1:Int32) (9:Int32)) fun u3 =>
  if u3 = (0:Int32) then (
  some ((-1:Int32), A)) else (
  qb1 (f_X0_in x3 (1:Int32) (9:Int32)) fun u5 =>
  if u5 = (0:Int32) then (
  some ((-1:Int32), A)) else (
  qb1 (f_X0_in x4 (0:Int32) (255:Int32)) fun u7 =>
  if u7 = (0:Int32) then (
  some ((-1:Int32), A)) else (
  if (A 100 0) = (8:Int32) then (
  some ((-1:Int32), A)) else (
  qb2 (f_X1_tells 110 4 (0:Int32) (va_up (va_up (va_up (va_up (fun _ => 0) 0 x1) 1 x2) 2 x3) 3 x4) A) fun u11 A12 =>
  some ((u11 - (1:Int32)), A12))))))
set_option maxHeartbeats 4000000 in
theorem w_X0_newCase_0 {p : Program} {l : Launch} {e : Env} {s : State} {m : MethodId} {args : Array Value} {below : List Frame} {meth : Method} {c : Code} {K : QK} {G : State → Prop} {B : QA} {L : QL} {X : QX} {M : QM} {ro : Int32} {Ao : QA} (hG : QG G) (hC : QCl K) (E : EV K G p s m args meth c cX0_newCase "VaneCourt" 6) (hr : meth.sig.returnType = (some .int)) : ∀ (x1 : Int32) (x2 : Int32) (x3 : Int32) (x4 : Int32) (A : QA) {H : Heap} {locs : List Loc} {ls : Array Slot}, f_X0_newCase x1 x2 x3 x4 A = some (ro, Ao) → WP K (A, B, L, X, M) H locs → lv_has ls 6 [(0, .ref (K.2.1 0)), (1, .int x1), (2, .int x2), (3, .int x3), (4, .int x4)] → W p l e (qrm 3 123 1 4) s m args below meth c H locs 0 0 (MQ below (QE K (QN (some (.int ro)) Ao B L X M)) args s 1 4 (qA K)) (F0 m 0 ls []) := by
  have hx := E.1
  have hb := E.2.1
  have hown := E.2.2.1
  have hts := E.2.2.2.2.1
  intro x1 x2 x3 x4 A H locs ls  h hw hl
  rw [f_X0_newCase] at h
  refine lv_iload_n hx hb dX0_newCase_0 rfl (lv_at hl 1 rfl) ?_
  refine lv_iconst (v := (0:Int32)) hx hb dX0_newCase_1 (by decide) ?_
  refine lv_iconst (v := (5:Int32)) hx hb dX0_newCase_2 (by decide) ?_
  obtain ⟨u1, g2, h⟩ := qb1_s h
  refine d_S (As := [.int x1, .int (0:Int32), .int (5:Int32)]) (v0 := some (.int u1)) (w0 := (A, B, L, X, M)) hG E hw hl (m_X0_in l hG hC  g2) (va_cwS 3 hts (lw_S q283 q284 q137 q285) rfl rfl rfl kd_X0_in ⟨Nat.le_of_ble_eq_true rfl, Nat.le_of_ble_eq_true rfl⟩) rfl (rest := []) (st1 := [.int u1]) rfl rfl rfl dX0_newCase_3 ⟨Nat.le_of_ble_eq_true rfl, Nat.le_of_ble_eq_true rfl⟩ (fun H locs hw => ?_)
  refine lv_if_eq (tgt := 55) hx hb dX0_newCase_6 (by decide) (fun c => ?_) (fun c => ?_)
  · have h := qi_t c h
    refine lv_iconst (v := (-1:Int32)) hx hb dX0_newCase_55 (by decide) ?_
    have h := Option.some.inj h
    obtain ⟨h1, h2⟩ := Prod.mk.inj h
    exact r_iretN E hr rfl h1 h2 QExt.rfl' hw (Nat.le_of_ble_eq_true rfl) (Nat.le_of_ble_eq_true rfl) dX0_newCase_56
  · have h := qi_f c h
    refine lv_iload_n hx hb dX0_newCase_9 rfl (lv_at hl 2 rfl) ?_
    refine lv_iconst (v := (1:Int32)) hx hb dX0_newCase_10 (by decide) ?_
    refine lv_bipush (v := (9:Int32)) hx hb dX0_newCase_11 (by decide) ?_
    obtain ⟨u3, g4, h⟩ := qb1_s h
    refine d_S (As := [.int x2, .int (1:Int32), .int (9:Int32)]) (v0 := some (.int u3)) (w0 := (A, B, L, X, M)) hG E hw hl (m_X0_in l hG hC  g4) (va_cwS 3 hts (lw_S q283 q284 q137 q285) rfl rfl rfl kd_X0_in ⟨Nat.le_of_ble_eq_true rfl, Nat.le_of_ble_eq_true rfl⟩) rfl (rest := []) (st1 := [.int u3]) rfl rfl rfl dX0_newCase_13 ⟨Nat.le_of_ble_eq_true rfl, Nat.le_of_ble_eq_true rfl⟩ (fun H locs hw => ?_)
    refine lv_if_eq (tgt := 55) hx hb dX0_newCase_16 (by decide) (fun c => ?_) (fun c => ?_)
    · have h := qi_t c h
      refine lv_iconst (v := (-1:Int32)) hx hb dX0_newCase_55 (by decide) ?_
      have h := Option.some.inj h
      obtain ⟨h1, h2⟩ := Prod.mk.inj h
      exact r_iretN E hr rfl h1 h2 QExt.rfl' hw (Nat.le_of_ble_eq_true rfl) (Nat.le_of_ble_eq_true rfl) dX0_newCase_56
    · have h := qi_f c h
      refine lv_iload_n hx hb dX0_newCase_19 rfl (lv_at hl 3 rfl) ?_
      refine lv_iconst (v := (1:Int32)) hx hb dX0_newCase_20 (by decide) ?_
      refine lv_bipush (v := (9:Int32)) hx hb dX0_newCase_21 (by decide) ?_
      obtain ⟨u5, g6, h⟩ := qb1_s h
      refine d_S (As := [.int x3, .int (1:Int32), .int (9:Int32)]) (v0 := some (.int u5)) (w0 := (A, B, L, X, M)) hG E hw hl (m_X0_in l hG hC  g6) (va_cwS 3 hts (lw_S q283 q284 q137 q285) rfl rfl rfl kd_X0_in ⟨Nat.le_of_ble_eq_true rfl, Nat.le_of_ble_eq_true rfl⟩) rfl (rest := []) (st1 := [.int u5]) rfl rfl rfl dX0_newCase_23 ⟨Nat.le_of_ble_eq_true rfl, Nat.le_of_ble_eq_true rfl⟩ (fun H locs hw => ?_)
      refine lv_if_eq (tgt := 55) hx hb dX0_newCase_26 (by decide) (fun c => ?_) (fun c => ?_)
      · have h := qi_t c h
        refine lv_iconst (v := (-1:Int32)) hx hb dX0_newCase_55 (by decide) ?_
        have h := Option.some.inj h
        obtain ⟨h1, h2⟩ := Prod.mk.inj h
        exact r_iretN E hr rfl h1 h2 QExt.rfl' hw (Nat.le_of_ble_eq_true rfl) (Nat.le_of_ble_eq_true rfl) dX0_newCase_56
      · have h := qi_f c h
        refine lv_iload hx hb dX0_newCase_29 (lv_at hl 4 rfl) ?_
        refine lv_iconst (v := (0:Int32)) hx hb dX0_newCase_31 (by decide) ?_
        refine lv_sipush (v := (255:Int32)) hx hb dX0_newCase_32 (by decide) ?_
        obtain ⟨u7, g8, h⟩ := qb1_s h
        refine d_S (As := [.int x4, .int (0:Int32), .int (255:Int32)]) (v0 := some (.int u7)) (w0 := (A, B, L, X, M)) hG E hw hl (m_X0_in l hG hC  g8) (va_cwS 3 hts (lw_S q283 q284 q137 q285) rfl rfl rfl kd_X0_in ⟨Nat.le_of_ble_eq_true rfl, Nat.le_of_ble_eq_true rfl⟩) rfl (rest := []) (st1 := [.int u7]) rfl rfl rfl dX0_newCase_35 ⟨Nat.le_of_ble_eq_true rfl, Nat.le_of_ble_eq_true rfl⟩ (fun H locs hw => ?_)
        refine lv_if_eq (tgt := 55) hx hb dX0_newCase_38 (by decide) (fun c => ?_) (fun c => ?_)
        · have h := qi_t c h
          refine lv_iconst (v := (-1:Int32)) hx hb dX0_newCase_55 (by decide) ?_
          have h := Option.some.inj h
          obtain ⟨h1, h2⟩ := Prod.mk.inj h
          exact r_iretN E hr rfl h1 h2 QExt.rfl' hw (Nat.le_of_ble_eq_true rfl) (Nat.le_of_ble_eq_true rfl) dX0_newCase_56
        · have h := qi_f c h
          refine lv_aload_n hx hb dX0_newCase_41 rfl (lv_at hl 0 rfl) ?_
          refine r_getX (v := .ref (K.2.1 1)) E hw hC 0 (by decide) q238 rfl dX0_newCase_42 ?_
          refine r_getS1 (v := .ref (K.2.1 100)) hG E hw hC 0 (by decide) q191 rfl dX0_newCase_45 ?_
          refine lv_iconst (v := (0:Int32)) hx hb dX0_newCase_48 (by decide) ?_
          refine r_iald (j := 0) E hw (qi_100 hC).at (q_lit (k := 0) (n := 7) rfl rfl) (q_clamp (k := 0) rfl) dX0_newCase_49 ?_
          refine lv_bipush (v := (8:Int32)) hx hb dX0_newCase_50 (by decide) ?_
          refine lv_icmp_ne (tgt := 57) hx hb dX0_newCase_52 (by decide) (fun c => ?_) (fun c => ?_)
          · have h := qi_f c h
            refine lv_iconst (v := (4:Int32)) hx hb dX0_newCase_57 (by decide) ?_
            refine r_newI (N := 4) E hw (q_clamp (k := 4) rfl) (by decide) (by decide) (Nat.le_of_ble_eq_true rfl) (Nat.le_of_ble_eq_true rfl) dX0_newCase_58 (fun q9 H hw hq10 _ => ?_)
            have hw : WP K (A, B, L, X, (va_up M q9 (some (.inl (K.2.2.2.2 0, 4, .inl (fun _ => 0)))))) H _ := hw
            refine lv_dup hx hb dX0_newCase_60 rfl ?_
            refine lv_iconst (v := (0:Int32)) hx hb dX0_newCase_61 (by decide) ?_
            refine lv_iload_n hx hb dX0_newCase_62 rfl (lv_at hl 1 rfl) ?_
            refine r_iastD (j := 0) E hw va_up_s (q_lit (k := 0) (n := 4) rfl rfl) (q_clamp (k := 0) rfl) dX0_newCase_63 (fun H locs hw => ?_)
            have hw : WP K (A, B, L, X, (va_up (va_up M q9 (some (.inl (K.2.2.2.2 0, 4, .inl (fun _ => 0))))) q9 (some (.inl (K.2.2.2.2 0, 4, .inl (va_up (fun _ => 0) 0 x1)))))) H locs := hw
            refine lv_dup hx hb dX0_newCase_64 rfl ?_
            refine lv_iconst (v := (1:Int32)) hx hb dX0_newCase_65 (by decide) ?_
            refine lv_iload_n hx hb dX0_newCase_66 rfl (lv_at hl 2 rfl) ?_
            refine r_iastD (j := 1) E hw va_up_s (q_lit (k := 1) (n := 4) rfl rfl) (q_clamp (k := 1) rfl) dX0_newCase_67 (fun H locs hw => ?_)
            have hw : WP K (A, B, L, X, (va_up (va_up (va_up M q9 (some (.inl (K.2.2.2.2 0, 4, .inl (fun _ => 0))))) q9 (some (.inl (K.2.2.2.2 0, 4, .inl (va_up (fun _ => 0) 0 x1))))) q9 (some (.inl (K.2.2.2.2 0, 4, .inl (va_up (va_up (fun _ => 0) 0 x1) 1 x2)))))) H locs := hw
            refine lv_dup hx hb dX0_newCase_68 rfl ?_
            refine lv_iconst (v := (2:Int32)) hx hb dX0_newCase_69 (by decide) ?_
            refine lv_iload_n hx hb dX0_newCase_70 rfl (lv_at hl 3 rfl) ?_
            refine r_iastD (j := 2) E hw va_up_s (q_lit (k := 2) (n := 4) rfl rfl) (q_clamp (k := 2) rfl) dX0_newCase_71 (fun H locs hw => ?_)
            have hw : WP K (A, B, L, X, (va_up (va_up (va_up (va_up M q9 (some (.inl (K.2.2.2.2 0, 4, .inl (fun _ => 0))))) q9 (some (.inl (K.2.2.2.2 0, 4, .inl (va_up (fun _ => 0) 0 x1))))) q9 (some (.inl (K.2.2.2.2 0, 4, .inl (va_up (va_up (fun _ => 0) 0 x1) 1 x2))))) q9 (some (.inl (K.2.2.2.2 0, 4, .inl (va_up (va_up (va_up (fun _ => 0) 0 x1) 1 x2) 2 x3)))))) H locs := hw
            refine lv_dup hx hb dX0_newCase_72 rfl ?_
            refine lv_iconst (v := (3:Int32)) hx hb dX0_newCase_73 (by decide) ?_
            refine lv_iload hx hb dX0_newCase_74 (lv_at hl 4 rfl) ?_
            refine r_iastD (j := 3) E hw va_up_s (q_lit (k := 3) (n := 4) rfl rfl) (q_clamp (k := 3) rfl) dX0_newCase_76 (fun H locs hw => ?_)
            have hw : WP K (A, B, L, X, (va_up (va_up (va_up (va_up (va_up M q9 (some (.inl (K.2.2.2.2 0, 4, .inl (fun _ => 0))))) q9 (some (.inl (K.2.2.2.2 0, 4, .inl (va_up (fun _ => 0) 0 x1))))) q9 (some (.inl (K.2.2.2.2 0, 4, .inl (va_up (va_up (fun _ => 0) 0 x1) 1 x2))))) q9 (some (.inl (K.2.2.2.2 0, 4, .inl (va_up (va_up (va_up (fun _ => 0) 0 x1) 1 x2) 2 x3))))) q9 (some (.inl (K.2.2.2.2 0, 4, .inl (va_up (va_up (va_up (va_up (fun _ => 0) 0 x1) 1 x2) 2 x3) 3 x4)))))) H locs := hw
            refine lv_astore (lv' := [(5, .ref q9), (0, .ref (K.2.1 0)), (1, .int x1), (2, .int x2), (3, .int x3), (4, .int x4)]) hx hb dX0_newCase_77 hl (by decide) rfl (fun ls hl => ?_)
            refine lv_aload_n hx hb dX0_newCase_79 rfl (lv_at hl 1 rfl) ?_
            refine r_getX (v := .ref (K.2.1 1)) E hw hC 0 (by decide) q238 rfl dX0_newCase_80 ?_
            refine lv_aload_n hx hb dX0_newCase_83 rfl (lv_at hl 1 rfl) ?_
            refine r_getX (v := .ref (K.2.1 1)) E hw hC 0 (by decide) q238 rfl dX0_newCase_84 ?_
            refine r_getS1 (v := .ref (K.2.1 102)) hG E hw hC 2 (by decide) q195 rfl dX0_newCase_87 ?_
            refine lv_iconst (v := (0:Int32)) hx hb dX0_newCase_90 (by decide) ?_
            refine lv_aload hx hb dX0_newCase_91 (lv_at hl 0 rfl) ?_
            obtain ⟨u11, A12, g13, h⟩ := qb2_s h
            refine d_V (As := [.ref (K.2.1 102), .int (0:Int32), .ref q9]) (v0 := some (.int u11)) (w0 := (A12, B, L, X, (va_up (va_up (va_up (va_up (va_up M q9 (some (.inl (K.2.2.2.2 0, 4, .inl (fun _ => 0))))) q9 (some (.inl (K.2.2.2.2 0, 4, .inl (va_up (fun _ => 0) 0 x1))))) q9 (some (.inl (K.2.2.2.2 0, 4, .inl (va_up (va_up (fun _ => 0) 0 x1) 1 x2))))) q9 (some (.inl (K.2.2.2.2 0, 4, .inl (va_up (va_up (va_up (fun _ => 0) 0 x1) 1 x2) 2 x3))))) q9 (some (.inl (K.2.2.2.2 0, 4, .inl (va_up (va_up (va_up (va_up (fun _ => 0) 0 x1) 1 x2) 2 x3) 3 x4))))))) hG E hw hl (m_X1_tells l hG hC (qg_102 hC) (fun k hk => qi_f110 hC hk) (Nat.le_of_ble_eq_true rfl) va_up_s g13) (qS1 hC) rfl (cwV 3 hts (lw_V q286 q287 q288 q138 q289) rfl rfl rfl ⟨rfl, kd_X1_tells⟩ ⟨Nat.le_of_ble_eq_true rfl, Nat.le_of_ble_eq_true rfl⟩) rfl (rest := []) (st1 := [.int u11]) rfl rfl rfl dX0_newCase_93 ⟨Nat.le_of_ble_eq_true rfl, Nat.le_of_ble_eq_true rfl⟩ (fun H locs hw => ?_)
            refine lv_iconst (v := (1:Int32)) hx hb dX0_newCase_96 (by decide) ?_
            refine lv_isub hx hb dX0_newCase_97 ?_
            have h := Option.some.inj h
            obtain ⟨h1, h2⟩ := Prod.mk.inj h
            exact r_iretN E hr rfl h1 h2 (QExt.upd (QExt.upd (QExt.upd (QExt.upd (QExt.add hq10) hq10) hq10) hq10) hq10) hw (Nat.le_of_ble_eq_true rfl) (Nat.le_of_ble_eq_true rfl) dX0_newCase_98
          · have h := qi_t c h
            refine lv_iconst (v := (-1:Int32)) hx hb dX0_newCase_55 (by decide) ?_
            have h := Option.some.inj h
            obtain ⟨h1, h2⟩ := Prod.mk.inj h
            exact r_iretN E hr rfl h1 h2 QExt.rfl' hw (Nat.le_of_ble_eq_true rfl) (Nat.le_of_ble_eq_true rfl) dX0_newCase_56

theorem m_X0_newCase (l : Launch) {K : QK} {G : State → Prop} (hG : QG G) (hC : QCl K) {B : QA} {L : QL} {X : QX} {M : QM} {x1 : Int32} {x2 : Int32} {x3 : Int32} {x4 : Int32} {A : QA} {ro : Int32} {Ao : QA} (h : f_X0_newCase x1 x2 x3 x4 A = some (ro, Ao)) : MC l K G yX0_newCase (ws_ yX0_newCase cX0_newCase 6 (some .int)) 3 123 1 4 [.ref (K.2.1 0), .int x1, .int x2, .int x3, .int x4] (A, B, L, X, M) (QN (some (.int ro)) Ao B L X M) := by
  refine MC.of (by decide) (Nat.le_of_ble_eq_true rfl) (lv := [(0, .ref (K.2.1 0)), (1, .int x1), (2, .int x2), (3, .int x3), (4, .int x4)]) rfl (fun p e s m below meth c ls E hr hl hw => ?_)
  exact w_X0_newCase_0 hG hC E hr _ _ _ _ _  h hw hl

def f_X0_record (x1 : Int32) (x2 : Int32) (x3 : Int32) (A : QA) : Option (Int32 × QA) :=
  if x1 = (-1:Int32) then (
  qlet (qu A 100 4 (0:Int32)) fun A13 =>
  some ((0:Int32), A13)) else (
  qb1 (f_X0_isCase x1 A) fun u1 =>
  if u1 = (0:Int32) then (
  some ((-2:Int32), A)) else (
  qb1 (f_X0_in x2 (0:Int32) (3:Int32)) fun u3 =>
  if u3 = (0:Int32) then (
  some ((-2:Int32), A)) else (
  if (A 100 4) = (8:Int32) then (
  some ((-2:Int32), A)) else (
  if x3 = (0:Int32) then (
  qb2 (f_X1_tells 120 3 (4:Int32) (va_up (va_up (va_up (fun _ => 0) 0 x1) 1 x2) 2 (0:Int32)) A) fun u7 A8 =>
  some (u7, A8)) else (
  qb2 (f_X1_tells 120 3 (4:Int32) (va_up (va_up (va_up (fun _ => 0) 0 x1) 1 x2) 2 (1:Int32)) A) fun u10 A11 =>
  some (u10, A11))))))
set_option maxHeartbeats 4000000 in
theorem w_X0_record_0 {p : Program} {l : Launch} {e : Env} {s : State} {m : MethodId} {args : Array Value} {below : List Frame} {meth : Method} {c : Code} {K : QK} {G : State → Prop} {B : QA} {L : QL} {X : QX} {M : QM} {ro : Int32} {Ao : QA} (hG : QG G) (hC : QCl K) (E : EV K G p s m args meth c cX0_record "VaneCourt" 5) (hr : meth.sig.returnType = (some .int)) : ∀ (x1 : Int32) (x2 : Int32) (x3 : Int32) (A : QA) {H : Heap} {locs : List Loc} {ls : Array Slot}, f_X0_record x1 x2 x3 A = some (ro, Ao) → WP K (A, B, L, X, M) H locs → lv_has ls 5 [(0, .ref (K.2.1 0)), (1, .int x1), (2, .int x2), (3, .int x3)] → W p l e (qrm 3 123 1 3) s m args below meth c H locs 0 0 (MQ below (QE K (QN (some (.int ro)) Ao B L X M)) args s 1 3 (qA K)) (F0 m 0 ls []) := by
  have hx := E.1
  have hb := E.2.1
  have hown := E.2.2.1
  have hts := E.2.2.2.2.1
  intro x1 x2 x3 A H locs ls  h hw hl
  rw [f_X0_record] at h
  refine lv_iload_n hx hb dX0_record_0 rfl (lv_at hl 1 rfl) ?_
  refine lv_iconst (v := (-1:Int32)) hx hb dX0_record_1 (by decide) ?_
  refine lv_icmp_ne (tgt := 17) hx hb dX0_record_2 (by decide) (fun c => ?_) (fun c => ?_)
  · have h := qi_f c h
    refine lv_aload_n hx hb dX0_record_17 rfl (lv_at hl 0 rfl) ?_
    refine lv_iload_n hx hb dX0_record_18 rfl (lv_at hl 1 rfl) ?_
    obtain ⟨u1, g2, h⟩ := qb1_s h
    refine d_V (As := [.int x1]) (v0 := some (.int u1)) (w0 := (A, B, L, X, M)) hG E hw hl (m_X0_isCase l hG hC  g2) (qX0 hC) rfl (cwV 1 hts (lw_V q1077 q1079 qs38 q137 q1080) rfl rfl rfl ⟨rfl, kd_X0_isCase⟩ ⟨Nat.le_of_ble_eq_true rfl, Nat.le_of_ble_eq_true rfl⟩) rfl (rest := []) (st1 := [.int u1]) rfl rfl rfl dX0_record_19 ⟨Nat.le_of_ble_eq_true rfl, Nat.le_of_ble_eq_true rfl⟩ (fun H locs hw => ?_)
    refine lv_if_eq (tgt := 48) hx hb dX0_record_22 (by decide) (fun c => ?_) (fun c => ?_)
    · have h := qi_t c h
      refine lv_bipush (v := (-2:Int32)) hx hb dX0_record_48 (by decide) ?_
      have h := Option.some.inj h
      obtain ⟨h1, h2⟩ := Prod.mk.inj h
      exact r_iretN E hr rfl h1 h2 QExt.rfl' hw (Nat.le_of_ble_eq_true rfl) (Nat.le_of_ble_eq_true rfl) dX0_record_50
    · have h := qi_f c h
      refine lv_iload_n hx hb dX0_record_25 rfl (lv_at hl 2 rfl) ?_
      refine lv_iconst (v := (0:Int32)) hx hb dX0_record_26 (by decide) ?_
      refine lv_iconst (v := (3:Int32)) hx hb dX0_record_27 (by decide) ?_
      obtain ⟨u3, g4, h⟩ := qb1_s h
      refine d_S (As := [.int x2, .int (0:Int32), .int (3:Int32)]) (v0 := some (.int u3)) (w0 := (A, B, L, X, M)) hG E hw hl (m_X0_in l hG hC  g4) (va_cwS 3 hts (lw_S q283 q284 q137 q285) rfl rfl rfl kd_X0_in ⟨Nat.le_of_ble_eq_true rfl, Nat.le_of_ble_eq_true rfl⟩) rfl (rest := []) (st1 := [.int u3]) rfl rfl rfl dX0_record_28 ⟨Nat.le_of_ble_eq_true rfl, Nat.le_of_ble_eq_true rfl⟩ (fun H locs hw => ?_)
      refine lv_if_eq (tgt := 48) hx hb dX0_record_31 (by decide) (fun c => ?_) (fun c => ?_)
      · have h := qi_t c h
        refine lv_bipush (v := (-2:Int32)) hx hb dX0_record_48 (by decide) ?_
        have h := Option.some.inj h
        obtain ⟨h1, h2⟩ := Prod.mk.inj h
        exact r_iretN E hr rfl h1 h2 QExt.rfl' hw (Nat.le_of_ble_eq_true rfl) (Nat.le_of_ble_eq_true rfl) dX0_record_50
      · have h := qi_f c h
        refine lv_aload_n hx hb dX0_record_34 rfl (lv_at hl 0 rfl) ?_
        refine r_getX (v := .ref (K.2.1 1)) E hw hC 0 (by decide) q238 rfl dX0_record_35 ?_
        refine r_getS1 (v := .ref (K.2.1 100)) hG E hw hC 0 (by decide) q191 rfl dX0_record_38 ?_
        refine lv_iconst (v := (4:Int32)) hx hb dX0_record_41 (by decide) ?_
        refine r_iald (j := 4) E hw (qi_100 hC).at (q_lit (k := 4) (n := 7) rfl rfl) (q_clamp (k := 4) rfl) dX0_record_42 ?_
        refine lv_bipush (v := (8:Int32)) hx hb dX0_record_43 (by decide) ?_
        refine lv_icmp_ne (tgt := 51) hx hb dX0_record_45 (by decide) (fun c => ?_) (fun c => ?_)
        · have h := qi_f c h
          refine lv_iconst (v := (3:Int32)) hx hb dX0_record_51 (by decide) ?_
          refine r_newI (N := 3) E hw (q_clamp (k := 3) rfl) (by decide) (by decide) (Nat.le_of_ble_eq_true rfl) (Nat.le_of_ble_eq_true rfl) dX0_record_52 (fun q5 H hw hq6 _ => ?_)
          have hw : WP K (A, B, L, X, (va_up M q5 (some (.inl (K.2.2.2.2 0, 3, .inl (fun _ => 0)))))) H _ := hw
          refine lv_dup hx hb dX0_record_54 rfl ?_
          refine lv_iconst (v := (0:Int32)) hx hb dX0_record_55 (by decide) ?_
          refine lv_iload_n hx hb dX0_record_56 rfl (lv_at hl 1 rfl) ?_
          refine r_iastD (j := 0) E hw va_up_s (q_lit (k := 0) (n := 3) rfl rfl) (q_clamp (k := 0) rfl) dX0_record_57 (fun H locs hw => ?_)
          have hw : WP K (A, B, L, X, (va_up (va_up M q5 (some (.inl (K.2.2.2.2 0, 3, .inl (fun _ => 0))))) q5 (some (.inl (K.2.2.2.2 0, 3, .inl (va_up (fun _ => 0) 0 x1)))))) H locs := hw
          refine lv_dup hx hb dX0_record_58 rfl ?_
          refine lv_iconst (v := (1:Int32)) hx hb dX0_record_59 (by decide) ?_
          refine lv_iload_n hx hb dX0_record_60 rfl (lv_at hl 2 rfl) ?_
          refine r_iastD (j := 1) E hw va_up_s (q_lit (k := 1) (n := 3) rfl rfl) (q_clamp (k := 1) rfl) dX0_record_61 (fun H locs hw => ?_)
          have hw : WP K (A, B, L, X, (va_up (va_up (va_up M q5 (some (.inl (K.2.2.2.2 0, 3, .inl (fun _ => 0))))) q5 (some (.inl (K.2.2.2.2 0, 3, .inl (va_up (fun _ => 0) 0 x1))))) q5 (some (.inl (K.2.2.2.2 0, 3, .inl (va_up (va_up (fun _ => 0) 0 x1) 1 x2)))))) H locs := hw
          refine lv_dup hx hb dX0_record_62 rfl ?_
          refine lv_iconst (v := (2:Int32)) hx hb dX0_record_63 (by decide) ?_
          refine lv_iload_n hx hb dX0_record_64 rfl (lv_at hl 3 rfl) ?_
          refine lv_if_eq (tgt := 72) hx hb dX0_record_65 (by decide) (fun c => ?_) (fun c => ?_)
          · have h := qi_t c h
            refine lv_iconst (v := (0:Int32)) hx hb dX0_record_72 (by decide) ?_
            refine r_iastD (j := 2) E hw va_up_s (q_lit (k := 2) (n := 3) rfl rfl) (q_clamp (k := 2) rfl) dX0_record_73 (fun H locs hw => ?_)
            have hw : WP K (A, B, L, X, (va_up (va_up (va_up (va_up M q5 (some (.inl (K.2.2.2.2 0, 3, .inl (fun _ => 0))))) q5 (some (.inl (K.2.2.2.2 0, 3, .inl (va_up (fun _ => 0) 0 x1))))) q5 (some (.inl (K.2.2.2.2 0, 3, .inl (va_up (va_up (fun _ => 0) 0 x1) 1 x2))))) q5 (some (.inl (K.2.2.2.2 0, 3, .inl (va_up (va_up (va_up (fun _ => 0) 0 x1) 1 x2) 2 (0:Int32))))))) H locs := hw
            refine lv_astore (lv' := [(4, .ref q5), (0, .ref (K.2.1 0)), (1, .int x1), (2, .int x2), (3, .int x3)]) hx hb dX0_record_74 hl (by decide) rfl (fun ls hl => ?_)
            refine lv_aload_n hx hb dX0_record_76 rfl (lv_at hl 1 rfl) ?_
            refine r_getX (v := .ref (K.2.1 1)) E hw hC 0 (by decide) q238 rfl dX0_record_77 ?_
            refine lv_aload_n hx hb dX0_record_80 rfl (lv_at hl 1 rfl) ?_
            refine r_getX (v := .ref (K.2.1 1)) E hw hC 0 (by decide) q238 rfl dX0_record_81 ?_
            refine r_getS1 (v := .ref (K.2.1 103)) hG E hw hC 3 (by decide) q197 rfl dX0_record_84 ?_
            refine lv_iconst (v := (4:Int32)) hx hb dX0_record_87 (by decide) ?_
            refine lv_aload hx hb dX0_record_88 (lv_at hl 0 rfl) ?_
            obtain ⟨u7, A8, g9, h⟩ := qb2_s h
            refine d_V (As := [.ref (K.2.1 103), .int (4:Int32), .ref q5]) (v0 := some (.int u7)) (w0 := (A8, B, L, X, (va_up (va_up (va_up (va_up M q5 (some (.inl (K.2.2.2.2 0, 3, .inl (fun _ => 0))))) q5 (some (.inl (K.2.2.2.2 0, 3, .inl (va_up (fun _ => 0) 0 x1))))) q5 (some (.inl (K.2.2.2.2 0, 3, .inl (va_up (va_up (fun _ => 0) 0 x1) 1 x2))))) q5 (some (.inl (K.2.2.2.2 0, 3, .inl (va_up (va_up (va_up (fun _ => 0) 0 x1) 1 x2) 2 (0:Int32)))))))) hG E hw hl (m_X1_tells l hG hC (qg_103 hC) (fun k hk => qi_f120 hC hk) (Nat.le_of_ble_eq_true rfl) va_up_s g9) (qS1 hC) rfl (cwV 3 hts (lw_V q286 q287 q288 q138 q289) rfl rfl rfl ⟨rfl, kd_X1_tells⟩ ⟨Nat.le_of_ble_eq_true rfl, Nat.le_of_ble_eq_true rfl⟩) rfl (rest := []) (st1 := [.int u7]) rfl rfl rfl dX0_record_90 ⟨Nat.le_of_ble_eq_true rfl, Nat.le_of_ble_eq_true rfl⟩ (fun H locs hw => ?_)
            have h := Option.some.inj h
            obtain ⟨h1, h2⟩ := Prod.mk.inj h
            exact r_iretN E hr rfl h1 h2 (QExt.upd (QExt.upd (QExt.upd (QExt.add hq6) hq6) hq6) hq6) hw (Nat.le_of_ble_eq_true rfl) (Nat.le_of_ble_eq_true rfl) dX0_record_93
          · have h := qi_f c h
            refine lv_iconst (v := (1:Int32)) hx hb dX0_record_68 (by decide) ?_
            refine lv_goto (tgt := 73) hx hb dX0_record_69 (by decide) ?_
            refine r_iastD (j := 2) E hw va_up_s (q_lit (k := 2) (n := 3) rfl rfl) (q_clamp (k := 2) rfl) dX0_record_73 (fun H locs hw => ?_)
            have hw : WP K (A, B, L, X, (va_up (va_up (va_up (va_up M q5 (some (.inl (K.2.2.2.2 0, 3, .inl (fun _ => 0))))) q5 (some (.inl (K.2.2.2.2 0, 3, .inl (va_up (fun _ => 0) 0 x1))))) q5 (some (.inl (K.2.2.2.2 0, 3, .inl (va_up (va_up (fun _ => 0) 0 x1) 1 x2))))) q5 (some (.inl (K.2.2.2.2 0, 3, .inl (va_up (va_up (va_up (fun _ => 0) 0 x1) 1 x2) 2 (1:Int32))))))) H locs := hw
            refine lv_astore (lv' := [(4, .ref q5), (0, .ref (K.2.1 0)), (1, .int x1), (2, .int x2), (3, .int x3)]) hx hb dX0_record_74 hl (by decide) rfl (fun ls hl => ?_)
            refine lv_aload_n hx hb dX0_record_76 rfl (lv_at hl 1 rfl) ?_
            refine r_getX (v := .ref (K.2.1 1)) E hw hC 0 (by decide) q238 rfl dX0_record_77 ?_
            refine lv_aload_n hx hb dX0_record_80 rfl (lv_at hl 1 rfl) ?_
            refine r_getX (v := .ref (K.2.1 1)) E hw hC 0 (by decide) q238 rfl dX0_record_81 ?_
            refine r_getS1 (v := .ref (K.2.1 103)) hG E hw hC 3 (by decide) q197 rfl dX0_record_84 ?_
            refine lv_iconst (v := (4:Int32)) hx hb dX0_record_87 (by decide) ?_
            refine lv_aload hx hb dX0_record_88 (lv_at hl 0 rfl) ?_
            obtain ⟨u10, A11, g12, h⟩ := qb2_s h
            refine d_V (As := [.ref (K.2.1 103), .int (4:Int32), .ref q5]) (v0 := some (.int u10)) (w0 := (A11, B, L, X, (va_up (va_up (va_up (va_up M q5 (some (.inl (K.2.2.2.2 0, 3, .inl (fun _ => 0))))) q5 (some (.inl (K.2.2.2.2 0, 3, .inl (va_up (fun _ => 0) 0 x1))))) q5 (some (.inl (K.2.2.2.2 0, 3, .inl (va_up (va_up (fun _ => 0) 0 x1) 1 x2))))) q5 (some (.inl (K.2.2.2.2 0, 3, .inl (va_up (va_up (va_up (fun _ => 0) 0 x1) 1 x2) 2 (1:Int32)))))))) hG E hw hl (m_X1_tells l hG hC (qg_103 hC) (fun k hk => qi_f120 hC hk) (Nat.le_of_ble_eq_true rfl) va_up_s g12) (qS1 hC) rfl (cwV 3 hts (lw_V q286 q287 q288 q138 q289) rfl rfl rfl ⟨rfl, kd_X1_tells⟩ ⟨Nat.le_of_ble_eq_true rfl, Nat.le_of_ble_eq_true rfl⟩) rfl (rest := []) (st1 := [.int u10]) rfl rfl rfl dX0_record_90 ⟨Nat.le_of_ble_eq_true rfl, Nat.le_of_ble_eq_true rfl⟩ (fun H locs hw => ?_)
            have h := Option.some.inj h
            obtain ⟨h1, h2⟩ := Prod.mk.inj h
            exact r_iretN E hr rfl h1 h2 (QExt.upd (QExt.upd (QExt.upd (QExt.add hq6) hq6) hq6) hq6) hw (Nat.le_of_ble_eq_true rfl) (Nat.le_of_ble_eq_true rfl) dX0_record_93
        · have h := qi_t c h
          refine lv_bipush (v := (-2:Int32)) hx hb dX0_record_48 (by decide) ?_
          have h := Option.some.inj h
          obtain ⟨h1, h2⟩ := Prod.mk.inj h
          exact r_iretN E hr rfl h1 h2 QExt.rfl' hw (Nat.le_of_ble_eq_true rfl) (Nat.le_of_ble_eq_true rfl) dX0_record_50
  · have h := qi_t c h
    refine lv_aload_n hx hb dX0_record_5 rfl (lv_at hl 0 rfl) ?_
    refine r_getX (v := .ref (K.2.1 1)) E hw hC 0 (by decide) q238 rfl dX0_record_6 ?_
    refine r_getS1 (v := .ref (K.2.1 100)) hG E hw hC 0 (by decide) q191 rfl dX0_record_9 ?_
    refine lv_iconst (v := (4:Int32)) hx hb dX0_record_12 (by decide) ?_
    refine lv_iconst (v := (0:Int32)) hx hb dX0_record_13 (by decide) ?_
    obtain ⟨A13, e14, h⟩ := qlet_s h
    refine r_iastA (j := 4) E hw (qi_100 hC) (q_lit (k := 4) (n := 7) rfl rfl) (q_clamp (k := 4) rfl) dX0_record_14 (fun H locs hw => ?_)
    rw [← e14] at hw
    refine lv_iconst (v := (0:Int32)) hx hb dX0_record_15 (by decide) ?_
    have h := Option.some.inj h
    obtain ⟨h1, h2⟩ := Prod.mk.inj h
    exact r_iretN E hr rfl h1 h2 QExt.rfl' hw (Nat.le_of_ble_eq_true rfl) (Nat.le_of_ble_eq_true rfl) dX0_record_16

theorem m_X0_record (l : Launch) {K : QK} {G : State → Prop} (hG : QG G) (hC : QCl K) {B : QA} {L : QL} {X : QX} {M : QM} {x1 : Int32} {x2 : Int32} {x3 : Int32} {A : QA} {ro : Int32} {Ao : QA} (h : f_X0_record x1 x2 x3 A = some (ro, Ao)) : MC l K G yX0_record (ws_ yX0_record cX0_record 5 (some .int)) 3 123 1 3 [.ref (K.2.1 0), .int x1, .int x2, .int x3] (A, B, L, X, M) (QN (some (.int ro)) Ao B L X M) := by
  refine MC.of (by decide) (Nat.le_of_ble_eq_true rfl) (lv := [(0, .ref (K.2.1 0)), (1, .int x1), (2, .int x2), (3, .int x3)]) rfl (fun p e s m below meth c ls E hr hl hw => ?_)
  exact w_X0_record_0 hG hC E hr _ _ _ _  h hw hl

def f_X0_learn (x1 : Int32) (x2 : Int32) (A : QA) : Option (Int32 × QA) :=
  if x1 = (-1:Int32) then (
  qlet (qu A 100 5 (0:Int32)) fun A11 =>
  some ((0:Int32), A11)) else (
  qb1 (f_X0_isCase x1 A) fun u1 =>
  if u1 = (0:Int32) then (
  some ((-2:Int32), A)) else (
  if (A 100 5) = (8:Int32) then (
  some ((-2:Int32), A)) else (
  if x2 = (0:Int32) then (
  qb2 (f_X1_tells 130 2 (5:Int32) (va_up (va_up (fun _ => 0) 0 x1) 1 (0:Int32)) A) fun u5 A6 =>
  some (u5, A6)) else (
  qb2 (f_X1_tells 130 2 (5:Int32) (va_up (va_up (fun _ => 0) 0 x1) 1 (1:Int32)) A) fun u8 A9 =>
  some (u8, A9)))))
set_option maxHeartbeats 4000000 in
theorem w_X0_learn_0 {p : Program} {l : Launch} {e : Env} {s : State} {m : MethodId} {args : Array Value} {below : List Frame} {meth : Method} {c : Code} {K : QK} {G : State → Prop} {B : QA} {L : QL} {X : QX} {M : QM} {ro : Int32} {Ao : QA} (hG : QG G) (hC : QCl K) (E : EV K G p s m args meth c cX0_learn "VaneCourt" 4) (hr : meth.sig.returnType = (some .int)) : ∀ (x1 : Int32) (x2 : Int32) (A : QA) {H : Heap} {locs : List Loc} {ls : Array Slot}, f_X0_learn x1 x2 A = some (ro, Ao) → WP K (A, B, L, X, M) H locs → lv_has ls 4 [(0, .ref (K.2.1 0)), (1, .int x1), (2, .int x2)] → W p l e (qrm 3 123 1 2) s m args below meth c H locs 0 0 (MQ below (QE K (QN (some (.int ro)) Ao B L X M)) args s 1 2 (qA K)) (F0 m 0 ls []) := by
  have hx := E.1
  have hb := E.2.1
  have hown := E.2.2.1
  have hts := E.2.2.2.2.1
  intro x1 x2 A H locs ls  h hw hl
  rw [f_X0_learn] at h
  refine lv_iload_n hx hb dX0_learn_0 rfl (lv_at hl 1 rfl) ?_
  refine lv_iconst (v := (-1:Int32)) hx hb dX0_learn_1 (by decide) ?_
  refine lv_icmp_ne (tgt := 17) hx hb dX0_learn_2 (by decide) (fun c => ?_) (fun c => ?_)
  · have h := qi_f c h
    refine lv_aload_n hx hb dX0_learn_17 rfl (lv_at hl 0 rfl) ?_
    refine lv_iload_n hx hb dX0_learn_18 rfl (lv_at hl 1 rfl) ?_
    obtain ⟨u1, g2, h⟩ := qb1_s h
    refine d_V (As := [.int x1]) (v0 := some (.int u1)) (w0 := (A, B, L, X, M)) hG E hw hl (m_X0_isCase l hG hC  g2) (qX0 hC) rfl (cwV 1 hts (lw_V q1077 q1079 qs38 q137 q1080) rfl rfl rfl ⟨rfl, kd_X0_isCase⟩ ⟨Nat.le_of_ble_eq_true rfl, Nat.le_of_ble_eq_true rfl⟩) rfl (rest := []) (st1 := [.int u1]) rfl rfl rfl dX0_learn_19 ⟨Nat.le_of_ble_eq_true rfl, Nat.le_of_ble_eq_true rfl⟩ (fun H locs hw => ?_)
    refine lv_if_eq (tgt := 39) hx hb dX0_learn_22 (by decide) (fun c => ?_) (fun c => ?_)
    · have h := qi_t c h
      refine lv_bipush (v := (-2:Int32)) hx hb dX0_learn_39 (by decide) ?_
      have h := Option.some.inj h
      obtain ⟨h1, h2⟩ := Prod.mk.inj h
      exact r_iretN E hr rfl h1 h2 QExt.rfl' hw (Nat.le_of_ble_eq_true rfl) (Nat.le_of_ble_eq_true rfl) dX0_learn_41
    · have h := qi_f c h
      refine lv_aload_n hx hb dX0_learn_25 rfl (lv_at hl 0 rfl) ?_
      refine r_getX (v := .ref (K.2.1 1)) E hw hC 0 (by decide) q238 rfl dX0_learn_26 ?_
      refine r_getS1 (v := .ref (K.2.1 100)) hG E hw hC 0 (by decide) q191 rfl dX0_learn_29 ?_
      refine lv_iconst (v := (5:Int32)) hx hb dX0_learn_32 (by decide) ?_
      refine r_iald (j := 5) E hw (qi_100 hC).at (q_lit (k := 5) (n := 7) rfl rfl) (q_clamp (k := 5) rfl) dX0_learn_33 ?_
      refine lv_bipush (v := (8:Int32)) hx hb dX0_learn_34 (by decide) ?_
      refine lv_icmp_ne (tgt := 42) hx hb dX0_learn_36 (by decide) (fun c => ?_) (fun c => ?_)
      · have h := qi_f c h
        refine lv_iconst (v := (2:Int32)) hx hb dX0_learn_42 (by decide) ?_
        refine r_newI (N := 2) E hw (q_clamp (k := 2) rfl) (by decide) (by decide) (Nat.le_of_ble_eq_true rfl) (Nat.le_of_ble_eq_true rfl) dX0_learn_43 (fun q3 H hw hq4 _ => ?_)
        have hw : WP K (A, B, L, X, (va_up M q3 (some (.inl (K.2.2.2.2 0, 2, .inl (fun _ => 0)))))) H _ := hw
        refine lv_dup hx hb dX0_learn_45 rfl ?_
        refine lv_iconst (v := (0:Int32)) hx hb dX0_learn_46 (by decide) ?_
        refine lv_iload_n hx hb dX0_learn_47 rfl (lv_at hl 1 rfl) ?_
        refine r_iastD (j := 0) E hw va_up_s (q_lit (k := 0) (n := 2) rfl rfl) (q_clamp (k := 0) rfl) dX0_learn_48 (fun H locs hw => ?_)
        have hw : WP K (A, B, L, X, (va_up (va_up M q3 (some (.inl (K.2.2.2.2 0, 2, .inl (fun _ => 0))))) q3 (some (.inl (K.2.2.2.2 0, 2, .inl (va_up (fun _ => 0) 0 x1)))))) H locs := hw
        refine lv_dup hx hb dX0_learn_49 rfl ?_
        refine lv_iconst (v := (1:Int32)) hx hb dX0_learn_50 (by decide) ?_
        refine lv_iload_n hx hb dX0_learn_51 rfl (lv_at hl 2 rfl) ?_
        refine lv_if_eq (tgt := 59) hx hb dX0_learn_52 (by decide) (fun c => ?_) (fun c => ?_)
        · have h := qi_t c h
          refine lv_iconst (v := (0:Int32)) hx hb dX0_learn_59 (by decide) ?_
          refine r_iastD (j := 1) E hw va_up_s (q_lit (k := 1) (n := 2) rfl rfl) (q_clamp (k := 1) rfl) dX0_learn_60 (fun H locs hw => ?_)
          have hw : WP K (A, B, L, X, (va_up (va_up (va_up M q3 (some (.inl (K.2.2.2.2 0, 2, .inl (fun _ => 0))))) q3 (some (.inl (K.2.2.2.2 0, 2, .inl (va_up (fun _ => 0) 0 x1))))) q3 (some (.inl (K.2.2.2.2 0, 2, .inl (va_up (va_up (fun _ => 0) 0 x1) 1 (0:Int32))))))) H locs := hw
          refine lv_astore_n (lv' := [(3, .ref q3), (0, .ref (K.2.1 0)), (1, .int x1), (2, .int x2)]) hx hb dX0_learn_61 rfl hl (by decide) rfl (fun ls hl => ?_)
          refine lv_aload_n hx hb dX0_learn_62 rfl (lv_at hl 1 rfl) ?_
          refine r_getX (v := .ref (K.2.1 1)) E hw hC 0 (by decide) q238 rfl dX0_learn_63 ?_
          refine lv_aload_n hx hb dX0_learn_66 rfl (lv_at hl 1 rfl) ?_
          refine r_getX (v := .ref (K.2.1 1)) E hw hC 0 (by decide) q238 rfl dX0_learn_67 ?_
          refine r_getS1 (v := .ref (K.2.1 104)) hG E hw hC 4 (by decide) q199 rfl dX0_learn_70 ?_
          refine lv_iconst (v := (5:Int32)) hx hb dX0_learn_73 (by decide) ?_
          refine lv_aload_n hx hb dX0_learn_74 rfl (lv_at hl 0 rfl) ?_
          obtain ⟨u5, A6, g7, h⟩ := qb2_s h
          refine d_V (As := [.ref (K.2.1 104), .int (5:Int32), .ref q3]) (v0 := some (.int u5)) (w0 := (A6, B, L, X, (va_up (va_up (va_up M q3 (some (.inl (K.2.2.2.2 0, 2, .inl (fun _ => 0))))) q3 (some (.inl (K.2.2.2.2 0, 2, .inl (va_up (fun _ => 0) 0 x1))))) q3 (some (.inl (K.2.2.2.2 0, 2, .inl (va_up (va_up (fun _ => 0) 0 x1) 1 (0:Int32)))))))) hG E hw hl (m_X1_tells l hG hC (qg_104 hC) (fun k hk => qi_f130 hC hk) (Nat.le_of_ble_eq_true rfl) va_up_s g7) (qS1 hC) rfl (cwV 3 hts (lw_V q286 q287 q288 q138 q289) rfl rfl rfl ⟨rfl, kd_X1_tells⟩ ⟨Nat.le_of_ble_eq_true rfl, Nat.le_of_ble_eq_true rfl⟩) rfl (rest := []) (st1 := [.int u5]) rfl rfl rfl dX0_learn_75 ⟨Nat.le_of_ble_eq_true rfl, Nat.le_of_ble_eq_true rfl⟩ (fun H locs hw => ?_)
          have h := Option.some.inj h
          obtain ⟨h1, h2⟩ := Prod.mk.inj h
          exact r_iretN E hr rfl h1 h2 (QExt.upd (QExt.upd (QExt.add hq4) hq4) hq4) hw (Nat.le_of_ble_eq_true rfl) (Nat.le_of_ble_eq_true rfl) dX0_learn_78
        · have h := qi_f c h
          refine lv_iconst (v := (1:Int32)) hx hb dX0_learn_55 (by decide) ?_
          refine lv_goto (tgt := 60) hx hb dX0_learn_56 (by decide) ?_
          refine r_iastD (j := 1) E hw va_up_s (q_lit (k := 1) (n := 2) rfl rfl) (q_clamp (k := 1) rfl) dX0_learn_60 (fun H locs hw => ?_)
          have hw : WP K (A, B, L, X, (va_up (va_up (va_up M q3 (some (.inl (K.2.2.2.2 0, 2, .inl (fun _ => 0))))) q3 (some (.inl (K.2.2.2.2 0, 2, .inl (va_up (fun _ => 0) 0 x1))))) q3 (some (.inl (K.2.2.2.2 0, 2, .inl (va_up (va_up (fun _ => 0) 0 x1) 1 (1:Int32))))))) H locs := hw
          refine lv_astore_n (lv' := [(3, .ref q3), (0, .ref (K.2.1 0)), (1, .int x1), (2, .int x2)]) hx hb dX0_learn_61 rfl hl (by decide) rfl (fun ls hl => ?_)
          refine lv_aload_n hx hb dX0_learn_62 rfl (lv_at hl 1 rfl) ?_
          refine r_getX (v := .ref (K.2.1 1)) E hw hC 0 (by decide) q238 rfl dX0_learn_63 ?_
          refine lv_aload_n hx hb dX0_learn_66 rfl (lv_at hl 1 rfl) ?_
          refine r_getX (v := .ref (K.2.1 1)) E hw hC 0 (by decide) q238 rfl dX0_learn_67 ?_
          refine r_getS1 (v := .ref (K.2.1 104)) hG E hw hC 4 (by decide) q199 rfl dX0_learn_70 ?_
          refine lv_iconst (v := (5:Int32)) hx hb dX0_learn_73 (by decide) ?_
          refine lv_aload_n hx hb dX0_learn_74 rfl (lv_at hl 0 rfl) ?_
          obtain ⟨u8, A9, g10, h⟩ := qb2_s h
          refine d_V (As := [.ref (K.2.1 104), .int (5:Int32), .ref q3]) (v0 := some (.int u8)) (w0 := (A9, B, L, X, (va_up (va_up (va_up M q3 (some (.inl (K.2.2.2.2 0, 2, .inl (fun _ => 0))))) q3 (some (.inl (K.2.2.2.2 0, 2, .inl (va_up (fun _ => 0) 0 x1))))) q3 (some (.inl (K.2.2.2.2 0, 2, .inl (va_up (va_up (fun _ => 0) 0 x1) 1 (1:Int32)))))))) hG E hw hl (m_X1_tells l hG hC (qg_104 hC) (fun k hk => qi_f130 hC hk) (Nat.le_of_ble_eq_true rfl) va_up_s g10) (qS1 hC) rfl (cwV 3 hts (lw_V q286 q287 q288 q138 q289) rfl rfl rfl ⟨rfl, kd_X1_tells⟩ ⟨Nat.le_of_ble_eq_true rfl, Nat.le_of_ble_eq_true rfl⟩) rfl (rest := []) (st1 := [.int u8]) rfl rfl rfl dX0_learn_75 ⟨Nat.le_of_ble_eq_true rfl, Nat.le_of_ble_eq_true rfl⟩ (fun H locs hw => ?_)
          have h := Option.some.inj h
          obtain ⟨h1, h2⟩ := Prod.mk.inj h
          exact r_iretN E hr rfl h1 h2 (QExt.upd (QExt.upd (QExt.add hq4) hq4) hq4) hw (Nat.le_of_ble_eq_true rfl) (Nat.le_of_ble_eq_true rfl) dX0_learn_78
      · have h := qi_t c h
        refine lv_bipush (v := (-2:Int32)) hx hb dX0_learn_39 (by decide) ?_
        have h := Option.some.inj h
        obtain ⟨h1, h2⟩ := Prod.mk.inj h
        exact r_iretN E hr rfl h1 h2 QExt.rfl' hw (Nat.le_of_ble_eq_true rfl) (Nat.le_of_ble_eq_true rfl) dX0_learn_41
  · have h := qi_t c h
    refine lv_aload_n hx hb dX0_learn_5 rfl (lv_at hl 0 rfl) ?_
    refine r_getX (v := .ref (K.2.1 1)) E hw hC 0 (by decide) q238 rfl dX0_learn_6 ?_
    refine r_getS1 (v := .ref (K.2.1 100)) hG E hw hC 0 (by decide) q191 rfl dX0_learn_9 ?_
    refine lv_iconst (v := (5:Int32)) hx hb dX0_learn_12 (by decide) ?_
    refine lv_iconst (v := (0:Int32)) hx hb dX0_learn_13 (by decide) ?_
    obtain ⟨A11, e12, h⟩ := qlet_s h
    refine r_iastA (j := 5) E hw (qi_100 hC) (q_lit (k := 5) (n := 7) rfl rfl) (q_clamp (k := 5) rfl) dX0_learn_14 (fun H locs hw => ?_)
    rw [← e12] at hw
    refine lv_iconst (v := (0:Int32)) hx hb dX0_learn_15 (by decide) ?_
    have h := Option.some.inj h
    obtain ⟨h1, h2⟩ := Prod.mk.inj h
    exact r_iretN E hr rfl h1 h2 QExt.rfl' hw (Nat.le_of_ble_eq_true rfl) (Nat.le_of_ble_eq_true rfl) dX0_learn_16

theorem m_X0_learn (l : Launch) {K : QK} {G : State → Prop} (hG : QG G) (hC : QCl K) {B : QA} {L : QL} {X : QX} {M : QM} {x1 : Int32} {x2 : Int32} {A : QA} {ro : Int32} {Ao : QA} (h : f_X0_learn x1 x2 A = some (ro, Ao)) : MC l K G yX0_learn (ws_ yX0_learn cX0_learn 4 (some .int)) 3 123 1 2 [.ref (K.2.1 0), .int x1, .int x2] (A, B, L, X, M) (QN (some (.int ro)) Ao B L X M) := by
  refine MC.of (by decide) (Nat.le_of_ble_eq_true rfl) (lv := [(0, .ref (K.2.1 0)), (1, .int x1), (2, .int x2)]) rfl (fun p e s m below meth c ls E hr hl hw => ?_)
  exact w_X0_learn_0 hG hC E hr _ _ _  h hw hl

def f_X0_counsel (x1 : Int32) (x2 : Int32) (A : QA) : Option (Int32 × QA) :=
  if x1 = (-1:Int32) then (
  qlet (qu A 100 6 (0:Int32)) fun A10 =>
  some ((0:Int32), A10)) else (
  qb1 (f_X0_in x1 (1:Int32) (999:Int32)) fun u1 =>
  if u1 = (0:Int32) then (
  some ((-2:Int32), A)) else (
  qb1 (f_X0_in x2 (0:Int32) (99:Int32)) fun u3 =>
  if u3 = (0:Int32) then (
  some ((-2:Int32), A)) else (
  if (A 100 6) = (8:Int32) then (
  some ((-2:Int32), A)) else (
  qb2 (f_X1_tells 140 2 (6:Int32) (va_up (va_up (fun _ => 0) 0 x1) 1 x2) A) fun u7 A8 =>
  some (u7, A8)))))
set_option maxHeartbeats 4000000 in
theorem w_X0_counsel_0 {p : Program} {l : Launch} {e : Env} {s : State} {m : MethodId} {args : Array Value} {below : List Frame} {meth : Method} {c : Code} {K : QK} {G : State → Prop} {B : QA} {L : QL} {X : QX} {M : QM} {ro : Int32} {Ao : QA} (hG : QG G) (hC : QCl K) (E : EV K G p s m args meth c cX0_counsel "VaneCourt" 4) (hr : meth.sig.returnType = (some .int)) : ∀ (x1 : Int32) (x2 : Int32) (A : QA) {H : Heap} {locs : List Loc} {ls : Array Slot}, f_X0_counsel x1 x2 A = some (ro, Ao) → WP K (A, B, L, X, M) H locs → lv_has ls 4 [(0, .ref (K.2.1 0)), (1, .int x1), (2, .int x2)] → W p l e (qrm 3 123 1 2) s m args below meth c H locs 0 0 (MQ below (QE K (QN (some (.int ro)) Ao B L X M)) args s 1 2 (qA K)) (F0 m 0 ls []) := by
  have hx := E.1
  have hb := E.2.1
  have hown := E.2.2.1
  have hts := E.2.2.2.2.1
  intro x1 x2 A H locs ls  h hw hl
  rw [f_X0_counsel] at h
  refine lv_iload_n hx hb dX0_counsel_0 rfl (lv_at hl 1 rfl) ?_
  refine lv_iconst (v := (-1:Int32)) hx hb dX0_counsel_1 (by decide) ?_
  refine lv_icmp_ne (tgt := 18) hx hb dX0_counsel_2 (by decide) (fun c => ?_) (fun c => ?_)
  · have h := qi_f c h
    refine lv_iload_n hx hb dX0_counsel_18 rfl (lv_at hl 1 rfl) ?_
    refine lv_iconst (v := (1:Int32)) hx hb dX0_counsel_19 (by decide) ?_
    refine lv_sipush (v := (999:Int32)) hx hb dX0_counsel_20 (by decide) ?_
    obtain ⟨u1, g2, h⟩ := qb1_s h
    refine d_S (As := [.int x1, .int (1:Int32), .int (999:Int32)]) (v0 := some (.int u1)) (w0 := (A, B, L, X, M)) hG E hw hl (m_X0_in l hG hC  g2) (va_cwS 3 hts (lw_S q283 q284 q137 q285) rfl rfl rfl kd_X0_in ⟨Nat.le_of_ble_eq_true rfl, Nat.le_of_ble_eq_true rfl⟩) rfl (rest := []) (st1 := [.int u1]) rfl rfl rfl dX0_counsel_23 ⟨Nat.le_of_ble_eq_true rfl, Nat.le_of_ble_eq_true rfl⟩ (fun H locs hw => ?_)
    refine lv_if_eq (tgt := 54) hx hb dX0_counsel_26 (by decide) (fun c => ?_) (fun c => ?_)
    · have h := qi_t c h
      refine lv_bipush (v := (-2:Int32)) hx hb dX0_counsel_54 (by decide) ?_
      have h := Option.some.inj h
      obtain ⟨h1, h2⟩ := Prod.mk.inj h
      exact r_iretN E hr rfl h1 h2 QExt.rfl' hw (Nat.le_of_ble_eq_true rfl) (Nat.le_of_ble_eq_true rfl) dX0_counsel_56
    · have h := qi_f c h
      refine lv_iload_n hx hb dX0_counsel_29 rfl (lv_at hl 2 rfl) ?_
      refine lv_iconst (v := (0:Int32)) hx hb dX0_counsel_30 (by decide) ?_
      refine lv_bipush (v := (99:Int32)) hx hb dX0_counsel_31 (by decide) ?_
      obtain ⟨u3, g4, h⟩ := qb1_s h
      refine d_S (As := [.int x2, .int (0:Int32), .int (99:Int32)]) (v0 := some (.int u3)) (w0 := (A, B, L, X, M)) hG E hw hl (m_X0_in l hG hC  g4) (va_cwS 3 hts (lw_S q283 q284 q137 q285) rfl rfl rfl kd_X0_in ⟨Nat.le_of_ble_eq_true rfl, Nat.le_of_ble_eq_true rfl⟩) rfl (rest := []) (st1 := [.int u3]) rfl rfl rfl dX0_counsel_33 ⟨Nat.le_of_ble_eq_true rfl, Nat.le_of_ble_eq_true rfl⟩ (fun H locs hw => ?_)
      refine lv_if_eq (tgt := 54) hx hb dX0_counsel_36 (by decide) (fun c => ?_) (fun c => ?_)
      · have h := qi_t c h
        refine lv_bipush (v := (-2:Int32)) hx hb dX0_counsel_54 (by decide) ?_
        have h := Option.some.inj h
        obtain ⟨h1, h2⟩ := Prod.mk.inj h
        exact r_iretN E hr rfl h1 h2 QExt.rfl' hw (Nat.le_of_ble_eq_true rfl) (Nat.le_of_ble_eq_true rfl) dX0_counsel_56
      · have h := qi_f c h
        refine lv_aload_n hx hb dX0_counsel_39 rfl (lv_at hl 0 rfl) ?_
        refine r_getX (v := .ref (K.2.1 1)) E hw hC 0 (by decide) q238 rfl dX0_counsel_40 ?_
        refine r_getS1 (v := .ref (K.2.1 100)) hG E hw hC 0 (by decide) q191 rfl dX0_counsel_43 ?_
        refine lv_bipush (v := (6:Int32)) hx hb dX0_counsel_46 (by decide) ?_
        refine r_iald (j := 6) E hw (qi_100 hC).at (q_lit (k := 6) (n := 7) rfl rfl) (q_clamp (k := 6) rfl) dX0_counsel_48 ?_
        refine lv_bipush (v := (8:Int32)) hx hb dX0_counsel_49 (by decide) ?_
        refine lv_icmp_ne (tgt := 57) hx hb dX0_counsel_51 (by decide) (fun c => ?_) (fun c => ?_)
        · have h := qi_f c h
          refine lv_iconst (v := (2:Int32)) hx hb dX0_counsel_57 (by decide) ?_
          refine r_newI (N := 2) E hw (q_clamp (k := 2) rfl) (by decide) (by decide) (Nat.le_of_ble_eq_true rfl) (Nat.le_of_ble_eq_true rfl) dX0_counsel_58 (fun q5 H hw hq6 _ => ?_)
          have hw : WP K (A, B, L, X, (va_up M q5 (some (.inl (K.2.2.2.2 0, 2, .inl (fun _ => 0)))))) H _ := hw
          refine lv_dup hx hb dX0_counsel_60 rfl ?_
          refine lv_iconst (v := (0:Int32)) hx hb dX0_counsel_61 (by decide) ?_
          refine lv_iload_n hx hb dX0_counsel_62 rfl (lv_at hl 1 rfl) ?_
          refine r_iastD (j := 0) E hw va_up_s (q_lit (k := 0) (n := 2) rfl rfl) (q_clamp (k := 0) rfl) dX0_counsel_63 (fun H locs hw => ?_)
          have hw : WP K (A, B, L, X, (va_up (va_up M q5 (some (.inl (K.2.2.2.2 0, 2, .inl (fun _ => 0))))) q5 (some (.inl (K.2.2.2.2 0, 2, .inl (va_up (fun _ => 0) 0 x1)))))) H locs := hw
          refine lv_dup hx hb dX0_counsel_64 rfl ?_
          refine lv_iconst (v := (1:Int32)) hx hb dX0_counsel_65 (by decide) ?_
          refine lv_iload_n hx hb dX0_counsel_66 rfl (lv_at hl 2 rfl) ?_
          refine r_iastD (j := 1) E hw va_up_s (q_lit (k := 1) (n := 2) rfl rfl) (q_clamp (k := 1) rfl) dX0_counsel_67 (fun H locs hw => ?_)
          have hw : WP K (A, B, L, X, (va_up (va_up (va_up M q5 (some (.inl (K.2.2.2.2 0, 2, .inl (fun _ => 0))))) q5 (some (.inl (K.2.2.2.2 0, 2, .inl (va_up (fun _ => 0) 0 x1))))) q5 (some (.inl (K.2.2.2.2 0, 2, .inl (va_up (va_up (fun _ => 0) 0 x1) 1 x2)))))) H locs := hw
          refine lv_astore_n (lv' := [(3, .ref q5), (0, .ref (K.2.1 0)), (1, .int x1), (2, .int x2)]) hx hb dX0_counsel_68 rfl hl (by decide) rfl (fun ls hl => ?_)
          refine lv_aload_n hx hb dX0_counsel_69 rfl (lv_at hl 1 rfl) ?_
          refine r_getX (v := .ref (K.2.1 1)) E hw hC 0 (by decide) q238 rfl dX0_counsel_70 ?_
          refine lv_aload_n hx hb dX0_counsel_73 rfl (lv_at hl 1 rfl) ?_
          refine r_getX (v := .ref (K.2.1 1)) E hw hC 0 (by decide) q238 rfl dX0_counsel_74 ?_
          refine r_getS1 (v := .ref (K.2.1 105)) hG E hw hC 5 (by decide) q201 rfl dX0_counsel_77 ?_
          refine lv_bipush (v := (6:Int32)) hx hb dX0_counsel_80 (by decide) ?_
          refine lv_aload_n hx hb dX0_counsel_82 rfl (lv_at hl 0 rfl) ?_
          obtain ⟨u7, A8, g9, h⟩ := qb2_s h
          refine d_V (As := [.ref (K.2.1 105), .int (6:Int32), .ref q5]) (v0 := some (.int u7)) (w0 := (A8, B, L, X, (va_up (va_up (va_up M q5 (some (.inl (K.2.2.2.2 0, 2, .inl (fun _ => 0))))) q5 (some (.inl (K.2.2.2.2 0, 2, .inl (va_up (fun _ => 0) 0 x1))))) q5 (some (.inl (K.2.2.2.2 0, 2, .inl (va_up (va_up (fun _ => 0) 0 x1) 1 x2))))))) hG E hw hl (m_X1_tells l hG hC (qg_105 hC) (fun k hk => qi_f140 hC hk) (Nat.le_of_ble_eq_true rfl) va_up_s g9) (qS1 hC) rfl (cwV 3 hts (lw_V q286 q287 q288 q138 q289) rfl rfl rfl ⟨rfl, kd_X1_tells⟩ ⟨Nat.le_of_ble_eq_true rfl, Nat.le_of_ble_eq_true rfl⟩) rfl (rest := []) (st1 := [.int u7]) rfl rfl rfl dX0_counsel_83 ⟨Nat.le_of_ble_eq_true rfl, Nat.le_of_ble_eq_true rfl⟩ (fun H locs hw => ?_)
          have h := Option.some.inj h
          obtain ⟨h1, h2⟩ := Prod.mk.inj h
          exact r_iretN E hr rfl h1 h2 (QExt.upd (QExt.upd (QExt.add hq6) hq6) hq6) hw (Nat.le_of_ble_eq_true rfl) (Nat.le_of_ble_eq_true rfl) dX0_counsel_86
        · have h := qi_t c h
          refine lv_bipush (v := (-2:Int32)) hx hb dX0_counsel_54 (by decide) ?_
          have h := Option.some.inj h
          obtain ⟨h1, h2⟩ := Prod.mk.inj h
          exact r_iretN E hr rfl h1 h2 QExt.rfl' hw (Nat.le_of_ble_eq_true rfl) (Nat.le_of_ble_eq_true rfl) dX0_counsel_56
  · have h := qi_t c h
    refine lv_aload_n hx hb dX0_counsel_5 rfl (lv_at hl 0 rfl) ?_
    refine r_getX (v := .ref (K.2.1 1)) E hw hC 0 (by decide) q238 rfl dX0_counsel_6 ?_
    refine r_getS1 (v := .ref (K.2.1 100)) hG E hw hC 0 (by decide) q191 rfl dX0_counsel_9 ?_
    refine lv_bipush (v := (6:Int32)) hx hb dX0_counsel_12 (by decide) ?_
    refine lv_iconst (v := (0:Int32)) hx hb dX0_counsel_14 (by decide) ?_
    obtain ⟨A10, e11, h⟩ := qlet_s h
    refine r_iastA (j := 6) E hw (qi_100 hC) (q_lit (k := 6) (n := 7) rfl rfl) (q_clamp (k := 6) rfl) dX0_counsel_15 (fun H locs hw => ?_)
    rw [← e11] at hw
    refine lv_iconst (v := (0:Int32)) hx hb dX0_counsel_16 (by decide) ?_
    have h := Option.some.inj h
    obtain ⟨h1, h2⟩ := Prod.mk.inj h
    exact r_iretN E hr rfl h1 h2 QExt.rfl' hw (Nat.le_of_ble_eq_true rfl) (Nat.le_of_ble_eq_true rfl) dX0_counsel_17

theorem m_X0_counsel (l : Launch) {K : QK} {G : State → Prop} (hG : QG G) (hC : QCl K) {B : QA} {L : QL} {X : QX} {M : QM} {x1 : Int32} {x2 : Int32} {A : QA} {ro : Int32} {Ao : QA} (h : f_X0_counsel x1 x2 A = some (ro, Ao)) : MC l K G yX0_counsel (ws_ yX0_counsel cX0_counsel 4 (some .int)) 3 123 1 2 [.ref (K.2.1 0), .int x1, .int x2] (A, B, L, X, M) (QN (some (.int ro)) Ao B L X M) := by
  refine MC.of (by decide) (Nat.le_of_ble_eq_true rfl) (lv := [(0, .ref (K.2.1 0)), (1, .int x1), (2, .int x2)]) rfl (fun p e s m below meth c ls E hr hl hw => ?_)
  exact w_X0_counsel_0 hG hC E hr _ _ _  h hw hl
