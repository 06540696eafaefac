/-! written by dc.py: X0_does -/
set_option maxRecDepth 100000
theorem kd_X0_appeal : yX0_appeal.cls ≠ "java/lang/invoke/MethodHandle" ∧ yX0_appeal.cls ≠ "java/lang/invoke/VarHandle" ∧ (parseMethodDescriptor yX0_appeal.desc).map (fun d => d.parameters.length) = some 1 := by decide +kernel
theorem kd_X0_call : yX0_call.cls ≠ "java/lang/invoke/MethodHandle" ∧ yX0_call.cls ≠ "java/lang/invoke/VarHandle" ∧ (parseMethodDescriptor yX0_call.desc).map (fun d => d.parameters.length) = some 1 := by decide +kernel
theorem kd_X0_delay : yX0_delay.cls ≠ "java/lang/invoke/MethodHandle" ∧ yX0_delay.cls ≠ "java/lang/invoke/VarHandle" ∧ (parseMethodDescriptor yX0_delay.desc).map (fun d => d.parameters.length) = some 0 := by decide +kernel
theorem kd_X0_gust : yX0_gust.cls ≠ "java/lang/invoke/MethodHandle" ∧ yX0_gust.cls ≠ "java/lang/invoke/VarHandle" ∧ (parseMethodDescriptor yX0_gust.desc).map (fun d => d.parameters.length) = some 2 := by decide +kernel
theorem kd_X0_newCase : yX0_newCase.cls ≠ "java/lang/invoke/MethodHandle" ∧ yX0_newCase.cls ≠ "java/lang/invoke/VarHandle" ∧ (parseMethodDescriptor yX0_newCase.desc).map (fun d => d.parameters.length) = some 4 := by decide +kernel
theorem kd_X0_passesAll : yX0_passesAll.cls ≠ "java/lang/invoke/MethodHandle" ∧ yX0_passesAll.cls ≠ "java/lang/invoke/VarHandle" ∧ (parseMethodDescriptor yX0_passesAll.desc).map (fun d => d.parameters.length) = some 1 := by decide +kernel
theorem kd_X0_withdraw : yX0_withdraw.cls ≠ "java/lang/invoke/MethodHandle" ∧ yX0_withdraw.cls ≠ "java/lang/invoke/VarHandle" ∧ (parseMethodDescriptor yX0_withdraw.desc).map (fun d => d.parameters.length) = some 0 := by decide +kernel
def f_X0_does (T : Int32 → Option QT) (d1 : QDo) (A : QA) : Option (Int32 × QA) :=
  if d1.1 = (205:Int32) then (
  qb2 (f_X0_newCase d1.2.1 d1.2.2.1 d1.2.2.2.1 (0:Int32) A) fun u1 A2 =>
  if u1 = (-1:Int32) then (
  some ((0:Int32), A2)) else (
  some ((1:Int32), A2))) else (
  if d1.1 = (206:Int32) then (
  qb2 (f_X0_call d1.2.1 A) fun u6 A7 =>
  qif (qbo u6) <|
  some (u6, A7)) else (
  if d1.1 = (207:Int32) then (
  qb2 (f_X0_delay A) fun u10 A11 =>
  if u10 = (-1:Int32) then (
  some ((0:Int32), A11)) else (
  some ((1:Int32), A11))) else (
  if d1.1 = (208:Int32) then (
  qb2 (f_X0_appeal d1.2.1 A) fun u13 A14 =>
  qif (qbo u13) <|
  some (u13, A14)) else (
  if d1.1 = (209:Int32) then (
  qb2 (f_X0_gust d1.2.1 d1.2.2.1 A) fun u17 A18 =>
  qif (qbo u17) <|
  some (u17, A18)) else (
  if d1.1 = (210:Int32) then (
  qb2 (f_X0_withdraw A) fun u21 A22 =>
  if u21 = (-1:Int32) then (
  some ((0:Int32), A22)) else (
  some ((1:Int32), A22))) else (
  qb2 (f_X0_passesAll T d1.2.1 A) fun u24 A25 =>
  qif (qbo u24) <|
  some (u24, A25)))))))
set_option maxHeartbeats 4000000 in
theorem w_X0_does_0 {p : Program} {l : Launch} {e : Env} {s : State} {m : MethodId} {args : Array Value} {below : List Frame} {meth : Method} {c : Code} {K : QK} {G : State → Prop} {B : QA} {L : QL} {X : QX} {M : QM} {da1 : Nat} {ro : Int32} {Ao : QA} (hG : QG G) (hC : QCl K) {T : Int32 → Option QT} {ta : Int32 → Nat} (hT : QTx K G X M T ta) (E : EV K G p s m args meth c cX0_does "VaneCourt" 2) (hr : meth.sig.returnType = (some .boolean)) : ∀ (d1 : QDo) (A : QA) {H : Heap} {locs : List Loc} {ls : Array Slot}, DAt K M da1 (.inr (16, [.int d1.1, .int d1.2.1, .int d1.2.2.1, .int d1.2.2.2.1, .int d1.2.2.2.2])) → f_X0_does T d1 A = some (ro, Ao) → WP K (A, B, L, X, M) H locs → lv_has ls 2 [(0, .ref (K.2.1 0)), (1, .ref da1)] → W p l e (qrm 73 4179 1 4) s m args below meth c H locs 0 0 (MQ below (QE K (QN (some (.int ro)) Ao B L X M)) args s 1 4 (qA K)) (F0 m 0 ls []) := by
  have hx := E.1
  have hb := E.2.1
  have hown := E.2.2.1
  have hts := E.2.2.2.2.1
  intro d1 A H locs ls hd1 h hw hl
  rw [f_X0_does] at h
  refine lv_aload_n hx hb dX0_does_0 rfl (lv_at hl 1 rfl) ?_
  refine d_V (As := []) (v0 := some (.int d1.1)) hG E hw hl (m_X16_sort l (hd1).q) (hd1).q rfl (cwV 0 hts (lw_V q1126 q1127 q1128 q171 q1129) rfl rfl rfl ⟨rfl, kd_X16_sort⟩ ⟨Nat.le_of_ble_eq_true rfl, Nat.le_of_ble_eq_true rfl⟩) rfl (rest := []) (st1 := [.int d1.1]) rfl rfl rfl dX0_does_1 ⟨Nat.zero_le _, Nat.zero_le _⟩ (fun H locs hw => ?_)
  by_cases c : d1.1 = (205:Int32)
  · have h := qi_t c h
    refine lv_tableIn (tgt := 44) (off := 40) hx hb dX0_does_4 (by rw [c]; decide) (by rw [c]; decide) (by rw [c]; rfl) (by decide) ?_
    refine lv_aload_n hx hb dX0_does_44 rfl (lv_at hl 0 rfl) ?_
    refine lv_aload_n hx hb dX0_does_45 rfl (lv_at hl 1 rfl) ?_
    refine d_V (As := []) (v0 := some (.int d1.2.1)) hG E hw hl (m_X16_a l (hd1).q) (hd1).q rfl (cwV 0 hts (lw_V q1130 q1131 q1132 q171 q1133) rfl rfl rfl ⟨rfl, kd_X16_a⟩ ⟨Nat.le_of_ble_eq_true rfl, Nat.le_of_ble_eq_true rfl⟩) rfl (rest := [.ref (K.2.1 0)]) (st1 := [.int d1.2.1, .ref (K.2.1 0)]) rfl rfl rfl dX0_does_46 ⟨Nat.zero_le _, Nat.zero_le _⟩ (fun H locs hw => ?_)
    refine lv_aload_n hx hb dX0_does_49 rfl (lv_at hl 1 rfl) ?_
    refine d_V (As := []) (v0 := some (.int d1.2.2.1)) hG E hw hl (m_X16_b l (hd1).q) (hd1).q rfl (cwV 0 hts (lw_V q1134 q1135 q1136 q171 q1137) rfl rfl rfl ⟨rfl, kd_X16_b⟩ ⟨Nat.le_of_ble_eq_true rfl, Nat.le_of_ble_eq_true rfl⟩) rfl (rest := [.int d1.2.1, .ref (K.2.1 0)]) (st1 := [.int d1.2.2.1, .int d1.2.1, .ref (K.2.1 0)]) rfl rfl rfl dX0_does_50 ⟨Nat.zero_le _, Nat.zero_le _⟩ (fun H locs hw => ?_)
    refine lv_aload_n hx hb dX0_does_53 rfl (lv_at hl 1 rfl) ?_
    refine d_V (As := []) (v0 := some (.int d1.2.2.2.1)) hG E hw hl (m_X16_c l (hd1).q) (hd1).q rfl (cwV 0 hts (lw_V q1138 q1139 q1140 q171 q1141) rfl rfl rfl ⟨rfl, kd_X16_c⟩ ⟨Nat.le_of_ble_eq_true rfl, Nat.le_of_ble_eq_true rfl⟩) rfl (rest := [.int d1.2.2.1, .int d1.2.1, .ref (K.2.1 0)]) (st1 := [.int d1.2.2.2.1, .int d1.2.2.1, .int d1.2.1, .ref (K.2.1 0)]) rfl rfl rfl dX0_does_54 ⟨Nat.zero_le _, Nat.zero_le _⟩ (fun H locs hw => ?_)
    refine lv_iconst (v := (0:Int32)) hx hb dX0_does_57 (by decide) ?_
    obtain ⟨u1, A2, g3, h⟩ := qb2_s h
    refine d_VN (As := [.int d1.2.1, .int d1.2.2.1, .int d1.2.2.2.1, .int (0:Int32)]) (v0 := some (.int u1)) hG E hw hl (m_X0_newCase l hG hC  g3) (qX0 hC) rfl (cwV 4 hts (lw_V q1142 q280 q281 q137 q282) rfl rfl rfl ⟨rfl, kd_X0_newCase⟩ ⟨Nat.le_of_ble_eq_true rfl, Nat.le_of_ble_eq_true rfl⟩) rfl (rest := []) (st1 := [.int u1]) rfl rfl rfl dX0_does_58 ⟨Nat.le_of_ble_eq_true rfl, Nat.le_of_ble_eq_true rfl⟩ (fun M4 hx5 H locs hw => ?_)
    refine lv_iconst (v := (-1:Int32)) hx hb dX0_does_61 (by decide) ?_
    refine lv_icmp_eq (tgt := 69) hx hb dX0_does_62 (by decide) (fun c => ?_) (fun c => ?_)
    · have h := qi_t c h
      refine lv_iconst (v := (0:Int32)) hx hb dX0_does_69 (by decide) ?_
      have h := Option.some.inj h
      obtain ⟨h1, h2⟩ := Prod.mk.inj h
      exact r_iretN E hr rfl h1 h2 (QExt.trans QExt.rfl' hx5) hw (Nat.le_of_ble_eq_true rfl) (Nat.le_of_ble_eq_true rfl) dX0_does_70
    · have h := qi_f c h
      refine lv_iconst (v := (1:Int32)) hx hb dX0_does_65 (by decide) ?_
      refine lv_goto (tgt := 70) hx hb dX0_does_66 (by decide) ?_
      have h := Option.some.inj h
      obtain ⟨h1, h2⟩ := Prod.mk.inj h
      exact r_iretN E hr rfl h1 h2 (QExt.trans QExt.rfl' hx5) hw (Nat.le_of_ble_eq_true rfl) (Nat.le_of_ble_eq_true rfl) dX0_does_70
  · have h := qi_f c h
    have n205 := qne32 c
    by_cases c : d1.1 = (206:Int32)
    · have h := qi_t c h
      refine lv_tableIn (tgt := 71) (off := 67) hx hb dX0_does_4 (by rw [c]; decide) (by rw [c]; decide) (by rw [c]; rfl) (by decide) ?_
      refine lv_aload_n hx hb dX0_does_71 rfl (lv_at hl 0 rfl) ?_
      refine lv_aload_n hx hb dX0_does_72 rfl (lv_at hl 1 rfl) ?_
      refine d_V (As := []) (v0 := some (.int d1.2.1)) hG E hw hl (m_X16_a l (hd1).q) (hd1).q rfl (cwV 0 hts (lw_V q1130 q1131 q1132 q171 q1133) rfl rfl rfl ⟨rfl, kd_X16_a⟩ ⟨Nat.le_of_ble_eq_true rfl, Nat.le_of_ble_eq_true rfl⟩) rfl (rest := [.ref (K.2.1 0)]) (st1 := [.int d1.2.1, .ref (K.2.1 0)]) rfl rfl rfl dX0_does_73 ⟨Nat.zero_le _, Nat.zero_le _⟩ (fun H locs hw => ?_)
      obtain ⟨u6, A7, g8, h⟩ := qb2_s h
      refine d_V (As := [.int d1.2.1]) (v0 := some (.int u6)) (w0 := (A7, B, L, X, M)) hG E hw hl (m_X0_call l hG hC  g8) (qX0 hC) rfl (cwV 1 hts (lw_V q1143 q1066 q1067 q137 q1068) rfl rfl rfl ⟨rfl, kd_X0_call⟩ ⟨Nat.le_of_ble_eq_true rfl, Nat.le_of_ble_eq_true rfl⟩) rfl (rest := []) (st1 := [.int u6]) rfl rfl rfl dX0_does_76 ⟨Nat.le_of_ble_eq_true rfl, Nat.le_of_ble_eq_true rfl⟩ (fun H locs hw => ?_)
      obtain ⟨z9, h⟩ := qif_s h
      have h := Option.some.inj h
      obtain ⟨h1, h2⟩ := Prod.mk.inj h
      exact r_iretN E hr (qbo_n z9) h1 h2 QExt.rfl' hw (Nat.le_of_ble_eq_true rfl) (Nat.le_of_ble_eq_true rfl) dX0_does_79
    · have h := qi_f c h
      have n206 := qne32 c
      by_cases c : d1.1 = (207:Int32)
      · have h := qi_t c h
        refine lv_tableIn (tgt := 80) (off := 76) hx hb dX0_does_4 (by rw [c]; decide) (by rw [c]; decide) (by rw [c]; rfl) (by decide) ?_
        refine lv_aload_n hx hb dX0_does_80 rfl (lv_at hl 0 rfl) ?_
        obtain ⟨u10, A11, g12, h⟩ := qb2_s h
        refine d_V (As := []) (v0 := some (.int u10)) (w0 := (A11, B, L, X, M)) hG E hw hl (m_X0_delay l hG hC  g12) (qX0 hC) rfl (cwV 0 hts (lw_V q1144 q1085 q1086 q137 q1087) rfl rfl rfl ⟨rfl, kd_X0_delay⟩ ⟨Nat.le_of_ble_eq_true rfl, Nat.le_of_ble_eq_true rfl⟩) rfl (rest := []) (st1 := [.int u10]) rfl rfl rfl dX0_does_81 ⟨Nat.le_of_ble_eq_true rfl, Nat.le_of_ble_eq_true rfl⟩ (fun H locs hw => ?_)
        refine lv_iconst (v := (-1:Int32)) hx hb dX0_does_84 (by decide) ?_
        refine lv_icmp_eq (tgt := 92) hx hb dX0_does_85 (by decide) (fun c => ?_) (fun c => ?_)
        · have h := qi_t c h
          refine lv_iconst (v := (0:Int32)) hx hb dX0_does_92 (by decide) ?_
          have h := Option.some.inj h
          obtain ⟨h1, h2⟩ := Prod.mk.inj h
          exact r_iretN E hr rfl h1 h2 QExt.rfl' hw (Nat.le_of_ble_eq_true rfl) (Nat.le_of_ble_eq_true rfl) dX0_does_93
        · have h := qi_f c h
          refine lv_iconst (v := (1:Int32)) hx hb dX0_does_88 (by decide) ?_
          refine lv_goto (tgt := 93) hx hb dX0_does_89 (by decide) ?_
          have h := Option.some.inj h
          obtain ⟨h1, h2⟩ := Prod.mk.inj h
          exact r_iretN E hr rfl h1 h2 QExt.rfl' hw (Nat.le_of_ble_eq_true rfl) (Nat.le_of_ble_eq_true rfl) dX0_does_93
      · have h := qi_f c h
        have n207 := qne32 c
        by_cases c : d1.1 = (208:Int32)
        · have h := qi_t c h
          refine lv_tableIn (tgt := 94) (off := 90) hx hb dX0_does_4 (by rw [c]; decide) (by rw [c]; decide) (by rw [c]; rfl) (by decide) ?_
          refine lv_aload_n hx hb dX0_does_94 rfl (lv_at hl 0 rfl) ?_
          refine lv_aload_n hx hb dX0_does_95 rfl (lv_at hl 1 rfl) ?_
          refine d_V (As := []) (v0 := some (.int d1.2.1)) hG E hw hl (m_X16_a l (hd1).q) (hd1).q rfl (cwV 0 hts (lw_V q1130 q1131 q1132 q171 q1133) rfl rfl rfl ⟨rfl, kd_X16_a⟩ ⟨Nat.le_of_ble_eq_true rfl, Nat.le_of_ble_eq_true rfl⟩) rfl (rest := [.ref (K.2.1 0)]) (st1 := [.int d1.2.1, .ref (K.2.1 0)]) rfl rfl rfl dX0_does_96 ⟨Nat.zero_le _, Nat.zero_le _⟩ (fun H locs hw => ?_)
          obtain ⟨u13, A14, g15, h⟩ := qb2_s h
          refine d_V (As := [.int d1.2.1]) (v0 := some (.int u13)) (w0 := (A14, B, L, X, M)) hG E hw hl (m_X0_appeal l hG hC  g15) (qX0 hC) rfl (cwV 1 hts (lw_V q1145 q1093 q1094 q137 q1095) rfl rfl rfl ⟨rfl, kd_X0_appeal⟩ ⟨Nat.le_of_ble_eq_true rfl, Nat.le_of_ble_eq_true rfl⟩) rfl (rest := []) (st1 := [.int u13]) rfl rfl rfl dX0_does_99 ⟨Nat.le_of_ble_eq_true rfl, Nat.le_of_ble_eq_true rfl⟩ (fun H locs hw => ?_)
          obtain ⟨z16, h⟩ := qif_s h
          have h := Option.some.inj h
          obtain ⟨h1, h2⟩ := Prod.mk.inj h
          exact r_iretN E hr (qbo_n z16) h1 h2 QExt.rfl' hw (Nat.le_of_ble_eq_true rfl) (Nat.le_of_ble_eq_true rfl) dX0_does_102
        · have h := qi_f c h
          have n208 := qne32 c
          by_cases c : d1.1 = (209:Int32)
          · have h := qi_t c h
            refine lv_tableIn (tgt := 103) (off := 99) hx hb dX0_does_4 (by rw [c]; decide) (by rw [c]; decide) (by rw [c]; rfl) (by decide) ?_
            refine lv_aload_n hx hb dX0_does_103 rfl (lv_at hl 0 rfl) ?_
            refine lv_aload_n hx hb dX0_does_104 rfl (lv_at hl 1 rfl) ?_
            refine d_V (As := []) (v0 := some (.int d1.2.1)) hG E hw hl (m_X16_a l (hd1).q) (hd1).q rfl (cwV 0 hts (lw_V q1130 q1131 q1132 q171 q1133) rfl rfl rfl ⟨rfl, kd_X16_a⟩ ⟨Nat.le_of_ble_eq_true rfl, Nat.le_of_ble_eq_true rfl⟩) rfl (rest := [.ref (K.2.1 0)]) (st1 := [.int d1.2.1, .ref (K.2.1 0)]) rfl rfl rfl dX0_does_105 ⟨Nat.zero_le _, Nat.zero_le _⟩ (fun H locs hw => ?_)
            refine lv_aload_n hx hb dX0_does_108 rfl (lv_at hl 1 rfl) ?_
            refine d_V (As := []) (v0 := some (.int d1.2.2.1)) hG E hw hl (m_X16_b l (hd1).q) (hd1).q rfl (cwV 0 hts (lw_V q1134 q1135 q1136 q171 q1137) rfl rfl rfl ⟨rfl, kd_X16_b⟩ ⟨Nat.le_of_ble_eq_true rfl, Nat.le_of_ble_eq_true rfl⟩) rfl (rest := [.int d1.2.1, .ref (K.2.1 0)]) (st1 := [.int d1.2.2.1, .int d1.2.1, .ref (K.2.1 0)]) rfl rfl rfl dX0_does_109 ⟨Nat.zero_le _, Nat.zero_le _⟩ (fun H locs hw => ?_)
            obtain ⟨u17, A18, g19, h⟩ := qb2_s h
            refine d_V (As := [.int d1.2.1, .int d1.2.2.1]) (v0 := some (.int u17)) (w0 := (A18, B, L, X, M)) hG E hw hl (m_X0_gust l hG hC  g19) (qX0 hC) rfl (cwV 2 hts (lw_V q1146 q1105 q1106 q137 q1107) rfl rfl rfl ⟨rfl, kd_X0_gust⟩ ⟨Nat.le_of_ble_eq_true rfl, Nat.le_of_ble_eq_true rfl⟩) rfl (rest := []) (st1 := [.int u17]) rfl rfl rfl dX0_does_112 ⟨Nat.le_of_ble_eq_true rfl, Nat.le_of_ble_eq_true rfl⟩ (fun H locs hw => ?_)
            obtain ⟨z20, h⟩ := qif_s h
            have h := Option.some.inj h
            obtain ⟨h1, h2⟩ := Prod.mk.inj h
            exact r_iretN E hr (qbo_n z20) h1 h2 QExt.rfl' hw (Nat.le_of_ble_eq_true rfl) (Nat.le_of_ble_eq_true rfl) dX0_does_115
          · have h := qi_f c h
            have n209 := qne32 c
            by_cases c : d1.1 = (210:Int32)
            · have h := qi_t c h
              refine lv_tableIn (tgt := 116) (off := 112) hx hb dX0_does_4 (by rw [c]; decide) (by rw [c]; decide) (by rw [c]; rfl) (by decide) ?_
              refine lv_aload_n hx hb dX0_does_116 rfl (lv_at hl 0 rfl) ?_
              obtain ⟨u21, A22, g23, h⟩ := qb2_s h
              refine d_V (As := []) (v0 := some (.int u21)) (w0 := (A22, B, L, X, M)) hG E hw hl (m_X0_withdraw l hG hC  g23) (qX0 hC) rfl (cwV 0 hts (lw_V q1147 q1109 q1110 q137 q1111) rfl rfl rfl ⟨rfl, kd_X0_withdraw⟩ ⟨Nat.le_of_ble_eq_true rfl, Nat.le_of_ble_eq_true rfl⟩) rfl (rest := []) (st1 := [.int u21]) rfl rfl rfl dX0_does_117 ⟨Nat.le_of_ble_eq_true rfl, Nat.le_of_ble_eq_true rfl⟩ (fun H locs hw => ?_)
              refine lv_iconst (v := (-1:Int32)) hx hb dX0_does_120 (by decide) ?_
              refine lv_icmp_eq (tgt := 128) hx hb dX0_does_121 (by decide) (fun c => ?_) (fun c => ?_)
              · have h := qi_t c h
                refine lv_iconst (v := (0:Int32)) hx hb dX0_does_128 (by decide) ?_
                have h := Option.some.inj h
                obtain ⟨h1, h2⟩ := Prod.mk.inj h
                exact r_iretN E hr rfl h1 h2 QExt.rfl' hw (Nat.le_of_ble_eq_true rfl) (Nat.le_of_ble_eq_true rfl) dX0_does_129
              · have h := qi_f c h
                refine lv_iconst (v := (1:Int32)) hx hb dX0_does_124 (by decide) ?_
                refine lv_goto (tgt := 129) hx hb dX0_does_125 (by decide) ?_
                have h := Option.some.inj h
                obtain ⟨h1, h2⟩ := Prod.mk.inj h
                exact r_iretN E hr rfl h1 h2 QExt.rfl' hw (Nat.le_of_ble_eq_true rfl) (Nat.le_of_ble_eq_true rfl) dX0_does_129
            · have h := qi_f c h
              have n210 := qne32 c
              refine lv_tableOut (tgt := 130) hx hb dX0_does_4 (by have m205 : (d1.1).toInt ≠ 205 := n205; have m206 : (d1.1).toInt ≠ 206 := n206; have m207 : (d1.1).toInt ≠ 207 := n207; have m208 : (d1.1).toInt ≠ 208 := n208; have m209 : (d1.1).toInt ≠ 209 := n209; have m210 : (d1.1).toInt ≠ 210 := n210; omega) (by decide) ?_
              refine lv_aload_n hx hb dX0_does_130 rfl (lv_at hl 0 rfl) ?_
              refine lv_aload_n hx hb dX0_does_131 rfl (lv_at hl 1 rfl) ?_
              refine d_V (As := []) (v0 := some (.int d1.2.1)) hG E hw hl (m_X16_a l (hd1).q) (hd1).q rfl (cwV 0 hts (lw_V q1130 q1131 q1132 q171 q1133) rfl rfl rfl ⟨rfl, kd_X16_a⟩ ⟨Nat.le_of_ble_eq_true rfl, Nat.le_of_ble_eq_true rfl⟩) rfl (rest := [.ref (K.2.1 0)]) (st1 := [.int d1.2.1, .ref (K.2.1 0)]) rfl rfl rfl dX0_does_132 ⟨Nat.zero_le _, Nat.zero_le _⟩ (fun H locs hw => ?_)
              obtain ⟨u24, A25, g26, h⟩ := qb2_s h
              refine d_V (As := [.int d1.2.1]) (v0 := some (.int u24)) (w0 := (A25, B, L, X, M)) hG E hw hl (m_X0_passesAll l hG hC hT  g26) (qX0 hC) rfl (cwV 1 hts (lw_V q1148 q1150 qs43 q137 q1151) rfl rfl rfl ⟨rfl, kd_X0_passesAll⟩ ⟨Nat.le_of_ble_eq_true rfl, Nat.le_of_ble_eq_true rfl⟩) rfl (rest := []) (st1 := [.int u24]) rfl rfl rfl dX0_does_135 ⟨Nat.le_of_ble_eq_true rfl, Nat.le_of_ble_eq_true rfl⟩ (fun H locs hw => ?_)
              obtain ⟨z27, h⟩ := qif_s h
              have h := Option.some.inj h
              obtain ⟨h1, h2⟩ := Prod.mk.inj h
              exact r_iretN E hr (qbo_n z27) h1 h2 QExt.rfl' hw (Nat.le_of_ble_eq_true rfl) (Nat.le_of_ble_eq_true rfl) dX0_does_138

theorem m_X0_does (l : Launch) {K : QK} {G : State → Prop} (hG : QG G) (hC : QCl K) {B : QA} {L : QL} {X : QX} {M : QM} {da1 : Nat} {T : Int32 → Option QT} {ta : Int32 → Nat} (hT : QTx K G X M T ta) {d1 : QDo} {A : QA} {ro : Int32} {Ao : QA} (hd1 : DAt K M da1 (.inr (16, [.int d1.1, .int d1.2.1, .int d1.2.2.1, .int d1.2.2.2.1, .int d1.2.2.2.2]))) (h : f_X0_does T d1 A = some (ro, Ao)) : MC l K G yX0_does (ws_ yX0_does cX0_does 2 (some .boolean)) 73 4179 1 4 [.ref (K.2.1 0), .ref da1] (A, B, L, X, M) (QN (some (.int ro)) Ao B L X M) := by
  refine MC.of (by decide) (Nat.le_of_ble_eq_true rfl) (lv := [(0, .ref (K.2.1 0)), (1, .ref da1)]) rfl (fun p e s m below meth c ls E hr hl hw => ?_)
  exact w_X0_does_0 hG hC hT E hr _ _ hd1 h hw hl
