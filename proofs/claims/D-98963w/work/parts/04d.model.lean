/-! written by dc.py: X2_isEnding X2_ends X2_best X2_harshest X2_isGuiltyBy X2_common X2_odds X2_clashOf X2_clash X2_leastFacts X2_game X2_sentencesBy X2_nextRow X2_session X2_record X2_wrongBy X2_turned X2_fewestWrong X2_whose X2_learn X2_isBy X2_isCode X2_codesBy X2_codes X2_sure X2_toBring X2_counsel X2_together X2_hired X2_calm X2_standing X2_image X2_back X2_about -/
set_option maxRecDepth 100000
theorem kd_X2_clashOf : yX2_clashOf.cls ≠ "java/lang/invoke/MethodHandle" ∧ yX2_clashOf.cls ≠ "java/lang/invoke/VarHandle" ∧ (parseMethodDescriptor yX2_clashOf.desc).map (fun d => d.parameters.length) = some 2 := by decide +kernel
theorem kd_X2_codesBy : yX2_codesBy.cls ≠ "java/lang/invoke/MethodHandle" ∧ yX2_codesBy.cls ≠ "java/lang/invoke/VarHandle" ∧ (parseMethodDescriptor yX2_codesBy.desc).map (fun d => d.parameters.length) = some 1 := by decide +kernel
theorem kd_X2_common : yX2_common.cls ≠ "java/lang/invoke/MethodHandle" ∧ yX2_common.cls ≠ "java/lang/invoke/VarHandle" ∧ (parseMethodDescriptor yX2_common.desc).map (fun d => d.parameters.length) = some 2 := by decide +kernel
theorem kd_X2_copy : yX2_copy.cls ≠ "java/lang/invoke/MethodHandle" ∧ yX2_copy.cls ≠ "java/lang/invoke/VarHandle" ∧ (parseMethodDescriptor yX2_copy.desc).map (fun d => d.parameters.length) = some 2 := by decide +kernel
theorem kd_X2_isBy : yX2_isBy.cls ≠ "java/lang/invoke/MethodHandle" ∧ yX2_isBy.cls ≠ "java/lang/invoke/VarHandle" ∧ (parseMethodDescriptor yX2_isBy.desc).map (fun d => d.parameters.length) = some 2 := by decide +kernel
theorem kd_X2_isCode : yX2_isCode.cls ≠ "java/lang/invoke/MethodHandle" ∧ yX2_isCode.cls ≠ "java/lang/invoke/VarHandle" ∧ (parseMethodDescriptor yX2_isCode.desc).map (fun d => d.parameters.length) = some 1 := by decide +kernel
theorem kd_X2_isEnding : yX2_isEnding.cls ≠ "java/lang/invoke/MethodHandle" ∧ yX2_isEnding.cls ≠ "java/lang/invoke/VarHandle" ∧ (parseMethodDescriptor yX2_isEnding.desc).map (fun d => d.parameters.length) = some 3 := by decide +kernel
theorem kd_X2_isGuiltyBy : yX2_isGuiltyBy.cls ≠ "java/lang/invoke/MethodHandle" ∧ yX2_isGuiltyBy.cls ≠ "java/lang/invoke/VarHandle" ∧ (parseMethodDescriptor yX2_isGuiltyBy.desc).map (fun d => d.parameters.length) = some 2 := by decide +kernel
theorem kd_X2_nextRow : yX2_nextRow.cls ≠ "java/lang/invoke/MethodHandle" ∧ yX2_nextRow.cls ≠ "java/lang/invoke/VarHandle" ∧ (parseMethodDescriptor yX2_nextRow.desc).map (fun d => d.parameters.length) = some 1 := by decide +kernel
theorem kd_X2_sentencesBy : yX2_sentencesBy.cls ≠ "java/lang/invoke/MethodHandle" ∧ yX2_sentencesBy.cls ≠ "java/lang/invoke/VarHandle" ∧ (parseMethodDescriptor yX2_sentencesBy.desc).map (fun d => d.parameters.length) = some 1 := by decide +kernel
theorem kd_X2_together : yX2_together.cls ≠ "java/lang/invoke/MethodHandle" ∧ yX2_together.cls ≠ "java/lang/invoke/VarHandle" ∧ (parseMethodDescriptor yX2_together.desc).map (fun d => d.parameters.length) = some 2 := by decide +kernel
theorem kd_X2_wrongBy : yX2_wrongBy.cls ≠ "java/lang/invoke/MethodHandle" ∧ yX2_wrongBy.cls ≠ "java/lang/invoke/VarHandle" ∧ (parseMethodDescriptor yX2_wrongBy.desc).map (fun d => d.parameters.length) = some 2 := by decide +kernel
def f_X2_isEnding_173 (s1 : Int32) (B : QA) (L : QL) : Option (Int32 × QA × QL) :=
  qlet (qu B 1000 35 s1) fun B23 =>
  qb1 (f_X2_putBack B23) fun B25 =>
  some ((1:Int32), B25, L)
set_option maxHeartbeats 4000000 in
theorem w_X2_isEnding_173 {p : Program} {l : Launch} {e : Env} {s : State} {m : MethodId} {args : Array Value} {below : List Frame} {meth : Method} {c : Code} {K : QK} {G : State → Prop} {A : QA} {rs : QX × QM} {ro : Int32} {Bo : QA} {Lo : QL} (hG : QG G) (hM : QMl K) (E : EV K G p s m args meth c cX2_isEnding "VaneCourtModel" 7) (hr : meth.sig.returnType = (some .boolean)) : ∀ (s1 : Int32) (B : QA) (L : QL) {H : Heap} {locs : List Loc} {ls : Array Slot}, f_X2_isEnding_173 s1 B L = some (ro, Bo, Lo) → WP K (A, B, L, rs) H locs → lv_has ls 7 [(0, .ref (K.2.1 1000))] → W p l e (qrm 6 165 0 0) s m args below meth c H locs 0 0 (MQ below (QE K (QR (some (.int ro)) (A, Bo, Lo, rs))) args s 0 0 (qA K)) (F0 m 173 ls [.int s1, .ref (K.2.1 1000)]) := by
  have hx := E.1
  have hb := E.2.1
  have hown := E.2.2.1
  have hts := E.2.2.2.2.1
  intro s1 B L H locs ls  h hw hl
  rw [f_X2_isEnding_173] at h
  obtain ⟨B23, e24, h⟩ := qlet_s h
  refine r_putM E hw hM 35 (by decide) q1388 rfl rfl rfl (fun _ _ => rfl) dX2_isEnding_173 (fun H locs hw => ?_)
  rw [← e24] at hw
  refine lv_aload_n hx hb dX2_isEnding_176 rfl (lv_at hl 0 rfl) ?_
  obtain ⟨B25, g26, h⟩ := qb1_s h
  refine d_V (As := []) (v0 := none) (w0 := (A, B25, L, rs)) hG E hw hl (m_X2_putBack l hG hM  g26) (qM0 hM) rfl (cwV 0 hts (lw_V q1881 q1883 qs125 q140 q1884) rfl rfl rfl ⟨rfl, kd_X2_putBack⟩ ⟨Nat.le_of_ble_eq_true rfl, Nat.le_of_ble_eq_true rfl⟩) rfl (rest := []) (st1 := []) rfl rfl rfl dX2_isEnding_177 ⟨Nat.le_of_ble_eq_true rfl, Nat.le_of_ble_eq_true rfl⟩ (fun H locs hw => ?_)
  refine lv_iconst (v := (1:Int32)) hx hb dX2_isEnding_180 (by decide) ?_
  have h := Option.some.inj h
  obtain ⟨h1, h2⟩ := Prod.mk.inj h
  obtain ⟨h2, h3⟩ := Prod.mk.inj h2
  exact d_iret E hr rfl hw h1 (by rw [h2, h3]) dX2_isEnding_181

def f_X2_isEnding_36 : Nat → Int32 → Int32 → Int32 → Int32 → Int32 → QA → QL → Option (Int32 × QA × QL)
  | 0, _, _, _, _, _, _, _ => none
  | n + 1, x1, x2, x4, x5, x6, B, L => if (x2 + x4) ≤ x6 then (
  qb1 (f_X2_begin B) fun B5 =>
  qlet (qu B5 1001 11 ((B5 1001 11) + ((x2 + x4) - (1:Int32)))) fun B7 =>
  qif (qok ((x2 + x4) - (1:Int32)) 100) <|
  qlet (qu B7 1001 8 (B7 1010 ((x2 + x4) - (1:Int32)).toNatClampNeg)) fun B10 =>
  qlet (qu B10 1001 9 (B10 1011 ((x2 + x4) - (1:Int32)).toNatClampNeg)) fun B12 =>
  qlet (qu B12 1001 10 (B12 1012 ((x2 + x4) - (1:Int32)).toNatClampNeg)) fun B14 =>
  qb3 (f_X2_isFound x1 x4 x5 B14 L) fun u16 B17 L18 =>
  qif (qbo u16) <|
  qlet (qu B17 1000 34 u16) fun B21 =>
  if (B21 1000 34) = (0:Int32) then (
  f_X2_isEnding_173 (0:Int32) B21 L18) else (
  qb3 (f_X2_sentenceOf x1 x4 x5 B21 L18) fun u27 B28 L29 =>
  f_X2_isEnding_173 u27 B28 L29)) else (
  qif (qok x6 100) <|
  qlet (x5 ||| ((1:Int32) <<< ((B 1010 x6.toNatClampNeg) &&& 31))) fun x5_32 =>
  qlet (x6 + (1:Int32)) fun x6_34 =>
  f_X2_isEnding_36 n x1 x2 x4 x5_32 x6_34 B L)
set_option maxHeartbeats 4000000 in
theorem w_X2_isEnding_36 {p : Program} {l : Launch} {e : Env} {s : State} {m : MethodId} {args : Array Value} {below : List Frame} {meth : Method} {c : Code} {K : QK} {G : State → Prop} {A : QA} {rs : QX × QM} {ro : Int32} {Bo : QA} {Lo : QL} (hG : QG G) (hM : QMl K) (E : EV K G p s m args meth c cX2_isEnding "VaneCourtModel" 7) (hr : meth.sig.returnType = (some .boolean)) : ∀ (n : Nat) (x1 : Int32) (x2 : Int32) (x4 : Int32) (x5 : Int32) (x6 : Int32) (B : QA) (L : QL) {H : Heap} {locs : List Loc} {ls : Array Slot}, f_X2_isEnding_36 n x1 x2 x4 x5 x6 B L = some (ro, Bo, Lo) → WP K (A, B, L, rs) H locs → lv_has ls 7 [(0, .ref (K.2.1 1000)), (1, .int x1), (2, .int x2), (4, .int x4), (5, .int x5), (6, .int x6)] → W p l e (qrm 6 165 0 0) s m args below meth c H locs 0 0 (MQ below (QE K (QR (some (.int ro)) (A, Bo, Lo, rs))) args s 0 0 (qA K)) (F0 m 36 ls []) := by
  have hx := E.1
  have hb := E.2.1
  have hown := E.2.2.1
  have hts := E.2.2.2.2.1
  intro n
  induction n with
  | zero =>
    intro x1 x2 x4 x5 x6 B L H locs ls  h hw hl
    cases h
  | succ n ih =>
    intro x1 x2 x4 x5 x6 B L H locs ls  h hw hl
    rw [f_X2_isEnding_36] at h
    refine lv_iload hx hb dX2_isEnding_36 (lv_at hl 5 rfl) ?_
    refine lv_iload_n hx hb dX2_isEnding_38 rfl (lv_at hl 2 rfl) ?_
    refine lv_iload hx hb dX2_isEnding_39 (lv_at hl 3 rfl) ?_
    refine lv_iadd hx hb dX2_isEnding_41 ?_
    refine lv_icmp_ge (tgt := 65) hx hb dX2_isEnding_42 (by decide) (fun c => ?_) (fun c => ?_)
    · have h := qi_t c h
      refine lv_aload_n hx hb dX2_isEnding_65 rfl (lv_at hl 0 rfl) ?_
      obtain ⟨B5, g6, h⟩ := qb1_s h
      refine d_V (As := []) (v0 := none) (w0 := (A, B5, L, rs)) hG E hw hl (m_X2_begin l hG hM  g6) (qM0 hM) rfl (cwV 0 hts (lw_V q1877 q1879 qs124 q140 q1880) rfl rfl rfl ⟨rfl, kd_X2_begin⟩ ⟨Nat.le_of_ble_eq_true rfl, Nat.le_of_ble_eq_true rfl⟩) rfl (rest := []) (st1 := []) rfl rfl rfl dX2_isEnding_66 ⟨Nat.le_of_ble_eq_true rfl, Nat.le_of_ble_eq_true rfl⟩ (fun H locs hw => ?_)
      refine lv_aload_n hx hb dX2_isEnding_69 rfl (lv_at hl 0 rfl) ?_
      refine r_getM (v := .ref (K.2.1 1001)) E hw hM 0 (by decide) q1353 rfl dX2_isEnding_70 ?_
      refine lv_bipush (v := (11:Int32)) hx hb dX2_isEnding_73 (by decide) ?_
      refine lv_dup2_11 hx hb dX2_isEnding_75 rfl rfl ?_
      refine r_iald (j := 11) E hw (qi_1001 hM).at (q_lit (k := 11) (n := 3642) rfl rfl) (q_clamp (k := 11) rfl) dX2_isEnding_76 ?_
      refine lv_iload_n hx hb dX2_isEnding_77 rfl (lv_at hl 2 rfl) ?_
      refine lv_iload hx hb dX2_isEnding_78 (lv_at hl 3 rfl) ?_
      refine lv_iadd hx hb dX2_isEnding_80 ?_
      refine lv_iconst (v := (1:Int32)) hx hb dX2_isEnding_81 (by decide) ?_
      refine lv_isub hx hb dX2_isEnding_82 ?_
      refine lv_iadd hx hb dX2_isEnding_83 ?_
      obtain ⟨B7, e8, h⟩ := qlet_s h
      refine r_iastB (j := 11) E hw (qi_1001 hM) (q_lit (k := 11) (n := 3642) rfl rfl) (q_clamp (k := 11) rfl) dX2_isEnding_84 (fun H locs hw => ?_)
      rw [← e8] at hw
      refine lv_aload_n hx hb dX2_isEnding_85 rfl (lv_at hl 0 rfl) ?_
      refine r_getM (v := .ref (K.2.1 1001)) E hw hM 0 (by decide) q1353 rfl dX2_isEnding_86 ?_
      refine lv_bipush (v := (8:Int32)) hx hb dX2_isEnding_89 (by decide) ?_
      refine lv_aload_n hx hb dX2_isEnding_91 rfl (lv_at hl 0 rfl) ?_
      refine r_getM (v := .ref (K.2.1 1010)) E hw hM 30 (by decide) q1383 rfl dX2_isEnding_92 ?_
      refine lv_iload_n hx hb dX2_isEnding_95 rfl (lv_at hl 2 rfl) ?_
      refine lv_iload hx hb dX2_isEnding_96 (lv_at hl 3 rfl) ?_
      refine lv_iadd hx hb dX2_isEnding_98 ?_
      refine lv_iconst (v := (1:Int32)) hx hb dX2_isEnding_99 (by decide) ?_
      refine lv_isub hx hb dX2_isEnding_100 ?_
      obtain ⟨z9, h⟩ := qif_s h
      refine r_iald (j := ((x2 + x4) - (1:Int32)).toNatClampNeg) E hw (qi_1010 hM).at (qok_in z9) rfl dX2_isEnding_101 ?_
      obtain ⟨B10, e11, h⟩ := qlet_s h
      refine r_iastB (j := 8) E hw (qi_1001 hM) (q_lit (k := 8) (n := 3642) rfl rfl) (q_clamp (k := 8) rfl) dX2_isEnding_102 (fun H locs hw => ?_)
      rw [← e11] at hw
      refine lv_aload_n hx hb dX2_isEnding_103 rfl (lv_at hl 0 rfl) ?_
      refine r_getM (v := .ref (K.2.1 1001)) E hw hM 0 (by decide) q1353 rfl dX2_isEnding_104 ?_
      refine lv_bipush (v := (9:Int32)) hx hb dX2_isEnding_107 (by decide) ?_
      refine lv_aload_n hx hb dX2_isEnding_109 rfl (lv_at hl 0 rfl) ?_
      refine r_getM (v := .ref (K.2.1 1011)) E hw hM 31 (by decide) q1384 rfl dX2_isEnding_110 ?_
      refine lv_iload_n hx hb dX2_isEnding_113 rfl (lv_at hl 2 rfl) ?_
      refine lv_iload hx hb dX2_isEnding_114 (lv_at hl 3 rfl) ?_
      refine lv_iadd hx hb dX2_isEnding_116 ?_
      refine lv_iconst (v := (1:Int32)) hx hb dX2_isEnding_117 (by decide) ?_
      refine lv_isub hx hb dX2_isEnding_118 ?_
      refine r_iald (j := ((x2 + x4) - (1:Int32)).toNatClampNeg) E hw (qi_1011 hM).at (qok_in z9) rfl dX2_isEnding_119 ?_
      obtain ⟨B12, e13, h⟩ := qlet_s h
      refine r_iastB (j := 9) E hw (qi_1001 hM) (q_lit (k := 9) (n := 3642) rfl rfl) (q_clamp (k := 9) rfl) dX2_isEnding_120 (fun H locs hw => ?_)
      rw [← e13] at hw
      refine lv_aload_n hx hb dX2_isEnding_121 rfl (lv_at hl 0 rfl) ?_
      refine r_getM (v := .ref (K.2.1 1001)) E hw hM 0 (by decide) q1353 rfl dX2_isEnding_122 ?_
      refine lv_bipush (v := (10:Int32)) hx hb dX2_isEnding_125 (by decide) ?_
      refine lv_aload_n hx hb dX2_isEnding_127 rfl (lv_at hl 0 rfl) ?_
      refine r_getM (v := .ref (K.2.1 1012)) E hw hM 32 (by decide) q1385 rfl dX2_isEnding_128 ?_
      refine lv_iload_n hx hb dX2_isEnding_131 rfl (lv_at hl 2 rfl) ?_
      refine lv_iload hx hb dX2_isEnding_132 (lv_at hl 3 rfl) ?_
      refine lv_iadd hx hb dX2_isEnding_134 ?_
      refine lv_iconst (v := (1:Int32)) hx hb dX2_isEnding_135 (by decide) ?_
      refine lv_isub hx hb dX2_isEnding_136 ?_
      refine r_iald (j := ((x2 + x4) - (1:Int32)).toNatClampNeg) E hw (qi_1012 hM).at (qok_in z9) rfl dX2_isEnding_137 ?_
      obtain ⟨B14, e15, h⟩ := qlet_s h
      refine r_iastB (j := 10) E hw (qi_1001 hM) (q_lit (k := 10) (n := 3642) rfl rfl) (q_clamp (k := 10) rfl) dX2_isEnding_138 (fun H locs hw => ?_)
      rw [← e15] at hw
      refine lv_aload_n hx hb dX2_isEnding_139 rfl (lv_at hl 0 rfl) ?_
      refine lv_aload_n hx hb dX2_isEnding_140 rfl (lv_at hl 0 rfl) ?_
      refine lv_iload_n hx hb dX2_isEnding_141 rfl (lv_at hl 1 rfl) ?_
      refine lv_iload hx hb dX2_isEnding_142 (lv_at hl 3 rfl) ?_
      refine lv_iload hx hb dX2_isEnding_144 (lv_at hl 4 rfl) ?_
      obtain ⟨u16, B17, L18, g19, h⟩ := qb3_s h
      refine d_V (As := [.int x1, .int x4, .int x5]) (v0 := some (.int u16)) (w0 := (A, B17, L18, rs)) hG E hw hl (m_X2_isFound l hG hM  g19) (qM0 hM) rfl (cwV 3 hts (lw_V q1759 q1761 qs107 q140 q1762) rfl rfl rfl ⟨rfl, kd_X2_isFound⟩ ⟨Nat.le_of_ble_eq_true rfl, Nat.le_of_ble_eq_true rfl⟩) rfl (rest := [.ref (K.2.1 1000)]) (st1 := [.int u16, .ref (K.2.1 1000)]) rfl rfl rfl dX2_isEnding_146 ⟨Nat.le_of_ble_eq_true rfl, Nat.le_of_ble_eq_true rfl⟩ (fun H locs hw => ?_)
      obtain ⟨z20, h⟩ := qif_s h
      obtain ⟨B21, e22, h⟩ := qlet_s h
      refine r_putM E hw hM 34 (by decide) q1387 rfl (qbo_n z20) (qbo_f z20) (fun _ _ => rfl) dX2_isEnding_149 (fun H locs hw => ?_)
      rw [← e22] at hw
      refine lv_aload_n hx hb dX2_isEnding_152 rfl (lv_at hl 0 rfl) ?_
      refine lv_aload_n hx hb dX2_isEnding_153 rfl (lv_at hl 0 rfl) ?_
      refine r_getM (v := .int (B21 1000 34)) E hw hM 34 (by decide) q1387 rfl dX2_isEnding_154 ?_
      refine lv_if_eq (tgt := 172) hx hb dX2_isEnding_157 (by decide) (fun c => ?_) (fun c => ?_)
      · have h := qi_t c h
        refine lv_iconst (v := (0:Int32)) hx hb dX2_isEnding_172 (by decide) ?_
        exact w_X2_isEnding_173 hG hM E hr  _ _ _   h hw (lv_sub hl [0] rfl)
      · have h := qi_f c h
        refine lv_aload_n hx hb dX2_isEnding_160 rfl (lv_at hl 0 rfl) ?_
        refine lv_iload_n hx hb dX2_isEnding_161 rfl (lv_at hl 1 rfl) ?_
        refine lv_iload hx hb dX2_isEnding_162 (lv_at hl 3 rfl) ?_
        refine lv_iload hx hb dX2_isEnding_164 (lv_at hl 4 rfl) ?_
        obtain ⟨u27, B28, L29, g30, h⟩ := qb3_s h
        refine d_V (As := [.int x1, .int x4, .int x5]) (v0 := some (.int u27)) (w0 := (A, B28, L29, rs)) hG E hw hl (m_X2_sentenceOf l hG hM  g30) (qM0 hM) rfl (cwV 3 hts (lw_V q1805 q1807 qs115 q140 q1808) rfl rfl rfl ⟨rfl, kd_X2_sentenceOf⟩ ⟨Nat.le_of_ble_eq_true rfl, Nat.le_of_ble_eq_true rfl⟩) rfl (rest := [.ref (K.2.1 1000)]) (st1 := [.int u27, .ref (K.2.1 1000)]) rfl rfl rfl dX2_isEnding_166 ⟨Nat.le_of_ble_eq_true rfl, Nat.le_of_ble_eq_true rfl⟩ (fun H locs hw => ?_)
        refine lv_goto (tgt := 173) hx hb dX2_isEnding_169 (by decide) ?_
        exact w_X2_isEnding_173 hG hM E hr  _ _ _   h hw (lv_sub hl [0] rfl)
    · have h := qi_f c h
      refine lv_iload hx hb dX2_isEnding_45 (lv_at hl 4 rfl) ?_
      refine lv_iconst (v := (1:Int32)) hx hb dX2_isEnding_47 (by decide) ?_
      refine lv_aload_n hx hb dX2_isEnding_48 rfl (lv_at hl 0 rfl) ?_
      refine r_getM (v := .ref (K.2.1 1010)) E hw hM 30 (by decide) q1383 rfl dX2_isEnding_49 ?_
      refine lv_iload hx hb dX2_isEnding_52 (lv_at hl 5 rfl) ?_
      obtain ⟨z31, h⟩ := qif_s h
      refine r_iald (j := x6.toNatClampNeg) E hw (qi_1010 hM).at (qok_in z31) rfl dX2_isEnding_54 ?_
      refine lv_ishl hx hb dX2_isEnding_55 ?_
      refine lv_ior hx hb dX2_isEnding_56 ?_
      obtain ⟨x5_32, e33, h⟩ := qlet_s h
      refine r_nm e33 ?_
      refine lv_istore (lv' := [(5, .int x5_32), (0, .ref (K.2.1 1000)), (1, .int x1), (2, .int x2), (4, .int x4), (6, .int x6)]) hx hb dX2_isEnding_57 hl (by decide) rfl (fun ls hl => ?_)
      obtain ⟨x6_34, e35, h⟩ := qlet_s h
      refine lv_iinc (v := x6_34) (lv' := [(6, .int x6_34), (5, .int x5_32), (0, .ref (K.2.1 1000)), (1, .int x1), (2, .int x2), (4, .int x4)]) (k := 5) hx hb dX2_isEnding_59 hl rfl (by rw [e35]; rfl) (by decide) rfl (fun ls hl => ?_)
      refine lv_goto (tgt := 36) hx hb dX2_isEnding_62 (by decide) ?_
      exact ih _ _ _ _ _ _ _  h hw (lv_sub hl [2, 3, 4, 5, 1, 0] rfl)

def f_X2_isEnding (x1 : Int32) (x2 : Int32) (x3 : Int32) (B : QA) (L : QL) : Option (Int32 × QA × QL) :=
  qb1 (f_X2_get x1 (2:Int32) B) fun u1 =>
  qlet (u1 + x3) fun x4_3 =>
  if (((B 1001 11) + x2) + x4_3) ≤ (9999:Int32) then (
  f_X2_isEnding_36 FU x1 x2 x4_3 (0:Int32) x2 B L) else (
  some ((0:Int32), B, L))
set_option maxHeartbeats 4000000 in
theorem w_X2_isEnding_0 {p : Program} {l : Launch} {e : Env} {s : State} {m : MethodId} {args : Array Value} {below : List Frame} {meth : Method} {c : Code} {K : QK} {G : State → Prop} {A : QA} {rs : QX × QM} {ro : Int32} {Bo : QA} {Lo : QL} (hG : QG G) (hM : QMl K) (E : EV K G p s m args meth c cX2_isEnding "VaneCourtModel" 7) (hr : meth.sig.returnType = (some .boolean)) : ∀ (x1 : Int32) (x2 : Int32) (x3 : Int32) (B : QA) (L : QL) {H : Heap} {locs : List Loc} {ls : Array Slot}, f_X2_isEnding x1 x2 x3 B L = some (ro, Bo, Lo) → WP K (A, B, L, rs) H locs → lv_has ls 7 [(0, .ref (K.2.1 1000)), (1, .int x1), (2, .int x2), (3, .int x3)] → W p l e (qrm 6 165 0 0) s m args below meth c H locs 0 0 (MQ below (QE K (QR (some (.int ro)) (A, Bo, Lo, rs))) args s 0 0 (qA K)) (F0 m 0 ls []) := by
  have hx := E.1
  have hb := E.2.1
  have hown := E.2.2.1
  have hts := E.2.2.2.2.1
  intro x1 x2 x3 B L H locs ls  h hw hl
  rw [f_X2_isEnding] at h
  refine lv_aload_n hx hb dX2_isEnding_0 rfl (lv_at hl 0 rfl) ?_
  refine lv_iload_n hx hb dX2_isEnding_1 rfl (lv_at hl 1 rfl) ?_
  refine lv_iconst (v := (2:Int32)) hx hb dX2_isEnding_2 (by decide) ?_
  obtain ⟨u1, g2, h⟩ := qb1_s h
  refine d_V (As := [.int x1, .int (2:Int32)]) (v0 := some (.int u1)) (w0 := (A, B, L, rs)) hG E hw hl (m_X2_get l hG hM  g2) (qM0 hM) rfl (cwV 2 hts (lw_V q1699 q1701 qs97 q140 q1702) rfl rfl rfl ⟨rfl, kd_X2_get⟩ ⟨Nat.le_of_ble_eq_true rfl, Nat.le_of_ble_eq_true rfl⟩) rfl (rest := []) (st1 := [.int u1]) rfl rfl rfl dX2_isEnding_3 ⟨Nat.le_of_ble_eq_true rfl, Nat.le_of_ble_eq_true rfl⟩ (fun H locs hw => ?_)
  refine lv_iload_n hx hb dX2_isEnding_6 rfl (lv_at hl 3 rfl) ?_
  refine lv_iadd hx hb dX2_isEnding_7 ?_
  obtain ⟨x4_3, e4, h⟩ := qlet_s h
  refine r_nm e4 ?_
  refine lv_istore (lv' := [(4, .int x4_3), (0, .ref (K.2.1 1000)), (1, .int x1), (2, .int x2), (3, .int x3)]) hx hb dX2_isEnding_8 hl (by decide) rfl (fun ls hl => ?_)
  refine lv_aload_n hx hb dX2_isEnding_10 rfl (lv_at hl 1 rfl) ?_
  refine r_getM (v := .ref (K.2.1 1001)) E hw hM 0 (by decide) q1353 rfl dX2_isEnding_11 ?_
  refine lv_bipush (v := (11:Int32)) hx hb dX2_isEnding_14 (by decide) ?_
  refine r_iald (j := 11) E hw (qi_1001 hM).at (q_lit (k := 11) (n := 3642) rfl rfl) (q_clamp (k := 11) rfl) dX2_isEnding_16 ?_
  refine lv_iload_n hx hb dX2_isEnding_17 rfl (lv_at hl 3 rfl) ?_
  refine lv_iadd hx hb dX2_isEnding_18 ?_
  refine lv_iload hx hb dX2_isEnding_19 (lv_at hl 0 rfl) ?_
  refine lv_iadd hx hb dX2_isEnding_21 ?_
  refine lv_sipush (v := (9999:Int32)) hx hb dX2_isEnding_22 (by decide) ?_
  refine lv_icmp_le (tgt := 30) hx hb dX2_isEnding_25 (by decide) (fun c => ?_) (fun c => ?_)
  · have h := qi_t c h
    refine lv_iconst (v := (0:Int32)) hx hb dX2_isEnding_30 (by decide) ?_
    refine lv_istore (lv' := [(5, .int (0:Int32)), (4, .int x4_3), (0, .ref (K.2.1 1000)), (1, .int x1), (2, .int x2), (3, .int x3)]) hx hb dX2_isEnding_31 hl (by decide) rfl (fun ls hl => ?_)
    refine lv_iload_n hx hb dX2_isEnding_33 rfl (lv_at hl 4 rfl) ?_
    refine lv_istore (lv' := [(6, .int x2), (5, .int (0:Int32)), (4, .int x4_3), (0, .ref (K.2.1 1000)), (1, .int x1), (2, .int x2), (3, .int x3)]) hx hb dX2_isEnding_34 hl (by decide) rfl (fun ls hl => ?_)
    exact w_X2_isEnding_36 hG hM E hr  _ _ _ _ _ _ _ _   h hw (lv_sub hl [3, 4, 5, 2, 1, 0] rfl)
  · have h := qi_f c h
    refine lv_iconst (v := (0:Int32)) hx hb dX2_isEnding_28 (by decide) ?_
    have h := Option.some.inj h
    obtain ⟨h1, h2⟩ := Prod.mk.inj h
    obtain ⟨h2, h3⟩ := Prod.mk.inj h2
    exact d_iret E hr rfl hw h1 (by rw [h2, h3]) dX2_isEnding_29

theorem m_X2_isEnding (l : Launch) {K : QK} {G : State → Prop} (hG : QG G) (hM : QMl K) {A : QA} {rs : QX × QM} {x1 : Int32} {x2 : Int32} {x3 : Int32} {B : QA} {L : QL} {ro : Int32} {Bo : QA} {Lo : QL} (h : f_X2_isEnding x1 x2 x3 B L = some (ro, Bo, Lo)) : MC l K G yX2_isEnding (ws_ yX2_isEnding cX2_isEnding 7 (some .boolean)) 6 165 0 0 [.ref (K.2.1 1000), .int x1, .int x2, .int x3] (A, B, L, rs) (QR (some (.int ro)) (A, Bo, Lo, rs)) := by
  refine MC.of (by decide) (Nat.le_of_ble_eq_true rfl) (lv := [(0, .ref (K.2.1 1000)), (1, .int x1), (2, .int x2), (3, .int x3)]) rfl (fun p e s m below meth c ls E hr hl hw => ?_)
  exact w_X2_isEnding_0 hG hM E hr _ _ _ _ _  h hw hl

def f_X2_ends (x1 : Int32) (x2 : Int32) (x3 : Int32) (x4 : Int32) (B : QA) (L : QL) : Option (Int32 × QA × QL) :=
  qb1 (f_X2_isWaiting x1 B) fun u1 =>
  if u1 = (0:Int32) then (
  some ((-1:Int32), B, L)) else (
  qb1 (f_X2_isIn x2 (0:Int32) (20:Int32)) fun u3 =>
  if u3 = (0:Int32) then (
  some ((-1:Int32), B, L)) else (
  qb1 (f_X2_isIn x3 (0:Int32) (3:Int32)) fun u5 =>
  if u5 = (0:Int32) then (
  some ((-1:Int32), B, L)) else (
  qb1 (f_X2_isIn x4 (0:Int32) (2:Int32)) fun u7 =>
  if u7 = (0:Int32) then (
  some ((-1:Int32), B, L)) else (
  qb3 (f_X2_layWinds (40:Int32) B L) fun u9 B10 L11 =>
  qb3 (f_X2_isEnding x1 x2 x3 B10 L11) fun u13 B14 L15 =>
  if u13 = (0:Int32) then (
  some ((-1:Int32), B14, L15)) else (
  if x4 = (0:Int32) then (
  qb1 (f_X2_get x1 (2:Int32) B14) fun u17 =>
  some (((x2 + u17) + x3), B14, L15)) else (
  if x4 = (1:Int32) then (
  if (B14 1000 34) = (0:Int32) then (
  some ((0:Int32), B14, L15)) else (
  some ((1:Int32), B14, L15))) else (
  some ((B14 1000 35), B14, L15))))))))
set_option maxHeartbeats 4000000 in
theorem w_X2_ends_0 {p : Program} {l : Launch} {e : Env} {s : State} {m : MethodId} {args : Array Value} {below : List Frame} {meth : Method} {c : Code} {K : QK} {G : State → Prop} {A : QA} {rs : QX × QM} {ro : Int32} {Bo : QA} {Lo : QL} (hG : QG G) (hM : QMl K) (E : EV K G p s m args meth c cX2_ends "VaneCourtModel" 5) (hr : meth.sig.returnType = (some .int)) : ∀ (x1 : Int32) (x2 : Int32) (x3 : Int32) (x4 : Int32) (B : QA) (L : QL) {H : Heap} {locs : List Loc} {ls : Array Slot}, f_X2_ends x1 x2 x3 x4 B L = some (ro, Bo, Lo) → WP K (A, B, L, rs) H locs → lv_has ls 5 [(0, .ref (K.2.1 1000)), (1, .int x1), (2, .int x2), (3, .int x3), (4, .int x4)] → W p l e (qrm 7 191 0 0) s m args below meth c H locs 0 0 (MQ below (QE K (QR (some (.int ro)) (A, Bo, Lo, rs))) args s 0 0 (qA K)) (F0 m 0 ls []) := by
  have hx := E.1
  have hb := E.2.1
  have hown := E.2.2.1
  have hts := E.2.2.2.2.1
  intro x1 x2 x3 x4 B L H locs ls  h hw hl
  rw [f_X2_ends] at h
  refine lv_aload_n hx hb dX2_ends_0 rfl (lv_at hl 0 rfl) ?_
  refine lv_iload_n hx hb dX2_ends_1 rfl (lv_at hl 1 rfl) ?_
  obtain ⟨u1, g2, h⟩ := qb1_s h
  refine d_V (As := [.int x1]) (v0 := some (.int u1)) (w0 := (A, B, L, rs)) hG E hw hl (m_X2_isWaiting l hG hM  g2) (qM0 hM) rfl (cwV 1 hts (lw_V q1691 q1693 qs95 q140 q1694) rfl rfl rfl ⟨rfl, kd_X2_isWaiting⟩ ⟨Nat.le_of_ble_eq_true rfl, Nat.le_of_ble_eq_true rfl⟩) rfl (rest := []) (st1 := [.int u1]) rfl rfl rfl dX2_ends_2 ⟨Nat.le_of_ble_eq_true rfl, Nat.le_of_ble_eq_true rfl⟩ (fun H locs hw => ?_)
  refine lv_if_eq (tgt := 37) hx hb dX2_ends_5 (by decide) (fun c => ?_) (fun c => ?_)
  · have h := qi_t c h
    refine lv_iconst (v := (-1:Int32)) hx hb dX2_ends_37 (by decide) ?_
    have h := Option.some.inj h
    obtain ⟨h1, h2⟩ := Prod.mk.inj h
    obtain ⟨h2, h3⟩ := Prod.mk.inj h2
    exact d_iret E hr rfl hw h1 (by rw [h2, h3]) dX2_ends_38
  · have h := qi_f c h
    refine lv_iload_n hx hb dX2_ends_8 rfl (lv_at hl 2 rfl) ?_
    refine lv_iconst (v := (0:Int32)) hx hb dX2_ends_9 (by decide) ?_
    refine lv_bipush (v := (20:Int32)) hx hb dX2_ends_10 (by decide) ?_
    obtain ⟨u3, g4, h⟩ := qb1_s h
    refine d_S (As := [.int x2, .int (0:Int32), .int (20:Int32)]) (v0 := some (.int u3)) (w0 := (A, B, L, rs)) hG E hw hl (m_X2_isIn l hG hM  g4) (va_cwS 3 hts (lw_S q1480 q1481 q140 q1482) rfl rfl rfl kd_X2_isIn ⟨Nat.le_of_ble_eq_true rfl, Nat.le_of_ble_eq_true rfl⟩) rfl (rest := []) (st1 := [.int u3]) rfl rfl rfl dX2_ends_12 ⟨Nat.le_of_ble_eq_true rfl, Nat.le_of_ble_eq_true rfl⟩ (fun H locs hw => ?_)
    refine lv_if_eq (tgt := 37) hx hb dX2_ends_15 (by decide) (fun c => ?_) (fun c => ?_)
    · have h := qi_t c h
      refine lv_iconst (v := (-1:Int32)) hx hb dX2_ends_37 (by decide) ?_
      have h := Option.some.inj h
      obtain ⟨h1, h2⟩ := Prod.mk.inj h
      obtain ⟨h2, h3⟩ := Prod.mk.inj h2
      exact d_iret E hr rfl hw h1 (by rw [h2, h3]) dX2_ends_38
    · have h := qi_f c h
      refine lv_iload_n hx hb dX2_ends_18 rfl (lv_at hl 3 rfl) ?_
      refine lv_iconst (v := (0:Int32)) hx hb dX2_ends_19 (by decide) ?_
      refine lv_iconst (v := (3:Int32)) hx hb dX2_ends_20 (by decide) ?_
      obtain ⟨u5, g6, h⟩ := qb1_s h
      refine d_S (As := [.int x3, .int (0:Int32), .int (3:Int32)]) (v0 := some (.int u5)) (w0 := (A, B, L, rs)) hG E hw hl (m_X2_isIn l hG hM  g6) (va_cwS 3 hts (lw_S q1480 q1481 q140 q1482) rfl rfl rfl kd_X2_isIn ⟨Nat.le_of_ble_eq_true rfl, Nat.le_of_ble_eq_true rfl⟩) rfl (rest := []) (st1 := [.int u5]) rfl rfl rfl dX2_ends_21 ⟨Nat.le_of_ble_eq_true rfl, Nat.le_of_ble_eq_true rfl⟩ (fun H locs hw => ?_)
      refine lv_if_eq (tgt := 37) hx hb dX2_ends_24 (by decide) (fun c => ?_) (fun c => ?_)
      · have h := qi_t c h
        refine lv_iconst (v := (-1:Int32)) hx hb dX2_ends_37 (by decide) ?_
        have h := Option.some.inj h
        obtain ⟨h1, h2⟩ := Prod.mk.inj h
        obtain ⟨h2, h3⟩ := Prod.mk.inj h2
        exact d_iret E hr rfl hw h1 (by rw [h2, h3]) dX2_ends_38
      · have h := qi_f c h
        refine lv_iload hx hb dX2_ends_27 (lv_at hl 4 rfl) ?_
        refine lv_iconst (v := (0:Int32)) hx hb dX2_ends_29 (by decide) ?_
        refine lv_iconst (v := (2:Int32)) hx hb dX2_ends_30 (by decide) ?_
        obtain ⟨u7, g8, h⟩ := qb1_s h
        refine d_S (As := [.int x4, .int (0:Int32), .int (2:Int32)]) (v0 := some (.int u7)) (w0 := (A, B, L, rs)) hG E hw hl (m_X2_isIn l hG hM  g8) (va_cwS 3 hts (lw_S q1480 q1481 q140 q1482) rfl rfl rfl kd_X2_isIn ⟨Nat.le_of_ble_eq_true rfl, Nat.le_of_ble_eq_true rfl⟩) rfl (rest := []) (st1 := [.int u7]) rfl rfl rfl dX2_ends_31 ⟨Nat.le_of_ble_eq_true rfl, Nat.le_of_ble_eq_true rfl⟩ (fun H locs hw => ?_)
        refine lv_if_ne (tgt := 39) hx hb dX2_ends_34 (by decide) (fun c => ?_) (fun c => ?_)
        · have h := qi_f c h
          refine lv_aload_n hx hb dX2_ends_39 rfl (lv_at hl 0 rfl) ?_
          refine lv_bipush (v := (40:Int32)) hx hb dX2_ends_40 (by decide) ?_
          obtain ⟨u9, B10, L11, g12, h⟩ := qb3_s h
          refine d_V (As := [.int (40:Int32)]) (v0 := some (.int u9)) (w0 := (A, B10, L11, rs)) hG E hw hl (m_X2_layWinds l hG hM  g12) (qM0 hM) rfl (cwV 1 hts (lw_V q1873 q1875 qs123 q140 q1876) rfl rfl rfl ⟨rfl, kd_X2_layWinds⟩ ⟨Nat.le_of_ble_eq_true rfl, Nat.le_of_ble_eq_true rfl⟩) rfl (rest := []) (st1 := [.int u9]) rfl rfl rfl dX2_ends_42 ⟨Nat.le_of_ble_eq_true rfl, Nat.le_of_ble_eq_true rfl⟩ (fun H locs hw => ?_)
          refine lv_pop hx hb dX2_ends_45 rfl ?_
          refine lv_aload_n hx hb dX2_ends_46 rfl (lv_at hl 0 rfl) ?_
          refine lv_iload_n hx hb dX2_ends_47 rfl (lv_at hl 1 rfl) ?_
          refine lv_iload_n hx hb dX2_ends_48 rfl (lv_at hl 2 rfl) ?_
          refine lv_iload_n hx hb dX2_ends_49 rfl (lv_at hl 3 rfl) ?_
          obtain ⟨u13, B14, L15, g16, h⟩ := qb3_s h
          refine d_V (As := [.int x1, .int x2, .int x3]) (v0 := some (.int u13)) (w0 := (A, B14, L15, rs)) hG E hw hl (m_X2_isEnding l hG hM  g16) (qM0 hM) rfl (cwV 3 hts (lw_V q1889 q1891 qs126 q140 q1892) rfl rfl rfl ⟨rfl, kd_X2_isEnding⟩ ⟨Nat.le_of_ble_eq_true rfl, Nat.le_of_ble_eq_true rfl⟩) rfl (rest := []) (st1 := [.int u13]) rfl rfl rfl dX2_ends_50 ⟨Nat.le_of_ble_eq_true rfl, Nat.le_of_ble_eq_true rfl⟩ (fun H locs hw => ?_)
          refine lv_if_ne (tgt := 58) hx hb dX2_ends_53 (by decide) (fun c => ?_) (fun c => ?_)
          · have h := qi_f c h
            refine lv_iload hx hb dX2_ends_58 (lv_at hl 4 rfl) ?_
            refine lv_if_ne (tgt := 76) hx hb dX2_ends_60 (by decide) (fun c => ?_) (fun c => ?_)
            · have h := qi_f c h
              refine lv_iload hx hb dX2_ends_76 (lv_at hl 4 rfl) ?_
              refine lv_iconst (v := (1:Int32)) hx hb dX2_ends_78 (by decide) ?_
              refine lv_icmp_ne (tgt := 97) hx hb dX2_ends_79 (by decide) (fun c => ?_) (fun c => ?_)
              · have h := qi_f c h
                refine lv_aload_n hx hb dX2_ends_97 rfl (lv_at hl 0 rfl) ?_
                refine r_getM (v := .int (B14 1000 35)) E hw hM 35 (by decide) q1388 rfl dX2_ends_98 ?_
                have h := Option.some.inj h
                obtain ⟨h1, h2⟩ := Prod.mk.inj h
                obtain ⟨h2, h3⟩ := Prod.mk.inj h2
                exact d_iret E hr rfl hw h1 (by rw [h2, h3]) dX2_ends_101
              · have h := qi_t c h
                refine lv_aload_n hx hb dX2_ends_82 rfl (lv_at hl 0 rfl) ?_
                refine r_getM (v := .int (B14 1000 34)) E hw hM 34 (by decide) q1387 rfl dX2_ends_83 ?_
                refine lv_if_eq (tgt := 93) hx hb dX2_ends_86 (by decide) (fun c => ?_) (fun c => ?_)
                · have h := qi_t c h
                  refine lv_iconst (v := (0:Int32)) hx hb dX2_ends_93 (by decide) ?_
                  refine lv_goto (tgt := 101) hx hb dX2_ends_94 (by decide) ?_
                  have h := Option.some.inj h
                  obtain ⟨h1, h2⟩ := Prod.mk.inj h
                  obtain ⟨h2, h3⟩ := Prod.mk.inj h2
                  exact d_iret E hr rfl hw h1 (by rw [h2, h3]) dX2_ends_101
                · have h := qi_f c h
                  refine lv_iconst (v := (1:Int32)) hx hb dX2_ends_89 (by decide) ?_
                  refine lv_goto (tgt := 101) hx hb dX2_ends_90 (by decide) ?_
                  have h := Option.some.inj h
                  obtain ⟨h1, h2⟩ := Prod.mk.inj h
                  obtain ⟨h2, h3⟩ := Prod.mk.inj h2
                  exact d_iret E hr rfl hw h1 (by rw [h2, h3]) dX2_ends_101
            · have h := qi_t c h
              refine lv_iload_n hx hb dX2_ends_63 rfl (lv_at hl 2 rfl) ?_
              refine lv_aload_n hx hb dX2_ends_64 rfl (lv_at hl 0 rfl) ?_
              refine lv_iload_n hx hb dX2_ends_65 rfl (lv_at hl 1 rfl) ?_
              refine lv_iconst (v := (2:Int32)) hx hb dX2_ends_66 (by decide) ?_
              obtain ⟨u17, g18, h⟩ := qb1_s h
              refine d_V (As := [.int x1, .int (2:Int32)]) (v0 := some (.int u17)) (w0 := (A, B14, L15, rs)) hG E hw hl (m_X2_get l hG hM  g18) (qM0 hM) rfl (cwV 2 hts (lw_V q1699 q1701 qs97 q140 q1702) rfl rfl rfl ⟨rfl, kd_X2_get⟩ ⟨Nat.le_of_ble_eq_true rfl, Nat.le_of_ble_eq_true rfl⟩) rfl (rest := [.int x2]) (st1 := [.int u17, .int x2]) rfl rfl rfl dX2_ends_67 ⟨Nat.le_of_ble_eq_true rfl, Nat.le_of_ble_eq_true rfl⟩ (fun H locs hw => ?_)
              refine lv_iadd hx hb dX2_ends_70 ?_
              refine lv_iload_n hx hb dX2_ends_71 rfl (lv_at hl 3 rfl) ?_
              refine lv_iadd hx hb dX2_ends_72 ?_
              refine lv_goto (tgt := 101) hx hb dX2_ends_73 (by decide) ?_
              have h := Option.some.inj h
              obtain ⟨h1, h2⟩ := Prod.mk.inj h
              obtain ⟨h2, h3⟩ := Prod.mk.inj h2
              exact d_iret E hr rfl hw h1 (by rw [h2, h3]) dX2_ends_101
          · have h := qi_t c h
            refine lv_iconst (v := (-1:Int32)) hx hb dX2_ends_56 (by decide) ?_
            have h := Option.some.inj h
            obtain ⟨h1, h2⟩ := Prod.mk.inj h
            obtain ⟨h2, h3⟩ := Prod.mk.inj h2
            exact d_iret E hr rfl hw h1 (by rw [h2, h3]) dX2_ends_57
        · have h := qi_t c h
          refine lv_iconst (v := (-1:Int32)) hx hb dX2_ends_37 (by decide) ?_
          have h := Option.some.inj h
          obtain ⟨h1, h2⟩ := Prod.mk.inj h
          obtain ⟨h2, h3⟩ := Prod.mk.inj h2
          exact d_iret E hr rfl hw h1 (by rw [h2, h3]) dX2_ends_38

theorem m_X2_ends (l : Launch) {K : QK} {G : State → Prop} (hG : QG G) (hM : QMl K) {A : QA} {rs : QX × QM} {x1 : Int32} {x2 : Int32} {x3 : Int32} {x4 : Int32} {B : QA} {L : QL} {ro : Int32} {Bo : QA} {Lo : QL} (h : f_X2_ends x1 x2 x3 x4 B L = some (ro, Bo, Lo)) : MC l K G yX2_ends (ws_ yX2_ends cX2_ends 5 (some .int)) 7 191 0 0 [.ref (K.2.1 1000), .int x1, .int x2, .int x3, .int x4] (A, B, L, rs) (QR (some (.int ro)) (A, Bo, Lo, rs)) := by
  refine MC.of (by decide) (Nat.le_of_ble_eq_true rfl) (lv := [(0, .ref (K.2.1 1000)), (1, .int x1), (2, .int x2), (3, .int x3), (4, .int x4)]) rfl (fun p e s m below meth c ls E hr hl hw => ?_)
  exact w_X2_ends_0 hG hM E hr _ _ _ _ _ _  h hw hl

def f_X2_best_70 (k35 : (Int32 → Int32 → Int32 → Int32 → Int32 → Int32 → QA → QL → Option (Int32 × QA × QL))) (k45 : (Int32 → Int32 → Int32 → Int32 → Int32 → Int32 → Int32 → QA → QL → Option (Int32 × QA × QL))) (x1 : Int32) (x2 : Int32) (x3 : Int32) (x4 : Int32) (x5 : Int32) (x6 : Int32) (x7 : Int32) (B : QA) (L : QL) : Option (Int32 × QA × QL) :=
  qb3 (f_X2_isEnding x1 x6 x7 B L) fun u13 B14 L15 =>
  if u13 = (0:Int32) then (
  qlet (x7 + (1:Int32)) fun x7_17 =>
  k45 x1 x2 x3 x4 x5 x6 x7_17 B14 L15) else (
  if (B14 1000 34) = x2 then (
  qlet (x7 + (1:Int32)) fun x7_19 =>
  k45 x1 x2 x3 x6 x7 x6 x7_19 B14 L15) else (
  qlet (x7 + (1:Int32)) fun x7_21 =>
  k45 x1 x2 x3 x4 x5 x6 x7_21 B14 L15))
set_option maxHeartbeats 4000000 in
theorem w_X2_best_70 {p : Program} {l : Launch} {e : Env} {s : State} {m : MethodId} {args : Array Value} {below : List Frame} {meth : Method} {c : Code} {K : QK} {G : State → Prop} {A : QA} {rs : QX × QM} {ro : Int32} {Bo : QA} {Lo : QL} (hG : QG G) (hM : QMl K) (E : EV K G p s m args meth c cX2_best "VaneCourtModel" 8) (hr : meth.sig.returnType = (some .int)) {k35 : (Int32 → Int32 → Int32 → Int32 → Int32 → Int32 → QA → QL → Option (Int32 × QA × QL))} {k45 : (Int32 → Int32 → Int32 → Int32 → Int32 → Int32 → Int32 → QA → QL → Option (Int32 × QA × QL))} (hk35 : ∀ (x1 : Int32) (x2 : Int32) (x3 : Int32) (x4 : Int32) (x5 : Int32) (x6 : Int32) (B : QA) (L : QL) {H : Heap} {locs : List Loc} {ls : Array Slot}, k35 x1 x2 x3 x4 x5 x6 B L = some (ro, Bo, Lo) → WP K (A, B, L, rs) H locs → lv_has ls 8 [(0, .ref (K.2.1 1000)), (1, .int x1), (2, .int x2), (3, .int x3), (4, .int x4), (5, .int x5), (6, .int x6)] → W p l e (qrm 7 191 0 0) s m args below meth c H locs 0 0 (MQ below (QE K (QR (some (.int ro)) (A, Bo, Lo, rs))) args s 0 0 (qA K)) (F0 m 35 ls [])) (hk45 : ∀ (x1 : Int32) (x2 : Int32) (x3 : Int32) (x4 : Int32) (x5 : Int32) (x6 : Int32) (x7 : Int32) (B : QA) (L : QL) {H : Heap} {locs : List Loc} {ls : Array Slot}, k45 x1 x2 x3 x4 x5 x6 x7 B L = some (ro, Bo, Lo) → WP K (A, B, L, rs) H locs → lv_has ls 8 [(0, .ref (K.2.1 1000)), (1, .int x1), (2, .int x2), (3, .int x3), (4, .int x4), (5, .int x5), (6, .int x6), (7, .int x7)] → W p l e (qrm 7 191 0 0) s m args below meth c H locs 0 0 (MQ below (QE K (QR (some (.int ro)) (A, Bo, Lo, rs))) args s 0 0 (qA K)) (F0 m 45 ls [])) : ∀ (x1 : Int32) (x2 : Int32) (x3 : Int32) (x4 : Int32) (x5 : Int32) (x6 : Int32) (x7 : Int32) (B : QA) (L : QL) {H : Heap} {locs : List Loc} {ls : Array Slot}, f_X2_best_70 k35 k45 x1 x2 x3 x4 x5 x6 x7 B L = some (ro, Bo, Lo) → WP K (A, B, L, rs) H locs → lv_has ls 8 [(0, .ref (K.2.1 1000)), (1, .int x1), (2, .int x2), (3, .int x3), (4, .int x4), (5, .int x5), (6, .int x6), (7, .int x7)] → W p l e (qrm 7 191 0 0) s m args below meth c H locs 0 0 (MQ below (QE K (QR (some (.int ro)) (A, Bo, Lo, rs))) args s 0 0 (qA K)) (F0 m 70 ls []) := by
  have hx := E.1
  have hb := E.2.1
  have hown := E.2.2.1
  have hts := E.2.2.2.2.1
  intro x1 x2 x3 x4 x5 x6 x7 B L H locs ls  h hw hl
  rw [f_X2_best_70] at h
  refine lv_aload_n hx hb dX2_best_70 rfl (lv_at hl 0 rfl) ?_
  refine lv_iload_n hx hb dX2_best_71 rfl (lv_at hl 1 rfl) ?_
  refine lv_iload hx hb dX2_best_72 (lv_at hl 6 rfl) ?_
  refine lv_iload hx hb dX2_best_74 (lv_at hl 7 rfl) ?_
  obtain ⟨u13, B14, L15, g16, h⟩ := qb3_s h
  refine d_V (As := [.int x1, .int x6, .int x7]) (v0 := some (.int u13)) (w0 := (A, B14, L15, rs)) hG E hw hl (m_X2_isEnding l hG hM  g16) (qM0 hM) rfl (cwV 3 hts (lw_V q1889 q1891 qs126 q140 q1892) rfl rfl rfl ⟨rfl, kd_X2_isEnding⟩ ⟨Nat.le_of_ble_eq_true rfl, Nat.le_of_ble_eq_true rfl⟩) rfl (rest := []) (st1 := [.int u13]) rfl rfl rfl dX2_best_76 ⟨Nat.le_of_ble_eq_true rfl, Nat.le_of_ble_eq_true rfl⟩ (fun H locs hw => ?_)
  refine lv_if_eq (tgt := 101) hx hb dX2_best_79 (by decide) (fun c => ?_) (fun c => ?_)
  · have h := qi_t c h
    obtain ⟨x7_17, e18, h⟩ := qlet_s h
    refine lv_iinc (v := x7_17) (lv' := [(7, .int x7_17), (0, .ref (K.2.1 1000)), (1, .int x1), (2, .int x2), (3, .int x3), (4, .int x4), (5, .int x5), (6, .int x6)]) (k := 7) hx hb dX2_best_101 hl rfl (by rw [e18]; rfl) (by decide) rfl (fun ls hl => ?_)
    refine lv_goto (tgt := 45) hx hb dX2_best_104 (by decide) ?_
    exact hk45 _ _ _ _ _ _ _ _ _  h hw (lv_sub hl [1, 2, 3, 4, 5, 6, 7, 0] rfl)
  · have h := qi_f c h
    refine lv_aload_n hx hb dX2_best_82 rfl (lv_at hl 0 rfl) ?_
    refine r_getM (v := .int (B14 1000 34)) E hw hM 34 (by decide) q1387 rfl dX2_best_83 ?_
    refine lv_iload_n hx hb dX2_best_86 rfl (lv_at hl 2 rfl) ?_
    refine lv_icmp_eq (tgt := 93) hx hb dX2_best_87 (by decide) (fun c => ?_) (fun c => ?_)
    · have h := qi_t c h
      refine lv_iload hx hb dX2_best_93 (lv_at hl 6 rfl) ?_
      refine lv_istore (lv' := [(4, .int x6), (0, .ref (K.2.1 1000)), (1, .int x1), (2, .int x2), (3, .int x3), (5, .int x5), (6, .int x6), (7, .int x7)]) hx hb dX2_best_95 hl (by decide) rfl (fun ls hl => ?_)
      refine lv_iload hx hb dX2_best_97 (lv_at hl 7 rfl) ?_
      refine lv_istore (lv' := [(5, .int x7), (4, .int x6), (0, .ref (K.2.1 1000)), (1, .int x1), (2, .int x2), (3, .int x3), (6, .int x6), (7, .int x7)]) hx hb dX2_best_99 hl (by decide) rfl (fun ls hl => ?_)
      obtain ⟨x7_19, e20, h⟩ := qlet_s h
      refine lv_iinc (v := x7_19) (lv' := [(7, .int x7_19), (5, .int x7), (4, .int x6), (0, .ref (K.2.1 1000)), (1, .int x1), (2, .int x2), (3, .int x3), (6, .int x6)]) (k := 7) hx hb dX2_best_101 hl rfl (by rw [e20]; rfl) (by decide) rfl (fun ls hl => ?_)
      refine lv_goto (tgt := 45) hx hb dX2_best_104 (by decide) ?_
      exact hk45 _ _ _ _ _ _ _ _ _  h hw (lv_sub hl [3, 4, 5, 6, 2, 1, 7, 0] rfl)
    · have h := qi_f c h
      refine lv_goto (tgt := 101) hx hb dX2_best_90 (by decide) ?_
      obtain ⟨x7_21, e22, h⟩ := qlet_s h
      refine lv_iinc (v := x7_21) (lv' := [(7, .int x7_21), (0, .ref (K.2.1 1000)), (1, .int x1), (2, .int x2), (3, .int x3), (4, .int x4), (5, .int x5), (6, .int x6)]) (k := 7) hx hb dX2_best_101 hl rfl (by rw [e22]; rfl) (by decide) rfl (fun ls hl => ?_)
      refine lv_goto (tgt := 45) hx hb dX2_best_104 (by decide) ?_
      exact hk45 _ _ _ _ _ _ _ _ _  h hw (lv_sub hl [1, 2, 3, 4, 5, 6, 7, 0] rfl)

def f_X2_best_45 (k35 : (Int32 → Int32 → Int32 → Int32 → Int32 → Int32 → QA → QL → Option (Int32 × QA × QL))) : Nat → Int32 → Int32 → Int32 → Int32 → Int32 → Int32 → Int32 → QA → QL → Option (Int32 × QA × QL)
  | 0, _, _, _, _, _, _, _, _, _ => none
  | n + 1, x1, x2, x3, x4, x5, x6, x7, B, L => if (3:Int32) < x7 then (
  qlet (x6 + (1:Int32)) fun x6_11 =>
  k35 x1 x2 x3 x4 x5 x6_11 B L) else (
  if x4 = (-1:Int32) then (
  f_X2_best_70 k35 (fun x1' x2' x3' x4' x5' x6' x7' B' L' => f_X2_best_45 k35 n x1' x2' x3' x4' x5' x6' x7' B' L') x1 x2 x3 x4 x5 x6 x7 B L) else (
  if (x4 + x5) ≤ (x6 + x7) then (
  qlet (x7 + (1:Int32)) fun x7_23 =>
  f_X2_best_45 k35 n x1 x2 x3 x4 x5 x6 x7_23 B L) else (
  f_X2_best_70 k35 (fun x1' x2' x3' x4' x5' x6' x7' B' L' => f_X2_best_45 k35 n x1' x2' x3' x4' x5' x6' x7' B' L') x1 x2 x3 x4 x5 x6 x7 B L)))
set_option maxHeartbeats 4000000 in
theorem w_X2_best_45 {p : Program} {l : Launch} {e : Env} {s : State} {m : MethodId} {args : Array Value} {below : List Frame} {meth : Method} {c : Code} {K : QK} {G : State → Prop} {A : QA} {rs : QX × QM} {ro : Int32} {Bo : QA} {Lo : QL} (hG : QG G) (hM : QMl K) (E : EV K G p s m args meth c cX2_best "VaneCourtModel" 8) (hr : meth.sig.returnType = (some .int)) {k35 : (Int32 → Int32 → Int32 → Int32 → Int32 → Int32 → QA → QL → Option (Int32 × QA × QL))} (hk35 : ∀ (x1 : Int32) (x2 : Int32) (x3 : Int32) (x4 : Int32) (x5 : Int32) (x6 : Int32) (B : QA) (L : QL) {H : Heap} {locs : List Loc} {ls : Array Slot}, k35 x1 x2 x3 x4 x5 x6 B L = some (ro, Bo, Lo) → WP K (A, B, L, rs) H locs → lv_has ls 8 [(0, .ref (K.2.1 1000)), (1, .int x1), (2, .int x2), (3, .int x3), (4, .int x4), (5, .int x5), (6, .int x6)] → W p l e (qrm 7 191 0 0) s m args below meth c H locs 0 0 (MQ below (QE K (QR (some (.int ro)) (A, Bo, Lo, rs))) args s 0 0 (qA K)) (F0 m 35 ls [])) : ∀ (n : Nat) (x1 : Int32) (x2 : Int32) (x3 : Int32) (x4 : Int32) (x5 : Int32) (x6 : Int32) (x7 : Int32) (B : QA) (L : QL) {H : Heap} {locs : List Loc} {ls : Array Slot}, f_X2_best_45 k35 n x1 x2 x3 x4 x5 x6 x7 B L = some (ro, Bo, Lo) → WP K (A, B, L, rs) H locs → lv_has ls 8 [(0, .ref (K.2.1 1000)), (1, .int x1), (2, .int x2), (3, .int x3), (4, .int x4), (5, .int x5), (6, .int x6), (7, .int x7)] → W p l e (qrm 7 191 0 0) s m args below meth c H locs 0 0 (MQ below (QE K (QR (some (.int ro)) (A, Bo, Lo, rs))) args s 0 0 (qA K)) (F0 m 45 ls []) := by
  have hx := E.1
  have hb := E.2.1
  have hown := E.2.2.1
  have hts := E.2.2.2.2.1
  intro n
  induction n with
  | zero =>
    intro x1 x2 x3 x4 x5 x6 x7 B L H locs ls  h hw hl
    cases h
  | succ n ih =>
    intro x1 x2 x3 x4 x5 x6 x7 B L H locs ls  h hw hl
    rw [f_X2_best_45] at h
    refine lv_iload hx hb dX2_best_45 (lv_at hl 7 rfl) ?_
    refine lv_iconst (v := (3:Int32)) hx hb dX2_best_47 (by decide) ?_
    refine lv_icmp_gt (tgt := 107) hx hb dX2_best_48 (by decide) (fun c => ?_) (fun c => ?_)
    · have h := qi_t c h
      obtain ⟨x6_11, e12, h⟩ := qlet_s h
      refine lv_iinc (v := x6_11) (lv' := [(6, .int x6_11), (0, .ref (K.2.1 1000)), (1, .int x1), (2, .int x2), (3, .int x3), (4, .int x4), (5, .int x5), (7, .int x7)]) (k := 6) hx hb dX2_best_107 hl rfl (by rw [e12]; rfl) (by decide) rfl (fun ls hl => ?_)
      refine lv_goto (tgt := 35) hx hb dX2_best_110 (by decide) ?_
      exact hk35 _ _ _ _ _ _ _ _  h hw (lv_sub hl [1, 2, 3, 4, 5, 6, 0] rfl)
    · have h := qi_f c h
      refine lv_iload hx hb dX2_best_51 (lv_at hl 4 rfl) ?_
      refine lv_iconst (v := (-1:Int32)) hx hb dX2_best_53 (by decide) ?_
      refine lv_icmp_eq (tgt := 70) hx hb dX2_best_54 (by decide) (fun c => ?_) (fun c => ?_)
      · have h := qi_t c h
        exact w_X2_best_70 hG hM E hr hk35 ih _ _ _ _ _ _ _ _ _   h hw (lv_sub hl [0, 1, 2, 3, 4, 5, 6, 7] rfl)
      · have h := qi_f c h
        refine lv_iload hx hb dX2_best_57 (lv_at hl 6 rfl) ?_
        refine lv_iload hx hb dX2_best_59 (lv_at hl 7 rfl) ?_
        refine lv_iadd hx hb dX2_best_61 ?_
        refine lv_iload hx hb dX2_best_62 (lv_at hl 4 rfl) ?_
        refine lv_iload hx hb dX2_best_64 (lv_at hl 5 rfl) ?_
        refine lv_iadd hx hb dX2_best_66 ?_
        refine lv_icmp_ge (tgt := 101) hx hb dX2_best_67 (by decide) (fun c => ?_) (fun c => ?_)
        · have h := qi_t c h
          obtain ⟨x7_23, e24, h⟩ := qlet_s h
          refine lv_iinc (v := x7_23) (lv' := [(7, .int x7_23), (0, .ref (K.2.1 1000)), (1, .int x1), (2, .int x2), (3, .int x3), (4, .int x4), (5, .int x5), (6, .int x6)]) (k := 7) hx hb dX2_best_101 hl rfl (by rw [e24]; rfl) (by decide) rfl (fun ls hl => ?_)
          refine lv_goto (tgt := 45) hx hb dX2_best_104 (by decide) ?_
          exact ih _ _ _ _ _ _ _ _ _  h hw (lv_sub hl [1, 2, 3, 4, 5, 6, 7, 0] rfl)
        · have h := qi_f c h
          exact w_X2_best_70 hG hM E hr hk35 ih _ _ _ _ _ _ _ _ _   h hw (lv_sub hl [0, 1, 2, 3, 4, 5, 6, 7] rfl)

def f_X2_best_35 : Nat → Int32 → Int32 → Int32 → Int32 → Int32 → Int32 → QA → QL → Option (Int32 × QA × QL)
  | 0, _, _, _, _, _, _, _, _ => none
  | n + 1, x1, x2, x3, x4, x5, x6, B, L => if (20:Int32) < x6 then (
  if x4 = (-1:Int32) then (
  some ((-1:Int32), B, L)) else (
  if x3 = (0:Int32) then (
  some (x4, B, L)) else (
  if x3 = (1:Int32) then (
  some (x5, B, L)) else (
  qb1 (f_X2_get x1 (2:Int32) B) fun u9 =>
  some (((x4 + x5) + u9), B, L))))) else (
  f_X2_best_45 (fun x1' x2' x3' x4' x5' x6' B' L' => f_X2_best_35 n x1' x2' x3' x4' x5' x6' B' L') FU x1 x2 x3 x4 x5 x6 (0:Int32) B L)
set_option maxHeartbeats 4000000 in
theorem w_X2_best_35 {p : Program} {l : Launch} {e : Env} {s : State} {m : MethodId} {args : Array Value} {below : List Frame} {meth : Method} {c : Code} {K : QK} {G : State → Prop} {A : QA} {rs : QX × QM} {ro : Int32} {Bo : QA} {Lo : QL} (hG : QG G) (hM : QMl K) (E : EV K G p s m args meth c cX2_best "VaneCourtModel" 8) (hr : meth.sig.returnType = (some .int)) : ∀ (n : Nat) (x1 : Int32) (x2 : Int32) (x3 : Int32) (x4 : Int32) (x5 : Int32) (x6 : Int32) (B : QA) (L : QL) {H : Heap} {locs : List Loc} {ls : Array Slot}, f_X2_best_35 n x1 x2 x3 x4 x5 x6 B L = some (ro, Bo, Lo) → WP K (A, B, L, rs) H locs → lv_has ls 8 [(0, .ref (K.2.1 1000)), (1, .int x1), (2, .int x2), (3, .int x3), (4, .int x4), (5, .int x5), (6, .int x6)] → W p l e (qrm 7 191 0 0) s m args below meth c H locs 0 0 (MQ below (QE K (QR (some (.int ro)) (A, Bo, Lo, rs))) args s 0 0 (qA K)) (F0 m 35 ls []) := by
  have hx := E.1
  have hb := E.2.1
  have hown := E.2.2.1
  have hts := E.2.2.2.2.1
  intro n
  induction n with
  | zero =>
    intro x1 x2 x3 x4 x5 x6 B L H locs ls  h hw hl
    cases h
  | succ n ih =>
    intro x1 x2 x3 x4 x5 x6 B L H locs ls  h hw hl
    rw [f_X2_best_35] at h
    refine lv_iload hx hb dX2_best_35 (lv_at hl 6 rfl) ?_
    refine lv_bipush (v := (20:Int32)) hx hb dX2_best_37 (by decide) ?_
    refine lv_icmp_gt (tgt := 113) hx hb dX2_best_39 (by decide) (fun c => ?_) (fun c => ?_)
    · have h := qi_t c h
      refine lv_iload hx hb dX2_best_113 (lv_at hl 4 rfl) ?_
      refine lv_iconst (v := (-1:Int32)) hx hb dX2_best_115 (by decide) ?_
      refine lv_icmp_ne (tgt := 121) hx hb dX2_best_116 (by decide) (fun c => ?_) (fun c => ?_)
      · have h := qi_f c h
        refine lv_iload_n hx hb dX2_best_121 rfl (lv_at hl 3 rfl) ?_
        refine lv_if_ne (tgt := 130) hx hb dX2_best_122 (by decide) (fun c => ?_) (fun c => ?_)
        · have h := qi_f c h
          refine lv_iload_n hx hb dX2_best_130 rfl (lv_at hl 3 rfl) ?_
          refine lv_iconst (v := (1:Int32)) hx hb dX2_best_131 (by decide) ?_
          refine lv_icmp_ne (tgt := 140) hx hb dX2_best_132 (by decide) (fun c => ?_) (fun c => ?_)
          · have h := qi_f c h
            refine lv_iload hx hb dX2_best_140 (lv_at hl 4 rfl) ?_
            refine lv_iload hx hb dX2_best_142 (lv_at hl 5 rfl) ?_
            refine lv_iadd hx hb dX2_best_144 ?_
            refine lv_aload_n hx hb dX2_best_145 rfl (lv_at hl 0 rfl) ?_
            refine lv_iload_n hx hb dX2_best_146 rfl (lv_at hl 1 rfl) ?_
            refine lv_iconst (v := (2:Int32)) hx hb dX2_best_147 (by decide) ?_
            obtain ⟨u9, g10, h⟩ := qb1_s h
            refine d_V (As := [.int x1, .int (2:Int32)]) (v0 := some (.int u9)) (w0 := (A, B, L, rs)) hG E hw hl (m_X2_get l hG hM  g10) (qM0 hM) rfl (cwV 2 hts (lw_V q1699 q1701 qs97 q140 q1702) rfl rfl rfl ⟨rfl, kd_X2_get⟩ ⟨Nat.le_of_ble_eq_true rfl, Nat.le_of_ble_eq_true rfl⟩) rfl (rest := [.int (x4 + x5)]) (st1 := [.int u9, .int (x4 + x5)]) rfl rfl rfl dX2_best_148 ⟨Nat.le_of_ble_eq_true rfl, Nat.le_of_ble_eq_true rfl⟩ (fun H locs hw => ?_)
            refine lv_iadd hx hb dX2_best_151 ?_
            have h := Option.some.inj h
            obtain ⟨h1, h2⟩ := Prod.mk.inj h
            obtain ⟨h2, h3⟩ := Prod.mk.inj h2
            exact d_iret E hr rfl hw h1 (by rw [h2, h3]) dX2_best_152
          · have h := qi_t c h
            refine lv_iload hx hb dX2_best_135 (lv_at hl 5 rfl) ?_
            refine lv_goto (tgt := 152) hx hb dX2_best_137 (by decide) ?_
            have h := Option.some.inj h
            obtain ⟨h1, h2⟩ := Prod.mk.inj h
            obtain ⟨h2, h3⟩ := Prod.mk.inj h2
            exact d_iret E hr rfl hw h1 (by rw [h2, h3]) dX2_best_152
        · have h := qi_t c h
          refine lv_iload hx hb dX2_best_125 (lv_at hl 4 rfl) ?_
          refine lv_goto (tgt := 152) hx hb dX2_best_127 (by decide) ?_
          have h := Option.some.inj h
          obtain ⟨h1, h2⟩ := Prod.mk.inj h
          obtain ⟨h2, h3⟩ := Prod.mk.inj h2
          exact d_iret E hr rfl hw h1 (by rw [h2, h3]) dX2_best_152
      · have h := qi_t c h
        refine lv_iconst (v := (-1:Int32)) hx hb dX2_best_119 (by decide) ?_
        have h := Option.some.inj h
        obtain ⟨h1, h2⟩ := Prod.mk.inj h
        obtain ⟨h2, h3⟩ := Prod.mk.inj h2
        exact d_iret E hr rfl hw h1 (by rw [h2, h3]) dX2_best_120
    · have h := qi_f c h
      refine lv_iconst (v := (0:Int32)) hx hb dX2_best_42 (by decide) ?_
      refine lv_istore (lv' := [(7, .int (0:Int32)), (0, .ref (K.2.1 1000)), (1, .int x1), (2, .int x2), (3, .int x3), (4, .int x4), (5, .int x5), (6, .int x6)]) hx hb dX2_best_43 hl (by decide) rfl (fun ls hl => ?_)
      exact w_X2_best_45 hG hM E hr ih _ _ _ _ _ _ _ _ _ _   h hw (lv_sub hl [1, 2, 3, 4, 5, 6, 7, 0] rfl)

def f_X2_best (x1 : Int32) (x2 : Int32) (x3 : Int32) (B : QA) (L : QL) : Option (Int32 × QA × QL) :=
  qb1 (f_X2_isWaiting x1 B) fun u1 =>
  if u1 = (0:Int32) then (
  some ((-1:Int32), B, L)) else (
  qb1 (f_X2_isIn x3 (0:Int32) (2:Int32)) fun u3 =>
  if u3 = (0:Int32) then (
  some ((-1:Int32), B, L)) else (
  qb3 (f_X2_layWinds (40:Int32) B L) fun u5 B6 L7 =>
  f_X2_best_35 FU x1 x2 x3 (-1:Int32) (0:Int32) (0:Int32) B6 L7))
set_option maxHeartbeats 4000000 in
theorem w_X2_best_0 {p : Program} {l : Launch} {e : Env} {s : State} {m : MethodId} {args : Array Value} {below : List Frame} {meth : Method} {c : Code} {K : QK} {G : State → Prop} {A : QA} {rs : QX × QM} {ro : Int32} {Bo : QA} {Lo : QL} (hG : QG G) (hM : QMl K) (E : EV K G p s m args meth c cX2_best "VaneCourtModel" 8) (hr : meth.sig.returnType = (some .int)) : ∀ (x1 : Int32) (x2 : Int32) (x3 : Int32) (B : QA) (L : QL) {H : Heap} {locs : List Loc} {ls : Array Slot}, f_X2_best x1 x2 x3 B L = some (ro, Bo, Lo) → WP K (A, B, L, rs) H locs → lv_has ls 8 [(0, .ref (K.2.1 1000)), (1, .int x1), (2, .int x2), (3, .int x3)] → W p l e (qrm 7 191 0 0) s m args below meth c H locs 0 0 (MQ below (QE K (QR (some (.int ro)) (A, Bo, Lo, rs))) args s 0 0 (qA K)) (F0 m 0 ls []) := by
  have hx := E.1
  have hb := E.2.1
  have hown := E.2.2.1
  have hts := E.2.2.2.2.1
  intro x1 x2 x3 B L H locs ls  h hw hl
  rw [f_X2_best] at h
  refine lv_aload_n hx hb dX2_best_0 rfl (lv_at hl 0 rfl) ?_
  refine lv_iload_n hx hb dX2_best_1 rfl (lv_at hl 1 rfl) ?_
  obtain ⟨u1, g2, h⟩ := qb1_s h
  refine d_V (As := [.int x1]) (v0 := some (.int u1)) (w0 := (A, B, L, rs)) hG E hw hl (m_X2_isWaiting l hG hM  g2) (qM0 hM) rfl (cwV 1 hts (lw_V q1691 q1693 qs95 q140 q1694) rfl rfl rfl ⟨rfl, kd_X2_isWaiting⟩ ⟨Nat.le_of_ble_eq_true rfl, Nat.le_of_ble_eq_true rfl⟩) rfl (rest := []) (st1 := [.int u1]) rfl rfl rfl dX2_best_2 ⟨Nat.le_of_ble_eq_true rfl, Nat.le_of_ble_eq_true rfl⟩ (fun H locs hw => ?_)
  refine lv_if_eq (tgt := 17) hx hb dX2_best_5 (by decide) (fun c => ?_) (fun c => ?_)
  · have h := qi_t c h
    refine lv_iconst (v := (-1:Int32)) hx hb dX2_best_17 (by decide) ?_
    have h := Option.some.inj h
    obtain ⟨h1, h2⟩ := Prod.mk.inj h
    obtain ⟨h2, h3⟩ := Prod.mk.inj h2
    exact d_iret E hr rfl hw h1 (by rw [h2, h3]) dX2_best_18
  · have h := qi_f c h
    refine lv_iload_n hx hb dX2_best_8 rfl (lv_at hl 3 rfl) ?_
    refine lv_iconst (v := (0:Int32)) hx hb dX2_best_9 (by decide) ?_
    refine lv_iconst (v := (2:Int32)) hx hb dX2_best_10 (by decide) ?_
    obtain ⟨u3, g4, h⟩ := qb1_s h
    refine d_S (As := [.int x3, .int (0:Int32), .int (2:Int32)]) (v0 := some (.int u3)) (w0 := (A, B, L, rs)) hG E hw hl (m_X2_isIn l hG hM  g4) (va_cwS 3 hts (lw_S q1480 q1481 q140 q1482) rfl rfl rfl kd_X2_isIn ⟨Nat.le_of_ble_eq_true rfl, Nat.le_of_ble_eq_true rfl⟩) rfl (rest := []) (st1 := [.int u3]) rfl rfl rfl dX2_best_11 ⟨Nat.le_of_ble_eq_true rfl, Nat.le_of_ble_eq_true rfl⟩ (fun H locs hw => ?_)
    refine lv_if_ne (tgt := 19) hx hb dX2_best_14 (by decide) (fun c => ?_) (fun c => ?_)
    · have h := qi_f c h
      refine lv_aload_n hx hb dX2_best_19 rfl (lv_at hl 0 rfl) ?_
      refine lv_bipush (v := (40:Int32)) hx hb dX2_best_20 (by decide) ?_
      obtain ⟨u5, B6, L7, g8, h⟩ := qb3_s h
      refine d_V (As := [.int (40:Int32)]) (v0 := some (.int u5)) (w0 := (A, B6, L7, rs)) hG E hw hl (m_X2_layWinds l hG hM  g8) (qM0 hM) rfl (cwV 1 hts (lw_V q1873 q1875 qs123 q140 q1876) rfl rfl rfl ⟨rfl, kd_X2_layWinds⟩ ⟨Nat.le_of_ble_eq_true rfl, Nat.le_of_ble_eq_true rfl⟩) rfl (rest := []) (st1 := [.int u5]) rfl rfl rfl dX2_best_22 ⟨Nat.le_of_ble_eq_true rfl, Nat.le_of_ble_eq_true rfl⟩ (fun H locs hw => ?_)
      refine lv_pop hx hb dX2_best_25 rfl ?_
      refine lv_iconst (v := (-1:Int32)) hx hb dX2_best_26 (by decide) ?_
      refine lv_istore (lv' := [(4, .int (-1:Int32)), (0, .ref (K.2.1 1000)), (1, .int x1), (2, .int x2), (3, .int x3)]) hx hb dX2_best_27 hl (by decide) rfl (fun ls hl => ?_)
      refine lv_iconst (v := (0:Int32)) hx hb dX2_best_29 (by decide) ?_
      refine lv_istore (lv' := [(5, .int (0:Int32)), (4, .int (-1:Int32)), (0, .ref (K.2.1 1000)), (1, .int x1), (2, .int x2), (3, .int x3)]) hx hb dX2_best_30 hl (by decide) rfl (fun ls hl => ?_)
      refine lv_iconst (v := (0:Int32)) hx hb dX2_best_32 (by decide) ?_
      refine lv_istore (lv' := [(6, .int (0:Int32)), (5, .int (0:Int32)), (4, .int (-1:Int32)), (0, .ref (K.2.1 1000)), (1, .int x1), (2, .int x2), (3, .int x3)]) hx hb dX2_best_33 hl (by decide) rfl (fun ls hl => ?_)
      exact w_X2_best_35 hG hM E hr  _ _ _ _ _ _ _ _ _   h hw (lv_sub hl [3, 4, 5, 6, 2, 1, 0] rfl)
    · have h := qi_t c h
      refine lv_iconst (v := (-1:Int32)) hx hb dX2_best_17 (by decide) ?_
      have h := Option.some.inj h
      obtain ⟨h1, h2⟩ := Prod.mk.inj h
      obtain ⟨h2, h3⟩ := Prod.mk.inj h2
      exact d_iret E hr rfl hw h1 (by rw [h2, h3]) dX2_best_18

theorem m_X2_best (l : Launch) {K : QK} {G : State → Prop} (hG : QG G) (hM : QMl K) {A : QA} {rs : QX × QM} {x1 : Int32} {x2 : Int32} {x3 : Int32} {B : QA} {L : QL} {ro : Int32} {Bo : QA} {Lo : QL} (h : f_X2_best x1 x2 x3 B L = some (ro, Bo, Lo)) : MC l K G yX2_best (ws_ yX2_best cX2_best 8 (some .int)) 7 191 0 0 [.ref (K.2.1 1000), .int x1, .int x2, .int x3] (A, B, L, rs) (QR (some (.int ro)) (A, Bo, Lo, rs)) := by
  refine MC.of (by decide) (Nat.le_of_ble_eq_true rfl) (lv := [(0, .ref (K.2.1 1000)), (1, .int x1), (2, .int x2), (3, .int x3)]) rfl (fun p e s m below meth c ls E hr hl hw => ?_)
  exact w_X2_best_0 hG hM E hr _ _ _ _ _  h hw hl

def f_X2_harshest_30 (k21 : (Int32 → Int32 → Int32 → QA → QL → Option (Int32 × QA × QL))) : Nat → Int32 → Int32 → Int32 → Int32 → QA → QL → Option (Int32 × QA × QL)
  | 0, _, _, _, _, _, _ => none
  | n + 1, x1, x2, x3, x4, B, L => if (3:Int32) < x4 then (
  qlet (x3 + (1:Int32)) fun x3_7 =>
  k21 x1 x2 x3_7 B L) else (
  qb3 (f_X2_isEnding x1 x3 x4 B L) fun u9 B10 L11 =>
  if u9 = (0:Int32) then (
  qlet (x4 + (1:Int32)) fun x4_13 =>
  f_X2_harshest_30 k21 n x1 x2 x3 x4_13 B10 L11) else (
  if (B10 1000 35) ≤ x2 then (
  qlet (x4 + (1:Int32)) fun x4_15 =>
  f_X2_harshest_30 k21 n x1 x2 x3 x4_15 B10 L11) else (
  qlet (B10 1000 35) fun x2_17 =>
  qlet (x4 + (1:Int32)) fun x4_19 =>
  f_X2_harshest_30 k21 n x1 x2_17 x3 x4_19 B10 L11)))
set_option maxHeartbeats 4000000 in
theorem w_X2_harshest_30 {p : Program} {l : Launch} {e : Env} {s : State} {m : MethodId} {args : Array Value} {below : List Frame} {meth : Method} {c : Code} {K : QK} {G : State → Prop} {A : QA} {rs : QX × QM} {ro : Int32} {Bo : QA} {Lo : QL} (hG : QG G) (hM : QMl K) (E : EV K G p s m args meth c cX2_harshest "VaneCourtModel" 5) (hr : meth.sig.returnType = (some .int)) {k21 : (Int32 → Int32 → Int32 → QA → QL → Option (Int32 × QA × QL))} (hk21 : ∀ (x1 : Int32) (x2 : Int32) (x3 : Int32) (B : QA) (L : QL) {H : Heap} {locs : List Loc} {ls : Array Slot}, k21 x1 x2 x3 B L = some (ro, Bo, Lo) → WP K (A, B, L, rs) H locs → lv_has ls 5 [(0, .ref (K.2.1 1000)), (1, .int x1), (2, .int x2), (3, .int x3)] → W p l e (qrm 7 191 0 0) s m args below meth c H locs 0 0 (MQ below (QE K (QR (some (.int ro)) (A, Bo, Lo, rs))) args s 0 0 (qA K)) (F0 m 21 ls [])) : ∀ (n : Nat) (x1 : Int32) (x2 : Int32) (x3 : Int32) (x4 : Int32) (B : QA) (L : QL) {H : Heap} {locs : List Loc} {ls : Array Slot}, f_X2_harshest_30 k21 n x1 x2 x3 x4 B L = some (ro, Bo, Lo) → WP K (A, B, L, rs) H locs → lv_has ls 5 [(0, .ref (K.2.1 1000)), (1, .int x1), (2, .int x2), (3, .int x3), (4, .int x4)] → W p l e (qrm 7 191 0 0) s m args below meth c H locs 0 0 (MQ below (QE K (QR (some (.int ro)) (A, Bo, Lo, rs))) args s 0 0 (qA K)) (F0 m 30 ls []) := by
  have hx := E.1
  have hb := E.2.1
  have hown := E.2.2.1
  have hts := E.2.2.2.2.1
  intro n
  induction n with
  | zero =>
    intro x1 x2 x3 x4 B L H locs ls  h hw hl
    cases h
  | succ n ih =>
    intro x1 x2 x3 x4 B L H locs ls  h hw hl
    rw [f_X2_harshest_30] at h
    refine lv_iload hx hb dX2_harshest_30 (lv_at hl 4 rfl) ?_
    refine lv_iconst (v := (3:Int32)) hx hb dX2_harshest_32 (by decide) ?_
    refine lv_icmp_gt (tgt := 66) hx hb dX2_harshest_33 (by decide) (fun c => ?_) (fun c => ?_)
    · have h := qi_t c h
      obtain ⟨x3_7, e8, h⟩ := qlet_s h
      refine lv_iinc (v := x3_7) (lv' := [(3, .int x3_7), (0, .ref (K.2.1 1000)), (1, .int x1), (2, .int x2), (4, .int x4)]) (k := 3) hx hb dX2_harshest_66 hl rfl (by rw [e8]; rfl) (by decide) rfl (fun ls hl => ?_)
      refine lv_goto (tgt := 21) hx hb dX2_harshest_69 (by decide) ?_
      exact hk21 _ _ _ _ _  h hw (lv_sub hl [1, 2, 3, 0] rfl)
    · have h := qi_f c h
      refine lv_aload_n hx hb dX2_harshest_36 rfl (lv_at hl 0 rfl) ?_
      refine lv_iload_n hx hb dX2_harshest_37 rfl (lv_at hl 1 rfl) ?_
      refine lv_iload_n hx hb dX2_harshest_38 rfl (lv_at hl 3 rfl) ?_
      refine lv_iload hx hb dX2_harshest_39 (lv_at hl 4 rfl) ?_
      obtain ⟨u9, B10, L11, g12, h⟩ := qb3_s h
      refine d_V (As := [.int x1, .int x3, .int x4]) (v0 := some (.int u9)) (w0 := (A, B10, L11, rs)) hG E hw hl (m_X2_isEnding l hG hM  g12) (qM0 hM) rfl (cwV 3 hts (lw_V q1889 q1891 qs126 q140 q1892) rfl rfl rfl ⟨rfl, kd_X2_isEnding⟩ ⟨Nat.le_of_ble_eq_true rfl, Nat.le_of_ble_eq_true rfl⟩) rfl (rest := []) (st1 := [.int u9]) rfl rfl rfl dX2_harshest_41 ⟨Nat.le_of_ble_eq_true rfl, Nat.le_of_ble_eq_true rfl⟩ (fun H locs hw => ?_)
      refine lv_if_eq (tgt := 60) hx hb dX2_harshest_44 (by decide) (fun c => ?_) (fun c => ?_)
      · have h := qi_t c h
        obtain ⟨x4_13, e14, h⟩ := qlet_s h
        refine lv_iinc (v := x4_13) (lv' := [(4, .int x4_13), (0, .ref (K.2.1 1000)), (1, .int x1), (2, .int x2), (3, .int x3)]) (k := 4) hx hb dX2_harshest_60 hl rfl (by rw [e14]; rfl) (by decide) rfl (fun ls hl => ?_)
        refine lv_goto (tgt := 30) hx hb dX2_harshest_63 (by decide) ?_
        exact ih _ _ _ _ _ _  h hw (lv_sub hl [1, 2, 3, 4, 0] rfl)
      · have h := qi_f c h
        refine lv_aload_n hx hb dX2_harshest_47 rfl (lv_at hl 0 rfl) ?_
        refine r_getM (v := .int (B10 1000 35)) E hw hM 35 (by decide) q1388 rfl dX2_harshest_48 ?_
        refine lv_iload_n hx hb dX2_harshest_51 rfl (lv_at hl 2 rfl) ?_
        refine lv_icmp_le (tgt := 60) hx hb dX2_harshest_52 (by decide) (fun c => ?_) (fun c => ?_)
        · have h := qi_t c h
          obtain ⟨x4_15, e16, h⟩ := qlet_s h
          refine lv_iinc (v := x4_15) (lv' := [(4, .int x4_15), (0, .ref (K.2.1 1000)), (1, .int x1), (2, .int x2), (3, .int x3)]) (k := 4) hx hb dX2_harshest_60 hl rfl (by rw [e16]; rfl) (by decide) rfl (fun ls hl => ?_)
          refine lv_goto (tgt := 30) hx hb dX2_harshest_63 (by decide) ?_
          exact ih _ _ _ _ _ _  h hw (lv_sub hl [1, 2, 3, 4, 0] rfl)
        · have h := qi_f c h
          refine lv_aload_n hx hb dX2_harshest_55 rfl (lv_at hl 0 rfl) ?_
          refine r_getM (v := .int (B10 1000 35)) E hw hM 35 (by decide) q1388 rfl dX2_harshest_56 ?_
          obtain ⟨x2_17, e18, h⟩ := qlet_s h
          refine r_nm e18 ?_
          refine lv_istore_n (lv' := [(2, .int x2_17), (0, .ref (K.2.1 1000)), (1, .int x1), (3, .int x3), (4, .int x4)]) hx hb dX2_harshest_59 rfl hl (by decide) rfl (fun ls hl => ?_)
          obtain ⟨x4_19, e20, h⟩ := qlet_s h
          refine lv_iinc (v := x4_19) (lv' := [(4, .int x4_19), (2, .int x2_17), (0, .ref (K.2.1 1000)), (1, .int x1), (3, .int x3)]) (k := 4) hx hb dX2_harshest_60 hl rfl (by rw [e20]; rfl) (by decide) rfl (fun ls hl => ?_)
          refine lv_goto (tgt := 30) hx hb dX2_harshest_63 (by decide) ?_
          exact ih _ _ _ _ _ _  h hw (lv_sub hl [2, 3, 1, 4, 0] rfl)

def f_X2_harshest_21 : Nat → Int32 → Int32 → Int32 → QA → QL → Option (Int32 × QA × QL)
  | 0, _, _, _, _, _ => none
  | n + 1, x1, x2, x3, B, L => if (20:Int32) < x3 then (
  some (x2, B, L)) else (
  f_X2_harshest_30 (fun x1' x2' x3' B' L' => f_X2_harshest_21 n x1' x2' x3' B' L') FU x1 x2 x3 (0:Int32) B L)
set_option maxHeartbeats 4000000 in
theorem w_X2_harshest_21 {p : Program} {l : Launch} {e : Env} {s : State} {m : MethodId} {args : Array Value} {below : List Frame} {meth : Method} {c : Code} {K : QK} {G : State → Prop} {A : QA} {rs : QX × QM} {ro : Int32} {Bo : QA} {Lo : QL} (hG : QG G) (hM : QMl K) (E : EV K G p s m args meth c cX2_harshest "VaneCourtModel" 5) (hr : meth.sig.returnType = (some .int)) : ∀ (n : Nat) (x1 : Int32) (x2 : Int32) (x3 : Int32) (B : QA) (L : QL) {H : Heap} {locs : List Loc} {ls : Array Slot}, f_X2_harshest_21 n x1 x2 x3 B L = some (ro, Bo, Lo) → WP K (A, B, L, rs) H locs → lv_has ls 5 [(0, .ref (K.2.1 1000)), (1, .int x1), (2, .int x2), (3, .int x3)] → W p l e (qrm 7 191 0 0) s m args below meth c H locs 0 0 (MQ below (QE K (QR (some (.int ro)) (A, Bo, Lo, rs))) args s 0 0 (qA K)) (F0 m 21 ls []) := by
  have hx := E.1
  have hb := E.2.1
  have hown := E.2.2.1
  have hts := E.2.2.2.2.1
  intro n
  induction n with
  | zero =>
    intro x1 x2 x3 B L H locs ls  h hw hl
    cases h
  | succ n ih =>
    intro x1 x2 x3 B L H locs ls  h hw hl
    rw [f_X2_harshest_21] at h
    refine lv_iload_n hx hb dX2_harshest_21 rfl (lv_at hl 3 rfl) ?_
    refine lv_bipush (v := (20:Int32)) hx hb dX2_harshest_22 (by decide) ?_
    refine lv_icmp_gt (tgt := 72) hx hb dX2_harshest_24 (by decide) (fun c => ?_) (fun c => ?_)
    · have h := qi_t c h
      refine lv_iload_n hx hb dX2_harshest_72 rfl (lv_at hl 2 rfl) ?_
      have h := Option.some.inj h
      obtain ⟨h1, h2⟩ := Prod.mk.inj h
      obtain ⟨h2, h3⟩ := Prod.mk.inj h2
      exact d_iret E hr rfl hw h1 (by rw [h2, h3]) dX2_harshest_73
    · have h := qi_f c h
      refine lv_iconst (v := (0:Int32)) hx hb dX2_harshest_27 (by decide) ?_
      refine lv_istore (lv' := [(4, .int (0:Int32)), (0, .ref (K.2.1 1000)), (1, .int x1), (2, .int x2), (3, .int x3)]) hx hb dX2_harshest_28 hl (by decide) rfl (fun ls hl => ?_)
      exact w_X2_harshest_30 hG hM E hr ih _ _ _ _ _ _ _   h hw (lv_sub hl [1, 2, 3, 4, 0] rfl)

def f_X2_harshest (x1 : Int32) (B : QA) (L : QL) : Option (Int32 × QA × QL) :=
  qb1 (f_X2_isWaiting x1 B) fun u1 =>
  if u1 = (0:Int32) then (
  some ((-1:Int32), B, L)) else (
  qb3 (f_X2_layWinds (40:Int32) B L) fun u3 B4 L5 =>
  f_X2_harshest_21 FU x1 (0:Int32) (0:Int32) B4 L5)
set_option maxHeartbeats 4000000 in
theorem w_X2_harshest_0 {p : Program} {l : Launch} {e : Env} {s : State} {m : MethodId} {args : Array Value} {below : List Frame} {meth : Method} {c : Code} {K : QK} {G : State → Prop} {A : QA} {rs : QX × QM} {ro : Int32} {Bo : QA} {Lo : QL} (hG : QG G) (hM : QMl K) (E : EV K G p s m args meth c cX2_harshest "VaneCourtModel" 5) (hr : meth.sig.returnType = (some .int)) : ∀ (x1 : Int32) (B : QA) (L : QL) {H : Heap} {locs : List Loc} {ls : Array Slot}, f_X2_harshest x1 B L = some (ro, Bo, Lo) → WP K (A, B, L, rs) H locs → lv_has ls 5 [(0, .ref (K.2.1 1000)), (1, .int x1)] → W p l e (qrm 7 191 0 0) s m args below meth c H locs 0 0 (MQ below (QE K (QR (some (.int ro)) (A, Bo, Lo, rs))) args s 0 0 (qA K)) (F0 m 0 ls []) := by
  have hx := E.1
  have hb := E.2.1
  have hown := E.2.2.1
  have hts := E.2.2.2.2.1
  intro x1 B L H locs ls  h hw hl
  rw [f_X2_harshest] at h
  refine lv_aload_n hx hb dX2_harshest_0 rfl (lv_at hl 0 rfl) ?_
  refine lv_iload_n hx hb dX2_harshest_1 rfl (lv_at hl 1 rfl) ?_
  obtain ⟨u1, g2, h⟩ := qb1_s h
  refine d_V (As := [.int x1]) (v0 := some (.int u1)) (w0 := (A, B, L, rs)) hG E hw hl (m_X2_isWaiting l hG hM  g2) (qM0 hM) rfl (cwV 1 hts (lw_V q1691 q1693 qs95 q140 q1694) rfl rfl rfl ⟨rfl, kd_X2_isWaiting⟩ ⟨Nat.le_of_ble_eq_true rfl, Nat.le_of_ble_eq_true rfl⟩) rfl (rest := []) (st1 := [.int u1]) rfl rfl rfl dX2_harshest_2 ⟨Nat.le_of_ble_eq_true rfl, Nat.le_of_ble_eq_true rfl⟩ (fun H locs hw => ?_)
  refine lv_if_ne (tgt := 10) hx hb dX2_harshest_5 (by decide) (fun c => ?_) (fun c => ?_)
  · have h := qi_f c h
    refine lv_aload_n hx hb dX2_harshest_10 rfl (lv_at hl 0 rfl) ?_
    refine lv_bipush (v := (40:Int32)) hx hb dX2_harshest_11 (by decide) ?_
    obtain ⟨u3, B4, L5, g6, h⟩ := qb3_s h
    refine d_V (As := [.int (40:Int32)]) (v0 := some (.int u3)) (w0 := (A, B4, L5, rs)) hG E hw hl (m_X2_layWinds l hG hM  g6) (qM0 hM) rfl (cwV 1 hts (lw_V q1873 q1875 qs123 q140 q1876) rfl rfl rfl ⟨rfl, kd_X2_layWinds⟩ ⟨Nat.le_of_ble_eq_true rfl, Nat.le_of_ble_eq_true rfl⟩) rfl (rest := []) (st1 := [.int u3]) rfl rfl rfl dX2_harshest_13 ⟨Nat.le_of_ble_eq_true rfl, Nat.le_of_ble_eq_true rfl⟩ (fun H locs hw => ?_)
    refine lv_pop hx hb dX2_harshest_16 rfl ?_
    refine lv_iconst (v := (0:Int32)) hx hb dX2_harshest_17 (by decide) ?_
    refine lv_istore_n (lv' := [(2, .int (0:Int32)), (0, .ref (K.2.1 1000)), (1, .int x1)]) hx hb dX2_harshest_18 rfl hl (by decide) rfl (fun ls hl => ?_)
    refine lv_iconst (v := (0:Int32)) hx hb dX2_harshest_19 (by decide) ?_
    refine lv_istore_n (lv' := [(3, .int (0:Int32)), (2, .int (0:Int32)), (0, .ref (K.2.1 1000)), (1, .int x1)]) hx hb dX2_harshest_20 rfl hl (by decide) rfl (fun ls hl => ?_)
    exact w_X2_harshest_21 hG hM E hr  _ _ _ _ _ _   h hw (lv_sub hl [2, 3, 1, 0] rfl)
  · have h := qi_t c h
    refine lv_iconst (v := (-1:Int32)) hx hb dX2_harshest_8 (by decide) ?_
    have h := Option.some.inj h
    obtain ⟨h1, h2⟩ := Prod.mk.inj h
    obtain ⟨h2, h3⟩ := Prod.mk.inj h2
    exact d_iret E hr rfl hw h1 (by rw [h2, h3]) dX2_harshest_9

theorem m_X2_harshest (l : Launch) {K : QK} {G : State → Prop} (hG : QG G) (hM : QMl K) {A : QA} {rs : QX × QM} {x1 : Int32} {B : QA} {L : QL} {ro : Int32} {Bo : QA} {Lo : QL} (h : f_X2_harshest x1 B L = some (ro, Bo, Lo)) : MC l K G yX2_harshest (ws_ yX2_harshest cX2_harshest 5 (some .int)) 7 191 0 0 [.ref (K.2.1 1000), .int x1] (A, B, L, rs) (QR (some (.int ro)) (A, Bo, Lo, rs)) := by
  refine MC.of (by decide) (Nat.le_of_ble_eq_true rfl) (lv := [(0, .ref (K.2.1 1000)), (1, .int x1)]) rfl (fun p e s m below meth c ls E hr hl hw => ?_)
  exact w_X2_harshest_0 hG hM E hr _ _ _  h hw hl

def f_X2_isGuiltyBy_28 : Nat → Int32 → Int32 → Int32 → Int32 → QA → QL → Option (Int32 × QA × QL)
  | 0, _, _, _, _, _, _ => none
  | n + 1, x2, x3, x4, x5, B, L => if x2 ≤ x5 then (
  qb3 (f_X2_isFound (B 1001 13) ((B 1001 14) + x2) x4 B L) fun u5 B6 L7 =>
  qb1 (f_X2_putBack B6) fun B9 =>
  qif (qbo u5) <|
  some (u5, B9, L7)) else (
  qb2 (f_X2_turnBy (x3 - x3 / (10:Int32) * (10:Int32)) B L) fun B12 L13 =>
  qlet (x3 / (10:Int32)) fun x3_15 =>
  qlet (x4 ||| ((1:Int32) <<< ((B12 1001 8) &&& 31))) fun x4_17 =>
  qlet (x5 + (1:Int32)) fun x5_19 =>
  f_X2_isGuiltyBy_28 n x2 x3_15 x4_17 x5_19 B12 L13)
set_option maxHeartbeats 4000000 in
theorem w_X2_isGuiltyBy_28 {p : Program} {l : Launch} {e : Env} {s : State} {m : MethodId} {args : Array Value} {below : List Frame} {meth : Method} {c : Code} {K : QK} {G : State → Prop} {A : QA} {rs : QX × QM} {ro : Int32} {Bo : QA} {Lo : QL} (hG : QG G) (hM : QMl K) (E : EV K G p s m args meth c cX2_isGuiltyBy "VaneCourtModel" 6) (hr : meth.sig.returnType = (some .boolean)) : ∀ (n : Nat) (x2 : Int32) (x3 : Int32) (x4 : Int32) (x5 : Int32) (B : QA) (L : QL) {H : Heap} {locs : List Loc} {ls : Array Slot}, f_X2_isGuiltyBy_28 n x2 x3 x4 x5 B L = some (ro, Bo, Lo) → WP K (A, B, L, rs) H locs → lv_has ls 6 [(0, .ref (K.2.1 1000)), (2, .int x2), (3, .int x3), (4, .int x4), (5, .int x5)] → W p l e (qrm 6 165 0 0) s m args below meth c H locs 0 0 (MQ below (QE K (QR (some (.int ro)) (A, Bo, Lo, rs))) args s 0 0 (qA K)) (F0 m 28 ls []) := by
  have hx := E.1
  have hb := E.2.1
  have hown := E.2.2.1
  have hts := E.2.2.2.2.1
  intro n
  induction n with
  | zero =>
    intro x2 x3 x4 x5 B L H locs ls  h hw hl
    cases h
  | succ n ih =>
    intro x2 x3 x4 x5 B L H locs ls  h hw hl
    rw [f_X2_isGuiltyBy_28] at h
    refine lv_iload hx hb dX2_isGuiltyBy_28 (lv_at hl 4 rfl) ?_
    refine lv_iload_n hx hb dX2_isGuiltyBy_30 rfl (lv_at hl 1 rfl) ?_
    refine lv_icmp_ge (tgt := 67) hx hb dX2_isGuiltyBy_31 (by decide) (fun c => ?_) (fun c => ?_)
    · have h := qi_t c h
      refine lv_aload_n hx hb dX2_isGuiltyBy_67 rfl (lv_at hl 0 rfl) ?_
      refine lv_aload_n hx hb dX2_isGuiltyBy_68 rfl (lv_at hl 0 rfl) ?_
      refine r_getM (v := .ref (K.2.1 1001)) E hw hM 0 (by decide) q1353 rfl dX2_isGuiltyBy_69 ?_
      refine lv_bipush (v := (13:Int32)) hx hb dX2_isGuiltyBy_72 (by decide) ?_
      refine r_iald (j := 13) E hw (qi_1001 hM).at (q_lit (k := 13) (n := 3642) rfl rfl) (q_clamp (k := 13) rfl) dX2_isGuiltyBy_74 ?_
      refine lv_aload_n hx hb dX2_isGuiltyBy_75 rfl (lv_at hl 0 rfl) ?_
      refine r_getM (v := .ref (K.2.1 1001)) E hw hM 0 (by decide) q1353 rfl dX2_isGuiltyBy_76 ?_
      refine lv_bipush (v := (14:Int32)) hx hb dX2_isGuiltyBy_79 (by decide) ?_
      refine r_iald (j := 14) E hw (qi_1001 hM).at (q_lit (k := 14) (n := 3642) rfl rfl) (q_clamp (k := 14) rfl) dX2_isGuiltyBy_81 ?_
      refine lv_iload_n hx hb dX2_isGuiltyBy_82 rfl (lv_at hl 1 rfl) ?_
      refine lv_iadd hx hb dX2_isGuiltyBy_83 ?_
      refine lv_iload hx hb dX2_isGuiltyBy_84 (lv_at hl 3 rfl) ?_
      obtain ⟨u5, B6, L7, g8, h⟩ := qb3_s h
      refine d_V (As := [.int (B 1001 13), .int ((B 1001 14) + x2), .int x4]) (v0 := some (.int u5)) (w0 := (A, B6, L7, rs)) hG E hw hl (m_X2_isFound l hG hM  g8) (qM0 hM) rfl (cwV 3 hts (lw_V q1759 q1761 qs107 q140 q1762) rfl rfl rfl ⟨rfl, kd_X2_isFound⟩ ⟨Nat.le_of_ble_eq_true rfl, Nat.le_of_ble_eq_true rfl⟩) rfl (rest := []) (st1 := [.int u5]) rfl rfl rfl dX2_isGuiltyBy_86 ⟨Nat.le_of_ble_eq_true rfl, Nat.le_of_ble_eq_true rfl⟩ (fun H locs hw => ?_)
      refine lv_istore (lv' := [(5, .int u5), (0, .ref (K.2.1 1000)), (2, .int x2), (3, .int x3), (4, .int x4)]) hx hb dX2_isGuiltyBy_89 hl (by decide) rfl (fun ls hl => ?_)
      refine lv_aload_n hx hb dX2_isGuiltyBy_91 rfl (lv_at hl 1 rfl) ?_
      obtain ⟨B9, g10, h⟩ := qb1_s h
      refine d_V (As := []) (v0 := none) (w0 := (A, B9, L7, rs)) hG E hw hl (m_X2_putBack l hG hM  g10) (qM0 hM) rfl (cwV 0 hts (lw_V q1881 q1883 qs125 q140 q1884) rfl rfl rfl ⟨rfl, kd_X2_putBack⟩ ⟨Nat.le_of_ble_eq_true rfl, Nat.le_of_ble_eq_true rfl⟩) rfl (rest := []) (st1 := []) rfl rfl rfl dX2_isGuiltyBy_92 ⟨Nat.le_of_ble_eq_true rfl, Nat.le_of_ble_eq_true rfl⟩ (fun H locs hw => ?_)
      refine lv_iload hx hb dX2_isGuiltyBy_95 (lv_at hl 0 rfl) ?_
      obtain ⟨z11, h⟩ := qif_s h
      have h := Option.some.inj h
      obtain ⟨h1, h2⟩ := Prod.mk.inj h
      obtain ⟨h2, h3⟩ := Prod.mk.inj h2
      exact d_iret E hr (qbo_n z11) hw h1 (by rw [h2, h3]) dX2_isGuiltyBy_97
    · have h := qi_f c h
      refine lv_aload_n hx hb dX2_isGuiltyBy_34 rfl (lv_at hl 0 rfl) ?_
      refine lv_iload_n hx hb dX2_isGuiltyBy_35 rfl (lv_at hl 2 rfl) ?_
      refine lv_bipush (v := (10:Int32)) hx hb dX2_isGuiltyBy_36 (by decide) ?_
      refine lv_irem hx hb dX2_isGuiltyBy_38 (by decide) ?_
      obtain ⟨B12, L13, g14, h⟩ := qb2_s h
      refine d_V (As := [.int (x3 - x3 / (10:Int32) * (10:Int32))]) (v0 := none) (w0 := (A, B12, L13, rs)) hG E hw hl (m_X2_turnBy l hG hM  g14) (qM0 hM) rfl (cwV 1 hts (lw_V q1827 q1829 qs119 q140 q1830) rfl rfl rfl ⟨rfl, kd_X2_turnBy⟩ ⟨Nat.le_of_ble_eq_true rfl, Nat.le_of_ble_eq_true rfl⟩) rfl (rest := []) (st1 := []) rfl rfl rfl dX2_isGuiltyBy_39 ⟨Nat.le_of_ble_eq_true rfl, Nat.le_of_ble_eq_true rfl⟩ (fun H locs hw => ?_)
      refine lv_iload_n hx hb dX2_isGuiltyBy_42 rfl (lv_at hl 2 rfl) ?_
      refine lv_bipush (v := (10:Int32)) hx hb dX2_isGuiltyBy_43 (by decide) ?_
      refine lv_idiv hx hb dX2_isGuiltyBy_45 (by decide) ?_
      obtain ⟨x3_15, e16, h⟩ := qlet_s h
      refine r_nm e16 ?_
      refine lv_istore_n (lv' := [(3, .int x3_15), (0, .ref (K.2.1 1000)), (2, .int x2), (4, .int x4), (5, .int x5)]) hx hb dX2_isGuiltyBy_46 rfl hl (by decide) rfl (fun ls hl => ?_)
      refine lv_iload hx hb dX2_isGuiltyBy_47 (lv_at hl 3 rfl) ?_
      refine lv_iconst (v := (1:Int32)) hx hb dX2_isGuiltyBy_49 (by decide) ?_
      refine lv_aload_n hx hb dX2_isGuiltyBy_50 rfl (lv_at hl 1 rfl) ?_
      refine r_getM (v := .ref (K.2.1 1001)) E hw hM 0 (by decide) q1353 rfl dX2_isGuiltyBy_51 ?_
      refine lv_bipush (v := (8:Int32)) hx hb dX2_isGuiltyBy_54 (by decide) ?_
      refine r_iald (j := 8) E hw (qi_1001 hM).at (q_lit (k := 8) (n := 3642) rfl rfl) (q_clamp (k := 8) rfl) dX2_isGuiltyBy_56 ?_
      refine lv_ishl hx hb dX2_isGuiltyBy_57 ?_
      refine lv_ior hx hb dX2_isGuiltyBy_58 ?_
      obtain ⟨x4_17, e18, h⟩ := qlet_s h
      refine r_nm e18 ?_
      refine lv_istore (lv' := [(4, .int x4_17), (3, .int x3_15), (0, .ref (K.2.1 1000)), (2, .int x2), (5, .int x5)]) hx hb dX2_isGuiltyBy_59 hl (by decide) rfl (fun ls hl => ?_)
      obtain ⟨x5_19, e20, h⟩ := qlet_s h
      refine lv_iinc (v := x5_19) (lv' := [(5, .int x5_19), (4, .int x4_17), (3, .int x3_15), (0, .ref (K.2.1 1000)), (2, .int x2)]) (k := 4) hx hb dX2_isGuiltyBy_61 hl rfl (by rw [e20]; rfl) (by decide) rfl (fun ls hl => ?_)
      refine lv_goto (tgt := 28) hx hb dX2_isGuiltyBy_64 (by decide) ?_
      exact ih _ _ _ _ _ _  h hw (lv_sub hl [3, 4, 2, 1, 0] rfl)

def f_X2_isGuiltyBy (x1 : Int32) (x2 : Int32) (B : QA) (L : QL) : Option (Int32 × QA × QL) :=
  qb1 (f_X2_begin B) fun B1 =>
  qlet ((B1 1001 15) ||| ((1:Int32) <<< ((B1 1001 8) &&& 31))) fun x4_3 =>
  f_X2_isGuiltyBy_28 FU x2 x1 x4_3 (1:Int32) B1 L
set_option maxHeartbeats 4000000 in
theorem w_X2_isGuiltyBy_0 {p : Program} {l : Launch} {e : Env} {s : State} {m : MethodId} {args : Array Value} {below : List Frame} {meth : Method} {c : Code} {K : QK} {G : State → Prop} {A : QA} {rs : QX × QM} {ro : Int32} {Bo : QA} {Lo : QL} (hG : QG G) (hM : QMl K) (E : EV K G p s m args meth c cX2_isGuiltyBy "VaneCourtModel" 6) (hr : meth.sig.returnType = (some .boolean)) : ∀ (x1 : Int32) (x2 : Int32) (B : QA) (L : QL) {H : Heap} {locs : List Loc} {ls : Array Slot}, f_X2_isGuiltyBy x1 x2 B L = some (ro, Bo, Lo) → WP K (A, B, L, rs) H locs → lv_has ls 6 [(0, .ref (K.2.1 1000)), (1, .int x1), (2, .int x2)] → W p l e (qrm 6 165 0 0) s m args below meth c H locs 0 0 (MQ below (QE K (QR (some (.int ro)) (A, Bo, Lo, rs))) args s 0 0 (qA K)) (F0 m 0 ls []) := by
  have hx := E.1
  have hb := E.2.1
  have hown := E.2.2.1
  have hts := E.2.2.2.2.1
  intro x1 x2 B L H locs ls  h hw hl
  rw [f_X2_isGuiltyBy] at h
  refine lv_aload_n hx hb dX2_isGuiltyBy_0 rfl (lv_at hl 0 rfl) ?_
  obtain ⟨B1, g2, h⟩ := qb1_s h
  refine d_V (As := []) (v0 := none) (w0 := (A, B1, L, rs)) hG E hw hl (m_X2_begin l hG hM  g2) (qM0 hM) rfl (cwV 0 hts (lw_V q1877 q1879 qs124 q140 q1880) rfl rfl rfl ⟨rfl, kd_X2_begin⟩ ⟨Nat.le_of_ble_eq_true rfl, Nat.le_of_ble_eq_true rfl⟩) rfl (rest := []) (st1 := []) rfl rfl rfl dX2_isGuiltyBy_1 ⟨Nat.le_of_ble_eq_true rfl, Nat.le_of_ble_eq_true rfl⟩ (fun H locs hw => ?_)
  refine lv_iload_n hx hb dX2_isGuiltyBy_4 rfl (lv_at hl 1 rfl) ?_
  refine lv_istore_n (lv' := [(3, .int x1), (0, .ref (K.2.1 1000)), (1, .int x1), (2, .int x2)]) hx hb dX2_isGuiltyBy_5 rfl hl (by decide) rfl (fun ls hl => ?_)
  refine lv_aload_n hx hb dX2_isGuiltyBy_6 rfl (lv_at hl 1 rfl) ?_
  refine r_getM (v := .ref (K.2.1 1001)) E hw hM 0 (by decide) q1353 rfl dX2_isGuiltyBy_7 ?_
  refine lv_bipush (v := (15:Int32)) hx hb dX2_isGuiltyBy_10 (by decide) ?_
  refine r_iald (j := 15) E hw (qi_1001 hM).at (q_lit (k := 15) (n := 3642) rfl rfl) (q_clamp (k := 15) rfl) dX2_isGuiltyBy_12 ?_
  refine lv_iconst (v := (1:Int32)) hx hb dX2_isGuiltyBy_13 (by decide) ?_
  refine lv_aload_n hx hb dX2_isGuiltyBy_14 rfl (lv_at hl 1 rfl) ?_
  refine r_getM (v := .ref (K.2.1 1001)) E hw hM 0 (by decide) q1353 rfl dX2_isGuiltyBy_15 ?_
  refine lv_bipush (v := (8:Int32)) hx hb dX2_isGuiltyBy_18 (by decide) ?_
  refine r_iald (j := 8) E hw (qi_1001 hM).at (q_lit (k := 8) (n := 3642) rfl rfl) (q_clamp (k := 8) rfl) dX2_isGuiltyBy_20 ?_
  refine lv_ishl hx hb dX2_isGuiltyBy_21 ?_
  refine lv_ior hx hb dX2_isGuiltyBy_22 ?_
  obtain ⟨x4_3, e4, h⟩ := qlet_s h
  refine r_nm e4 ?_
  refine lv_istore (lv' := [(4, .int x4_3), (3, .int x1), (0, .ref (K.2.1 1000)), (1, .int x1), (2, .int x2)]) hx hb dX2_isGuiltyBy_23 hl (by decide) rfl (fun ls hl => ?_)
  refine lv_iconst (v := (1:Int32)) hx hb dX2_isGuiltyBy_25 (by decide) ?_
  refine lv_istore (lv' := [(5, .int (1:Int32)), (4, .int x4_3), (3, .int x1), (0, .ref (K.2.1 1000)), (1, .int x1), (2, .int x2)]) hx hb dX2_isGuiltyBy_26 hl (by decide) rfl (fun ls hl => ?_)
  exact w_X2_isGuiltyBy_28 hG hM E hr  _ _ _ _ _ _ _   h hw (lv_sub hl [3, 5, 2, 1, 0] rfl)

theorem m_X2_isGuiltyBy (l : Launch) {K : QK} {G : State → Prop} (hG : QG G) (hM : QMl K) {A : QA} {rs : QX × QM} {x1 : Int32} {x2 : Int32} {B : QA} {L : QL} {ro : Int32} {Bo : QA} {Lo : QL} (h : f_X2_isGuiltyBy x1 x2 B L = some (ro, Bo, Lo)) : MC l K G yX2_isGuiltyBy (ws_ yX2_isGuiltyBy cX2_isGuiltyBy 6 (some .boolean)) 6 165 0 0 [.ref (K.2.1 1000), .int x1, .int x2] (A, B, L, rs) (QR (some (.int ro)) (A, Bo, Lo, rs)) := by
  refine MC.of (by decide) (Nat.le_of_ble_eq_true rfl) (lv := [(0, .ref (K.2.1 1000)), (1, .int x1), (2, .int x2)]) rfl (fun p e s m below meth c ls E hr hl hw => ?_)
  exact w_X2_isGuiltyBy_0 hG hM E hr _ _ _ _  h hw hl

def f_X2_common_6 : Nat → Int64 → Int64 → Option (Int64)
  | 0, _, _ => none
  | n + 1, x4, x6 => if (lg_cmp x6 (0:Int64)) = (0:Int32) then (
  some (x4)) else (
  qif (decide (¬ x6 = 0)) <|
  qlet (x4 - x4 / x6 * x6) fun x8_2 =>
  f_X2_common_6 n x6 x8_2)
set_option maxHeartbeats 4000000 in
theorem w_X2_common_6 {p : Program} {l : Launch} {e : Env} {s : State} {m : MethodId} {args : Array Value} {below : List Frame} {meth : Method} {c : Code} {K : QK} {G : State → Prop} {A : QA} {rs : QX × QM} {B : QA} {L : QL} {ro : Int64} (hG : QG G) (hM : QMl K) (E : EV K G p s m args meth c cX2_common "VaneCourtModel" 10) (hr : meth.sig.returnType = (some .long)) : ∀ (n : Nat) (x4 : Int64) (x6 : Int64) {H : Heap} {locs : List Loc} {ls : Array Slot}, f_X2_common_6 n x4 x6 = some ro → WP K (A, B, L, rs) H locs → lv_has ls 10 [(4, .long x4), (6, .long x6)] → W p l e (qrm 1 40 0 0) s m args below meth c H locs 0 0 (MQ below (QE K (QR (some (.long ro)) (A, B, L, rs))) args s 0 0 (qA K)) (F0 m 6 ls []) := by
  have hx := E.1
  have hb := E.2.1
  have hown := E.2.2.1
  have hts := E.2.2.2.2.1
  intro n
  induction n with
  | zero =>
    intro x4 x6 H locs ls  h hw hl
    cases h
  | succ n ih =>
    intro x4 x6 H locs ls  h hw hl
    rw [f_X2_common_6] at h
    refine lv_lload hx hb dX2_common_6 (lv_at hl 1 rfl) ?_
    refine lv_lconst (v := (0:Int64)) hx hb dX2_common_8 (by decide) ?_
    refine W.lcmp hx hb dX2_common_9 ?_
    refine lv_if_eq (tgt := 31) hx hb dX2_common_10 (by decide) (fun c => ?_) (fun c => ?_)
    · have h := qi_t c h
      refine lv_lload hx hb dX2_common_31 (lv_at hl 0 rfl) ?_
      have h := Option.some.inj h
      have h1 := h
      exact d_lret E hr hw h1 rfl dX2_common_33
    · have h := qi_f c h
      refine lv_lload hx hb dX2_common_13 (lv_at hl 0 rfl) ?_
      refine lv_lload hx hb dX2_common_15 (lv_at hl 1 rfl) ?_
      obtain ⟨z1, h⟩ := qif_s h
      refine lv_lrem hx hb dX2_common_17 (of_decide_eq_true z1) ?_
      obtain ⟨x8_2, e3, h⟩ := qlet_s h
      refine r_nml e3 ?_
      refine lv_lstore (lv' := [(8, .long x8_2), (4, .long x4), (6, .long x6)]) hx hb dX2_common_18 hl (by decide) rfl (fun ls hl => ?_)
      refine lv_lload hx hb dX2_common_20 (lv_at hl 2 rfl) ?_
      refine lv_lstore (lv' := [(4, .long x6), (8, .long x8_2), (6, .long x6)]) hx hb dX2_common_22 hl (by decide) rfl (fun ls hl => ?_)
      refine lv_lload hx hb dX2_common_24 (lv_at hl 1 rfl) ?_
      refine lv_lstore (lv' := [(6, .long x8_2), (4, .long x6), (8, .long x8_2)]) hx hb dX2_common_26 hl (by decide) rfl (fun ls hl => ?_)
      refine lv_goto (tgt := 6) hx hb dX2_common_28 (by decide) ?_
      exact ih _ _  h hw (lv_sub hl [1, 0] rfl)

def f_X2_common (x0 : Int64) (x2 : Int64) : Option (Int64) :=
  f_X2_common_6 FU x0 x2
set_option maxHeartbeats 4000000 in
theorem w_X2_common_0 {p : Program} {l : Launch} {e : Env} {s : State} {m : MethodId} {args : Array Value} {below : List Frame} {meth : Method} {c : Code} {K : QK} {G : State → Prop} {A : QA} {rs : QX × QM} {B : QA} {L : QL} {ro : Int64} (hG : QG G) (hM : QMl K) (E : EV K G p s m args meth c cX2_common "VaneCourtModel" 10) (hr : meth.sig.returnType = (some .long)) : ∀ (x0 : Int64) (x2 : Int64) {H : Heap} {locs : List Loc} {ls : Array Slot}, f_X2_common x0 x2 = some ro → WP K (A, B, L, rs) H locs → lv_has ls 10 [(0, .long x0), (2, .long x2)] → W p l e (qrm 1 40 0 0) s m args below meth c H locs 0 0 (MQ below (QE K (QR (some (.long ro)) (A, B, L, rs))) args s 0 0 (qA K)) (F0 m 0 ls []) := by
  have hx := E.1
  have hb := E.2.1
  have hown := E.2.2.1
  have hts := E.2.2.2.2.1
  intro x0 x2 H locs ls  h hw hl
  rw [f_X2_common] at h
  refine lv_lload_n hx hb dX2_common_0 rfl (lv_at hl 0 rfl) ?_
  refine lv_lstore (lv' := [(4, .long x0), (0, .long x0), (2, .long x2)]) hx hb dX2_common_1 hl (by decide) rfl (fun ls hl => ?_)
  refine lv_lload_n hx hb dX2_common_3 rfl (lv_at hl 2 rfl) ?_
  refine lv_lstore (lv' := [(6, .long x2), (4, .long x0), (0, .long x0), (2, .long x2)]) hx hb dX2_common_4 hl (by decide) rfl (fun ls hl => ?_)
  exact w_X2_common_6 hG hM E hr  _ _ _   h hw (lv_sub hl [1, 0] rfl)

theorem m_X2_common (l : Launch) {K : QK} {G : State → Prop} (hG : QG G) (hM : QMl K) {A : QA} {rs : QX × QM} {B : QA} {L : QL} {x0 : Int64} {x2 : Int64} {ro : Int64} (h : f_X2_common x0 x2 = some ro) : MC l K G yX2_common (ws_ yX2_common cX2_common 10 (some .long)) 1 40 0 0 [.long x0, .long x2] (A, B, L, rs) (QR (some (.long ro)) (A, B, L, rs)) := by
  refine MC.of (by decide) (Nat.le_of_ble_eq_true rfl) (lv := [(0, .long x0), (2, .long x2)]) rfl (fun p e s m below meth c ls E hr hl hw => ?_)
  exact w_X2_common_0 hG hM E hr _ _  h hw hl

def f_X2_odds_123 (x3 : Int32) (x4 : Int32) (s0 : Int32) (B : QA) (L : QL) : Option (Int64 × QA × QL) :=
  qb1 (f_X2_common (x4).toInt64 (x3).toInt64) fun u5 =>
  qif (decide (¬ u5 = 0)) <|
  some (((s0).toInt64 / u5), B, L)
set_option maxHeartbeats 4000000 in
theorem w_X2_odds_123 {p : Program} {l : Launch} {e : Env} {s : State} {m : MethodId} {args : Array Value} {below : List Frame} {meth : Method} {c : Code} {K : QK} {G : State → Prop} {A : QA} {rs : QX × QM} {ro : Int64} {Bo : QA} {Lo : QL} (hG : QG G) (hM : QMl K) (E : EV K G p s m args meth c cX2_odds "VaneCourtModel" 6) (hr : meth.sig.returnType = (some .long)) : ∀ (x3 : Int32) (x4 : Int32) (s0 : Int32) (B : QA) (L : QL) {H : Heap} {locs : List Loc} {ls : Array Slot}, f_X2_odds_123 x3 x4 s0 B L = some (ro, Bo, Lo) → WP K (A, B, L, rs) H locs → lv_has ls 6 [(3, .int x3), (4, .int x4)] → W p l e (qrm 7 190 0 0) s m args below meth c H locs 0 0 (MQ below (QE K (QR (some (.long ro)) (A, Bo, Lo, rs))) args s 0 0 (qA K)) (F0 m 123 ls [.int s0]) := by
  have hx := E.1
  have hb := E.2.1
  have hown := E.2.2.1
  have hts := E.2.2.2.2.1
  intro x3 x4 s0 B L H locs ls  h hw hl
  rw [f_X2_odds_123] at h
  refine lv_i2l hx hb dX2_odds_123 rfl ?_
  refine lv_iload hx hb dX2_odds_124 (lv_at hl 1 rfl) ?_
  refine lv_i2l hx hb dX2_odds_126 rfl ?_
  refine lv_iload_n hx hb dX2_odds_127 rfl (lv_at hl 0 rfl) ?_
  refine lv_i2l hx hb dX2_odds_128 rfl ?_
  obtain ⟨u5, g6, h⟩ := qb1_s h
  refine d_S (As := [.long (x4).toInt64, .long (x3).toInt64]) (v0 := some (.long u5)) (w0 := (A, B, L, rs)) hG E hw hl (m_X2_common l hG hM  g6) (va_cwS 2 hts (lw_S q1910 q1911 q140 q1912) rfl rfl rfl kd_X2_common ⟨Nat.le_of_ble_eq_true rfl, Nat.le_of_ble_eq_true rfl⟩) rfl (rest := [.long (s0).toInt64]) (st1 := [.long u5, .long (s0).toInt64]) rfl rfl rfl dX2_odds_129 ⟨Nat.le_of_ble_eq_true rfl, Nat.le_of_ble_eq_true rfl⟩ (fun H locs hw => ?_)
  obtain ⟨z7, h⟩ := qif_s h
  refine lv_ldiv hx hb dX2_odds_132 (of_decide_eq_true z7) ?_
  have h := Option.some.inj h
  obtain ⟨h1, h2⟩ := Prod.mk.inj h
  obtain ⟨h2, h3⟩ := Prod.mk.inj h2
  exact d_lret E hr hw h1 (by rw [h2, h3]) dX2_odds_133

def f_X2_odds_81 : Nat → Int32 → Int32 → Int32 → Int32 → Int32 → QA → QL → Option (Int64 × QA × QL)
  | 0, _, _, _, _, _, _, _ => none
  | n + 1, x1, x2, x3, x4, x5, B, L => if x3 ≤ x5 then (
  if x1 = (0:Int32) then (
  f_X2_odds_123 x3 x4 x4 B L) else (
  f_X2_odds_123 x3 x4 x3 B L)) else (
  qb3 (f_X2_isGuiltyBy x5 x2 B L) fun u8 B9 L10 =>
  if u8 = (0:Int32) then (
  qlet (x4 + (0:Int32)) fun x4_12 =>
  qlet (x5 + (1:Int32)) fun x5_14 =>
  f_X2_odds_81 n x1 x2 x3 x4_12 x5_14 B9 L10) else (
  qlet (x4 + (1:Int32)) fun x4_16 =>
  qlet (x5 + (1:Int32)) fun x5_18 =>
  f_X2_odds_81 n x1 x2 x3 x4_16 x5_18 B9 L10))
set_option maxHeartbeats 4000000 in
theorem w_X2_odds_81 {p : Program} {l : Launch} {e : Env} {s : State} {m : MethodId} {args : Array Value} {below : List Frame} {meth : Method} {c : Code} {K : QK} {G : State → Prop} {A : QA} {rs : QX × QM} {ro : Int64} {Bo : QA} {Lo : QL} (hG : QG G) (hM : QMl K) (E : EV K G p s m args meth c cX2_odds "VaneCourtModel" 6) (hr : meth.sig.returnType = (some .long)) : ∀ (n : Nat) (x1 : Int32) (x2 : Int32) (x3 : Int32) (x4 : Int32) (x5 : Int32) (B : QA) (L : QL) {H : Heap} {locs : List Loc} {ls : Array Slot}, f_X2_odds_81 n x1 x2 x3 x4 x5 B L = some (ro, Bo, Lo) → WP K (A, B, L, rs) H locs → lv_has ls 6 [(0, .ref (K.2.1 1000)), (1, .int x1), (2, .int x2), (3, .int x3), (4, .int x4), (5, .int x5)] → W p l e (qrm 7 190 0 0) s m args below meth c H locs 0 0 (MQ below (QE K (QR (some (.long ro)) (A, Bo, Lo, rs))) args s 0 0 (qA K)) (F0 m 81 ls []) := by
  have hx := E.1
  have hb := E.2.1
  have hown := E.2.2.1
  have hts := E.2.2.2.2.1
  intro n
  induction n with
  | zero =>
    intro x1 x2 x3 x4 x5 B L H locs ls  h hw hl
    cases h
  | succ n ih =>
    intro x1 x2 x3 x4 x5 B L H locs ls  h hw hl
    rw [f_X2_odds_81] at h
    refine lv_iload hx hb dX2_odds_81 (lv_at hl 5 rfl) ?_
    refine lv_iload_n hx hb dX2_odds_83 rfl (lv_at hl 3 rfl) ?_
    refine lv_icmp_ge (tgt := 113) hx hb dX2_odds_84 (by decide) (fun c => ?_) (fun c => ?_)
    · have h := qi_t c h
      refine lv_iload_n hx hb dX2_odds_113 rfl (lv_at hl 1 rfl) ?_
      refine lv_if_eq (tgt := 121) hx hb dX2_odds_114 (by decide) (fun c => ?_) (fun c => ?_)
      · have h := qi_t c h
        refine lv_iload hx hb dX2_odds_121 (lv_at hl 4 rfl) ?_
        exact w_X2_odds_123 hG hM E hr  _ _ _ _ _   h hw (lv_sub hl [3, 4] rfl)
      · have h := qi_f c h
        refine lv_iload_n hx hb dX2_odds_117 rfl (lv_at hl 3 rfl) ?_
        refine lv_goto (tgt := 123) hx hb dX2_odds_118 (by decide) ?_
        exact w_X2_odds_123 hG hM E hr  _ _ _ _ _   h hw (lv_sub hl [3, 4] rfl)
    · have h := qi_f c h
      refine lv_iload hx hb dX2_odds_87 (lv_at hl 4 rfl) ?_
      refine lv_aload_n hx hb dX2_odds_89 rfl (lv_at hl 0 rfl) ?_
      refine lv_iload hx hb dX2_odds_90 (lv_at hl 5 rfl) ?_
      refine lv_iload_n hx hb dX2_odds_92 rfl (lv_at hl 2 rfl) ?_
      obtain ⟨u8, B9, L10, g11, h⟩ := qb3_s h
      refine d_V (As := [.int x5, .int x2]) (v0 := some (.int u8)) (w0 := (A, B9, L10, rs)) hG E hw hl (m_X2_isGuiltyBy l hG hM  g11) (qM0 hM) rfl (cwV 2 hts (lw_V q1906 q1908 qs127 q140 q1909) rfl rfl rfl ⟨rfl, kd_X2_isGuiltyBy⟩ ⟨Nat.le_of_ble_eq_true rfl, Nat.le_of_ble_eq_true rfl⟩) rfl (rest := [.int x4]) (st1 := [.int u8, .int x4]) rfl rfl rfl dX2_odds_93 ⟨Nat.le_of_ble_eq_true rfl, Nat.le_of_ble_eq_true rfl⟩ (fun H locs hw => ?_)
      refine lv_if_eq (tgt := 103) hx hb dX2_odds_96 (by decide) (fun c => ?_) (fun c => ?_)
      · have h := qi_t c h
        refine lv_iconst (v := (0:Int32)) hx hb dX2_odds_103 (by decide) ?_
        refine lv_iadd hx hb dX2_odds_104 ?_
        obtain ⟨x4_12, e13, h⟩ := qlet_s h
        refine r_nm e13 ?_
        refine lv_istore (lv' := [(4, .int x4_12), (0, .ref (K.2.1 1000)), (1, .int x1), (2, .int x2), (3, .int x3), (5, .int x5)]) hx hb dX2_odds_105 hl (by decide) rfl (fun ls hl => ?_)
        obtain ⟨x5_14, e15, h⟩ := qlet_s h
        refine lv_iinc (v := x5_14) (lv' := [(5, .int x5_14), (4, .int x4_12), (0, .ref (K.2.1 1000)), (1, .int x1), (2, .int x2), (3, .int x3)]) (k := 5) hx hb dX2_odds_107 hl rfl (by rw [e15]; rfl) (by decide) rfl (fun ls hl => ?_)
        refine lv_goto (tgt := 81) hx hb dX2_odds_110 (by decide) ?_
        exact ih _ _ _ _ _ _ _  h hw (lv_sub hl [2, 3, 4, 5, 1, 0] rfl)
      · have h := qi_f c h
        refine lv_iconst (v := (1:Int32)) hx hb dX2_odds_99 (by decide) ?_
        refine lv_goto (tgt := 104) hx hb dX2_odds_100 (by decide) ?_
        refine lv_iadd hx hb dX2_odds_104 ?_
        obtain ⟨x4_16, e17, h⟩ := qlet_s h
        refine r_nm e17 ?_
        refine lv_istore (lv' := [(4, .int x4_16), (0, .ref (K.2.1 1000)), (1, .int x1), (2, .int x2), (3, .int x3), (5, .int x5)]) hx hb dX2_odds_105 hl (by decide) rfl (fun ls hl => ?_)
        obtain ⟨x5_18, e19, h⟩ := qlet_s h
        refine lv_iinc (v := x5_18) (lv' := [(5, .int x5_18), (4, .int x4_16), (0, .ref (K.2.1 1000)), (1, .int x1), (2, .int x2), (3, .int x3)]) (k := 5) hx hb dX2_odds_107 hl rfl (by rw [e19]; rfl) (by decide) rfl (fun ls hl => ?_)
        refine lv_goto (tgt := 81) hx hb dX2_odds_110 (by decide) ?_
        exact ih _ _ _ _ _ _ _  h hw (lv_sub hl [2, 3, 4, 5, 1, 0] rfl)

def f_X2_odds_74 (x1 : Int32) (x2 : Int32) (s0 : Int32) (B : QA) (L : QL) : Option (Int64 × QA × QL) :=
  f_X2_odds_81 FU x1 x2 s0 (0:Int32) (0:Int32) B L
set_option maxHeartbeats 4000000 in
theorem w_X2_odds_74 {p : Program} {l : Launch} {e : Env} {s : State} {m : MethodId} {args : Array Value} {below : List Frame} {meth : Method} {c : Code} {K : QK} {G : State → Prop} {A : QA} {rs : QX × QM} {ro : Int64} {Bo : QA} {Lo : QL} (hG : QG G) (hM : QMl K) (E : EV K G p s m args meth c cX2_odds "VaneCourtModel" 6) (hr : meth.sig.returnType = (some .long)) : ∀ (x1 : Int32) (x2 : Int32) (s0 : Int32) (B : QA) (L : QL) {H : Heap} {locs : List Loc} {ls : Array Slot}, f_X2_odds_74 x1 x2 s0 B L = some (ro, Bo, Lo) → WP K (A, B, L, rs) H locs → lv_has ls 6 [(0, .ref (K.2.1 1000)), (1, .int x1), (2, .int x2)] → W p l e (qrm 7 190 0 0) s m args below meth c H locs 0 0 (MQ below (QE K (QR (some (.long ro)) (A, Bo, Lo, rs))) args s 0 0 (qA K)) (F0 m 74 ls [.int s0]) := by
  have hx := E.1
  have hb := E.2.1
  have hown := E.2.2.1
  have hts := E.2.2.2.2.1
  intro x1 x2 s0 B L H locs ls  h hw hl
  rw [f_X2_odds_74] at h
  refine lv_istore_n (lv' := [(3, .int s0), (0, .ref (K.2.1 1000)), (1, .int x1), (2, .int x2)]) hx hb dX2_odds_74 rfl hl (by decide) rfl (fun ls hl => ?_)
  refine lv_iconst (v := (0:Int32)) hx hb dX2_odds_75 (by decide) ?_
  refine lv_istore (lv' := [(4, .int (0:Int32)), (3, .int s0), (0, .ref (K.2.1 1000)), (1, .int x1), (2, .int x2)]) hx hb dX2_odds_76 hl (by decide) rfl (fun ls hl => ?_)
  refine lv_iconst (v := (0:Int32)) hx hb dX2_odds_78 (by decide) ?_
  refine lv_istore (lv' := [(5, .int (0:Int32)), (4, .int (0:Int32)), (3, .int s0), (0, .ref (K.2.1 1000)), (1, .int x1), (2, .int x2)]) hx hb dX2_odds_79 hl (by decide) rfl (fun ls hl => ?_)
  exact w_X2_odds_81 hG hM E hr  _ _ _ _ _ _ _ _   h hw (lv_sub hl [3, 4, 5, 2, 1, 0] rfl)

def f_X2_odds (x1 : Int32) (B : QA) (L : QL) : Option (Int64 × QA × QL) :=
  if (B 1001 13) = (-1:Int32) then (
  some ((-1:Int64), B, L)) else (
  qb1 (f_X2_get (B 1001 13) (2:Int32) B) fun u1 =>
  qlet ((u1 + (B 1001 16)) - (B 1001 14)) fun x2_3 =>
  if x2_3 ≤ (3:Int32) then (
  if x2_3 = (3:Int32) then (
  f_X2_odds_74 x1 x2_3 (100:Int32) B L) else (
  if x2_3 = (2:Int32) then (
  f_X2_odds_74 x1 x2_3 (10:Int32) B L) else (
  f_X2_odds_74 x1 x2_3 (1:Int32) B L))) else (
  some ((-1:Int64), B, L)))
set_option maxHeartbeats 4000000 in
theorem w_X2_odds_0 {p : Program} {l : Launch} {e : Env} {s : State} {m : MethodId} {args : Array Value} {below : List Frame} {meth : Method} {c : Code} {K : QK} {G : State → Prop} {A : QA} {rs : QX × QM} {ro : Int64} {Bo : QA} {Lo : QL} (hG : QG G) (hM : QMl K) (E : EV K G p s m args meth c cX2_odds "VaneCourtModel" 6) (hr : meth.sig.returnType = (some .long)) : ∀ (x1 : Int32) (B : QA) (L : QL) {H : Heap} {locs : List Loc} {ls : Array Slot}, f_X2_odds x1 B L = some (ro, Bo, Lo) → WP K (A, B, L, rs) H locs → lv_has ls 6 [(0, .ref (K.2.1 1000)), (1, .int x1)] → W p l e (qrm 7 190 0 0) s m args below meth c H locs 0 0 (MQ below (QE K (QR (some (.long ro)) (A, Bo, Lo, rs))) args s 0 0 (qA K)) (F0 m 0 ls []) := by
  have hx := E.1
  have hb := E.2.1
  have hown := E.2.2.1
  have hts := E.2.2.2.2.1
  intro x1 B L H locs ls  h hw hl
  rw [f_X2_odds] at h
  refine lv_aload_n hx hb dX2_odds_0 rfl (lv_at hl 0 rfl) ?_
  refine r_getM (v := .ref (K.2.1 1001)) E hw hM 0 (by decide) q1353 rfl dX2_odds_1 ?_
  refine lv_bipush (v := (13:Int32)) hx hb dX2_odds_4 (by decide) ?_
  refine r_iald (j := 13) E hw (qi_1001 hM).at (q_lit (k := 13) (n := 3642) rfl rfl) (q_clamp (k := 13) rfl) dX2_odds_6 ?_
  refine lv_iconst (v := (-1:Int32)) hx hb dX2_odds_7 (by decide) ?_
  refine lv_icmp_ne (tgt := 15) hx hb dX2_odds_8 (by decide) (fun c => ?_) (fun c => ?_)
  · have h := qi_f c h
    refine lv_aload_n hx hb dX2_odds_15 rfl (lv_at hl 0 rfl) ?_
    refine lv_aload_n hx hb dX2_odds_16 rfl (lv_at hl 0 rfl) ?_
    refine r_getM (v := .ref (K.2.1 1001)) E hw hM 0 (by decide) q1353 rfl dX2_odds_17 ?_
    refine lv_bipush (v := (13:Int32)) hx hb dX2_odds_20 (by decide) ?_
    refine r_iald (j := 13) E hw (qi_1001 hM).at (q_lit (k := 13) (n := 3642) rfl rfl) (q_clamp (k := 13) rfl) dX2_odds_22 ?_
    refine lv_iconst (v := (2:Int32)) hx hb dX2_odds_23 (by decide) ?_
    obtain ⟨u1, g2, h⟩ := qb1_s h
    refine d_V (As := [.int (B 1001 13), .int (2:Int32)]) (v0 := some (.int u1)) (w0 := (A, B, L, rs)) hG E hw hl (m_X2_get l hG hM  g2) (qM0 hM) rfl (cwV 2 hts (lw_V q1699 q1701 qs97 q140 q1702) rfl rfl rfl ⟨rfl, kd_X2_get⟩ ⟨Nat.le_of_ble_eq_true rfl, Nat.le_of_ble_eq_true rfl⟩) rfl (rest := []) (st1 := [.int u1]) rfl rfl rfl dX2_odds_24 ⟨Nat.le_of_ble_eq_true rfl, Nat.le_of_ble_eq_true rfl⟩ (fun H locs hw => ?_)
    refine lv_aload_n hx hb dX2_odds_27 rfl (lv_at hl 0 rfl) ?_
    refine r_getM (v := .ref (K.2.1 1001)) E hw hM 0 (by decide) q1353 rfl dX2_odds_28 ?_
    refine lv_bipush (v := (16:Int32)) hx hb dX2_odds_31 (by decide) ?_
    refine r_iald (j := 16) E hw (qi_1001 hM).at (q_lit (k := 16) (n := 3642) rfl rfl) (q_clamp (k := 16) rfl) dX2_odds_33 ?_
    refine lv_iadd hx hb dX2_odds_34 ?_
    refine lv_aload_n hx hb dX2_odds_35 rfl (lv_at hl 0 rfl) ?_
    refine r_getM (v := .ref (K.2.1 1001)) E hw hM 0 (by decide) q1353 rfl dX2_odds_36 ?_
    refine lv_bipush (v := (14:Int32)) hx hb dX2_odds_39 (by decide) ?_
    refine r_iald (j := 14) E hw (qi_1001 hM).at (q_lit (k := 14) (n := 3642) rfl rfl) (q_clamp (k := 14) rfl) dX2_odds_41 ?_
    refine lv_isub hx hb dX2_odds_42 ?_
    obtain ⟨x2_3, e4, h⟩ := qlet_s h
    refine r_nm e4 ?_
    refine lv_istore_n (lv' := [(2, .int x2_3), (0, .ref (K.2.1 1000)), (1, .int x1)]) hx hb dX2_odds_43 rfl hl (by decide) rfl (fun ls hl => ?_)
    refine lv_iload_n hx hb dX2_odds_44 rfl (lv_at hl 0 rfl) ?_
    refine lv_iconst (v := (3:Int32)) hx hb dX2_odds_45 (by decide) ?_
    refine lv_icmp_le (tgt := 53) hx hb dX2_odds_46 (by decide) (fun c => ?_) (fun c => ?_)
    · have h := qi_t c h
      refine lv_iload_n hx hb dX2_odds_53 rfl (lv_at hl 0 rfl) ?_
      refine lv_iconst (v := (3:Int32)) hx hb dX2_odds_54 (by decide) ?_
      refine lv_icmp_ne (tgt := 63) hx hb dX2_odds_55 (by decide) (fun c => ?_) (fun c => ?_)
      · have h := qi_f c h
        refine lv_iload_n hx hb dX2_odds_63 rfl (lv_at hl 0 rfl) ?_
        refine lv_iconst (v := (2:Int32)) hx hb dX2_odds_64 (by decide) ?_
        refine lv_icmp_ne (tgt := 73) hx hb dX2_odds_65 (by decide) (fun c => ?_) (fun c => ?_)
        · have h := qi_f c h
          refine lv_iconst (v := (1:Int32)) hx hb dX2_odds_73 (by decide) ?_
          exact w_X2_odds_74 hG hM E hr  _ _ _ _ _   h hw (lv_sub hl [1, 2, 0] rfl)
        · have h := qi_t c h
          refine lv_bipush (v := (10:Int32)) hx hb dX2_odds_68 (by decide) ?_
          refine lv_goto (tgt := 74) hx hb dX2_odds_70 (by decide) ?_
          exact w_X2_odds_74 hG hM E hr  _ _ _ _ _   h hw (lv_sub hl [1, 2, 0] rfl)
      · have h := qi_t c h
        refine lv_bipush (v := (100:Int32)) hx hb dX2_odds_58 (by decide) ?_
        refine lv_goto (tgt := 74) hx hb dX2_odds_60 (by decide) ?_
        exact w_X2_odds_74 hG hM E hr  _ _ _ _ _   h hw (lv_sub hl [1, 2, 0] rfl)
    · have h := qi_f c h
      refine lv_ldc2 (v := (-1:Int64)) hx hb hown (hts _ q1905) dX2_odds_49 ?_
      have h := Option.some.inj h
      obtain ⟨h1, h2⟩ := Prod.mk.inj h
      obtain ⟨h2, h3⟩ := Prod.mk.inj h2
      exact d_lret E hr hw h1 (by rw [h2, h3]) dX2_odds_52
  · have h := qi_t c h
    refine lv_ldc2 (v := (-1:Int64)) hx hb hown (hts _ q1905) dX2_odds_11 ?_
    have h := Option.some.inj h
    obtain ⟨h1, h2⟩ := Prod.mk.inj h
    obtain ⟨h2, h3⟩ := Prod.mk.inj h2
    exact d_lret E hr hw h1 (by rw [h2, h3]) dX2_odds_14

theorem m_X2_odds (l : Launch) {K : QK} {G : State → Prop} (hG : QG G) (hM : QMl K) {A : QA} {rs : QX × QM} {x1 : Int32} {B : QA} {L : QL} {ro : Int64} {Bo : QA} {Lo : QL} (h : f_X2_odds x1 B L = some (ro, Bo, Lo)) : MC l K G yX2_odds (ws_ yX2_odds cX2_odds 6 (some .long)) 7 190 0 0 [.ref (K.2.1 1000), .int x1] (A, B, L, rs) (QR (some (.long ro)) (A, Bo, Lo, rs)) := by
  refine MC.of (by decide) (Nat.le_of_ble_eq_true rfl) (lv := [(0, .ref (K.2.1 1000)), (1, .int x1)]) rfl (fun p e s m below meth c ls E hr hl hw => ?_)
  exact w_X2_odds_0 hG hM E hr _ _ _  h hw hl

def f_X2_clashOf_5 : Nat → Int32 → Int32 → Int32 → Int32 → QA → QL → Option (Int32 × QA × QL)
  | 0, _, _, _, _, _, _ => none
  | n + 1, x1, x2, x3, x4, B, L => if (4:Int32) ≤ x4 then (
  some (x3, B, L)) else (
  qb1 (f_X2_get x1 (2:Int32) B) fun u1 =>
  qb3 (f_X2_isGuilty (B 1001 2) x4 x1 u1 x2 B L) fun u3 B4 L5 =>
  if u3 = (0:Int32) then (
  qlet (x3 ||| (0:Int32)) fun x3_7 =>
  qlet (x4 + (1:Int32)) fun x4_9 =>
  f_X2_clashOf_5 n x1 x2 x3_7 x4_9 B4 L5) else (
  qlet (x3 ||| ((1:Int32) <<< (x4 &&& 31))) fun x3_11 =>
  qlet (x4 + (1:Int32)) fun x4_13 =>
  f_X2_clashOf_5 n x1 x2 x3_11 x4_13 B4 L5))
set_option maxHeartbeats 4000000 in
theorem w_X2_clashOf_5 {p : Program} {l : Launch} {e : Env} {s : State} {m : MethodId} {args : Array Value} {below : List Frame} {meth : Method} {c : Code} {K : QK} {G : State → Prop} {A : QA} {rs : QX × QM} {ro : Int32} {Bo : QA} {Lo : QL} (hG : QG G) (hM : QMl K) (E : EV K G p s m args meth c cX2_clashOf "VaneCourtModel" 5) (hr : meth.sig.returnType = (some .int)) : ∀ (n : Nat) (x1 : Int32) (x2 : Int32) (x3 : Int32) (x4 : Int32) (B : QA) (L : QL) {H : Heap} {locs : List Loc} {ls : Array Slot}, f_X2_clashOf_5 n x1 x2 x3 x4 B L = some (ro, Bo, Lo) → WP K (A, B, L, rs) H locs → lv_has ls 5 [(0, .ref (K.2.1 1000)), (1, .int x1), (2, .int x2), (3, .int x3), (4, .int x4)] → W p l e (qrm 5 140 0 0) s m args below meth c H locs 0 0 (MQ below (QE K (QR (some (.int ro)) (A, Bo, Lo, rs))) args s 0 0 (qA K)) (F0 m 5 ls []) := by
  have hx := E.1
  have hb := E.2.1
  have hown := E.2.2.1
  have hts := E.2.2.2.2.1
  intro n
  induction n with
  | zero =>
    intro x1 x2 x3 x4 B L H locs ls  h hw hl
    cases h
  | succ n ih =>
    intro x1 x2 x3 x4 B L H locs ls  h hw hl
    rw [f_X2_clashOf_5] at h
    refine lv_iload hx hb dX2_clashOf_5 (lv_at hl 4 rfl) ?_
    refine lv_iconst (v := (4:Int32)) hx hb dX2_clashOf_7 (by decide) ?_
    refine lv_icmp_ge (tgt := 51) hx hb dX2_clashOf_8 (by decide) (fun c => ?_) (fun c => ?_)
    · have h := qi_t c h
      refine lv_iload_n hx hb dX2_clashOf_51 rfl (lv_at hl 3 rfl) ?_
      have h := Option.some.inj h
      obtain ⟨h1, h2⟩ := Prod.mk.inj h
      obtain ⟨h2, h3⟩ := Prod.mk.inj h2
      exact d_iret E hr rfl hw h1 (by rw [h2, h3]) dX2_clashOf_52
    · have h := qi_f c h
      refine lv_iload_n hx hb dX2_clashOf_11 rfl (lv_at hl 3 rfl) ?_
      refine lv_aload_n hx hb dX2_clashOf_12 rfl (lv_at hl 0 rfl) ?_
      refine lv_aload_n hx hb dX2_clashOf_13 rfl (lv_at hl 0 rfl) ?_
      refine r_getM (v := .ref (K.2.1 1001)) E hw hM 0 (by decide) q1353 rfl dX2_clashOf_14 ?_
      refine lv_iconst (v := (2:Int32)) hx hb dX2_clashOf_17 (by decide) ?_
      refine r_iald (j := 2) E hw (qi_1001 hM).at (q_lit (k := 2) (n := 3642) rfl rfl) (q_clamp (k := 2) rfl) dX2_clashOf_18 ?_
      refine lv_iload hx hb dX2_clashOf_19 (lv_at hl 4 rfl) ?_
      refine lv_iload_n hx hb dX2_clashOf_21 rfl (lv_at hl 1 rfl) ?_
      refine lv_aload_n hx hb dX2_clashOf_22 rfl (lv_at hl 0 rfl) ?_
      refine lv_iload_n hx hb dX2_clashOf_23 rfl (lv_at hl 1 rfl) ?_
      refine lv_iconst (v := (2:Int32)) hx hb dX2_clashOf_24 (by decide) ?_
      obtain ⟨u1, g2, h⟩ := qb1_s h
      refine d_V (As := [.int x1, .int (2:Int32)]) (v0 := some (.int u1)) (w0 := (A, B, L, rs)) hG E hw hl (m_X2_get l hG hM  g2) (qM0 hM) rfl (cwV 2 hts (lw_V q1699 q1701 qs97 q140 q1702) rfl rfl rfl ⟨rfl, kd_X2_get⟩ ⟨Nat.le_of_ble_eq_true rfl, Nat.le_of_ble_eq_true rfl⟩) rfl (rest := [.int x1, .int x4, .int (B 1001 2), .ref (K.2.1 1000), .int x3]) (st1 := [.int u1, .int x1, .int x4, .int (B 1001 2), .ref (K.2.1 1000), .int x3]) rfl rfl rfl dX2_clashOf_25 ⟨Nat.le_of_ble_eq_true rfl, Nat.le_of_ble_eq_true rfl⟩ (fun H locs hw => ?_)
      refine lv_iload_n hx hb dX2_clashOf_28 rfl (lv_at hl 2 rfl) ?_
      obtain ⟨u3, B4, L5, g6, h⟩ := qb3_s h
      refine d_V (As := [.int (B 1001 2), .int x4, .int x1, .int u1, .int x2]) (v0 := some (.int u3)) (w0 := (A, B4, L5, rs)) hG E hw hl (m_X2_isGuilty l hG hM  g6) (qM0 hM) rfl (cwV 5 hts (lw_V q1763 q1765 qs108 q140 q1766) rfl rfl rfl ⟨rfl, kd_X2_isGuilty⟩ ⟨Nat.le_of_ble_eq_true rfl, Nat.le_of_ble_eq_true rfl⟩) rfl (rest := [.int x3]) (st1 := [.int u3, .int x3]) rfl rfl rfl dX2_clashOf_29 ⟨Nat.le_of_ble_eq_true rfl, Nat.le_of_ble_eq_true rfl⟩ (fun H locs hw => ?_)
      refine lv_if_eq (tgt := 42) hx hb dX2_clashOf_32 (by decide) (fun c => ?_) (fun c => ?_)
      · have h := qi_t c h
        refine lv_iconst (v := (0:Int32)) hx hb dX2_clashOf_42 (by decide) ?_
        refine lv_ior hx hb dX2_clashOf_43 ?_
        obtain ⟨x3_7, e8, h⟩ := qlet_s h
        refine r_nm e8 ?_
        refine lv_istore_n (lv' := [(3, .int x3_7), (0, .ref (K.2.1 1000)), (1, .int x1), (2, .int x2), (4, .int x4)]) hx hb dX2_clashOf_44 rfl hl (by decide) rfl (fun ls hl => ?_)
        obtain ⟨x4_9, e10, h⟩ := qlet_s h
        refine lv_iinc (v := x4_9) (lv' := [(4, .int x4_9), (3, .int x3_7), (0, .ref (K.2.1 1000)), (1, .int x1), (2, .int x2)]) (k := 4) hx hb dX2_clashOf_45 hl rfl (by rw [e10]; rfl) (by decide) rfl (fun ls hl => ?_)
        refine lv_goto (tgt := 5) hx hb dX2_clashOf_48 (by decide) ?_
        exact ih _ _ _ _ _ _  h hw (lv_sub hl [2, 3, 4, 1, 0] rfl)
      · have h := qi_f c h
        refine lv_iconst (v := (1:Int32)) hx hb dX2_clashOf_35 (by decide) ?_
        refine lv_iload hx hb dX2_clashOf_36 (lv_at hl 4 rfl) ?_
        refine lv_ishl hx hb dX2_clashOf_38 ?_
        refine lv_goto (tgt := 43) hx hb dX2_clashOf_39 (by decide) ?_
        refine lv_ior hx hb dX2_clashOf_43 ?_
        obtain ⟨x3_11, e12, h⟩ := qlet_s h
        refine r_nm e12 ?_
        refine lv_istore_n (lv' := [(3, .int x3_11), (0, .ref (K.2.1 1000)), (1, .int x1), (2, .int x2), (4, .int x4)]) hx hb dX2_clashOf_44 rfl hl (by decide) rfl (fun ls hl => ?_)
        obtain ⟨x4_13, e14, h⟩ := qlet_s h
        refine lv_iinc (v := x4_13) (lv' := [(4, .int x4_13), (3, .int x3_11), (0, .ref (K.2.1 1000)), (1, .int x1), (2, .int x2)]) (k := 4) hx hb dX2_clashOf_45 hl rfl (by rw [e14]; rfl) (by decide) rfl (fun ls hl => ?_)
        refine lv_goto (tgt := 5) hx hb dX2_clashOf_48 (by decide) ?_
        exact ih _ _ _ _ _ _  h hw (lv_sub hl [2, 3, 4, 1, 0] rfl)

def f_X2_clashOf (x1 : Int32) (x2 : Int32) (B : QA) (L : QL) : Option (Int32 × QA × QL) :=
  f_X2_clashOf_5 FU x1 x2 (0:Int32) (0:Int32) B L
set_option maxHeartbeats 4000000 in
theorem w_X2_clashOf_0 {p : Program} {l : Launch} {e : Env} {s : State} {m : MethodId} {args : Array Value} {below : List Frame} {meth : Method} {c : Code} {K : QK} {G : State → Prop} {A : QA} {rs : QX × QM} {ro : Int32} {Bo : QA} {Lo : QL} (hG : QG G) (hM : QMl K) (E : EV K G p s m args meth c cX2_clashOf "VaneCourtModel" 5) (hr : meth.sig.returnType = (some .int)) : ∀ (x1 : Int32) (x2 : Int32) (B : QA) (L : QL) {H : Heap} {locs : List Loc} {ls : Array Slot}, f_X2_clashOf x1 x2 B L = some (ro, Bo, Lo) → WP K (A, B, L, rs) H locs → lv_has ls 5 [(0, .ref (K.2.1 1000)), (1, .int x1), (2, .int x2)] → W p l e (qrm 5 140 0 0) s m args below meth c H locs 0 0 (MQ below (QE K (QR (some (.int ro)) (A, Bo, Lo, rs))) args s 0 0 (qA K)) (F0 m 0 ls []) := by
  have hx := E.1
  have hb := E.2.1
  have hown := E.2.2.1
  have hts := E.2.2.2.2.1
  intro x1 x2 B L H locs ls  h hw hl
  rw [f_X2_clashOf] at h
  refine lv_iconst (v := (0:Int32)) hx hb dX2_clashOf_0 (by decide) ?_
  refine lv_istore_n (lv' := [(3, .int (0:Int32)), (0, .ref (K.2.1 1000)), (1, .int x1), (2, .int x2)]) hx hb dX2_clashOf_1 rfl hl (by decide) rfl (fun ls hl => ?_)
  refine lv_iconst (v := (0:Int32)) hx hb dX2_clashOf_2 (by decide) ?_
  refine lv_istore (lv' := [(4, .int (0:Int32)), (3, .int (0:Int32)), (0, .ref (K.2.1 1000)), (1, .int x1), (2, .int x2)]) hx hb dX2_clashOf_3 hl (by decide) rfl (fun ls hl => ?_)
  exact w_X2_clashOf_5 hG hM E hr  _ _ _ _ _ _ _   h hw (lv_sub hl [2, 3, 4, 1, 0] rfl)

theorem m_X2_clashOf (l : Launch) {K : QK} {G : State → Prop} (hG : QG G) (hM : QMl K) {A : QA} {rs : QX × QM} {x1 : Int32} {x2 : Int32} {B : QA} {L : QL} {ro : Int32} {Bo : QA} {Lo : QL} (h : f_X2_clashOf x1 x2 B L = some (ro, Bo, Lo)) : MC l K G yX2_clashOf (ws_ yX2_clashOf cX2_clashOf 5 (some .int)) 5 140 0 0 [.ref (K.2.1 1000), .int x1, .int x2] (A, B, L, rs) (QR (some (.int ro)) (A, Bo, Lo, rs)) := by
  refine MC.of (by decide) (Nat.le_of_ble_eq_true rfl) (lv := [(0, .ref (K.2.1 1000)), (1, .int x1), (2, .int x2)]) rfl (fun p e s m below meth c ls E hr hl hw => ?_)
  exact w_X2_clashOf_0 hG hM E hr _ _ _ _  h hw hl

def f_X2_clash (x1 : Int32) (B : QA) (L : QL) : Option (Int32 × QA × QL) :=
  qb1 (f_X2_isCase x1 B) fun u1 =>
  if u1 = (0:Int32) then (
  some ((-1:Int32), B, L)) else (
  qb1 (f_X2_get x1 (3:Int32) B) fun u3 =>
  qb3 (f_X2_clashOf x1 u3 B L) fun u5 B6 L7 =>
  some (u5, B6, L7))
set_option maxHeartbeats 4000000 in
theorem w_X2_clash_0 {p : Program} {l : Launch} {e : Env} {s : State} {m : MethodId} {args : Array Value} {below : List Frame} {meth : Method} {c : Code} {K : QK} {G : State → Prop} {A : QA} {rs : QX × QM} {ro : Int32} {Bo : QA} {Lo : QL} (hG : QG G) (hM : QMl K) (E : EV K G p s m args meth c cX2_clash "VaneCourtModel" 2) (hr : meth.sig.returnType = (some .int)) : ∀ (x1 : Int32) (B : QA) (L : QL) {H : Heap} {locs : List Loc} {ls : Array Slot}, f_X2_clash x1 B L = some (ro, Bo, Lo) → WP K (A, B, L, rs) H locs → lv_has ls 2 [(0, .ref (K.2.1 1000)), (1, .int x1)] → W p l e (qrm 6 164 0 0) s m args below meth c H locs 0 0 (MQ below (QE K (QR (some (.int ro)) (A, Bo, Lo, rs))) args s 0 0 (qA K)) (F0 m 0 ls []) := by
  have hx := E.1
  have hb := E.2.1
  have hown := E.2.2.1
  have hts := E.2.2.2.2.1
  intro x1 B L H locs ls  h hw hl
  rw [f_X2_clash] at h
  refine lv_aload_n hx hb dX2_clash_0 rfl (lv_at hl 0 rfl) ?_
  refine lv_iload_n hx hb dX2_clash_1 rfl (lv_at hl 1 rfl) ?_
  obtain ⟨u1, g2, h⟩ := qb1_s h
  refine d_V (As := [.int x1]) (v0 := some (.int u1)) (w0 := (A, B, L, rs)) hG E hw hl (m_X2_isCase l hG hM  g2) (qM0 hM) rfl (cwV 1 hts (lw_V q1695 q1697 qs96 q140 q1698) rfl rfl rfl ⟨rfl, kd_X2_isCase⟩ ⟨Nat.le_of_ble_eq_true rfl, Nat.le_of_ble_eq_true rfl⟩) rfl (rest := []) (st1 := [.int u1]) rfl rfl rfl dX2_clash_2 ⟨Nat.le_of_ble_eq_true rfl, Nat.le_of_ble_eq_true rfl⟩ (fun H locs hw => ?_)
  refine lv_if_eq (tgt := 22) hx hb dX2_clash_5 (by decide) (fun c => ?_) (fun c => ?_)
  · have h := qi_t c h
    refine lv_iconst (v := (-1:Int32)) hx hb dX2_clash_22 (by decide) ?_
    have h := Option.some.inj h
    obtain ⟨h1, h2⟩ := Prod.mk.inj h
    obtain ⟨h2, h3⟩ := Prod.mk.inj h2
    exact d_iret E hr rfl hw h1 (by rw [h2, h3]) dX2_clash_23
  · have h := qi_f c h
    refine lv_aload_n hx hb dX2_clash_8 rfl (lv_at hl 0 rfl) ?_
    refine lv_iload_n hx hb dX2_clash_9 rfl (lv_at hl 1 rfl) ?_
    refine lv_aload_n hx hb dX2_clash_10 rfl (lv_at hl 0 rfl) ?_
    refine lv_iload_n hx hb dX2_clash_11 rfl (lv_at hl 1 rfl) ?_
    refine lv_iconst (v := (3:Int32)) hx hb dX2_clash_12 (by decide) ?_
    obtain ⟨u3, g4, h⟩ := qb1_s h
    refine d_V (As := [.int x1, .int (3:Int32)]) (v0 := some (.int u3)) (w0 := (A, B, L, rs)) hG E hw hl (m_X2_get l hG hM  g4) (qM0 hM) rfl (cwV 2 hts (lw_V q1699 q1701 qs97 q140 q1702) rfl rfl rfl ⟨rfl, kd_X2_get⟩ ⟨Nat.le_of_ble_eq_true rfl, Nat.le_of_ble_eq_true rfl⟩) rfl (rest := [.int x1, .ref (K.2.1 1000)]) (st1 := [.int u3, .int x1, .ref (K.2.1 1000)]) rfl rfl rfl dX2_clash_13 ⟨Nat.le_of_ble_eq_true rfl, Nat.le_of_ble_eq_true rfl⟩ (fun H locs hw => ?_)
    obtain ⟨u5, B6, L7, g8, h⟩ := qb3_s h
    refine d_V (As := [.int x1, .int u3]) (v0 := some (.int u5)) (w0 := (A, B6, L7, rs)) hG E hw hl (m_X2_clashOf l hG hM  g8) (qM0 hM) rfl (cwV 2 hts (lw_V q1917 q1919 qs128 q140 q1920) rfl rfl rfl ⟨rfl, kd_X2_clashOf⟩ ⟨Nat.le_of_ble_eq_true rfl, Nat.le_of_ble_eq_true rfl⟩) rfl (rest := []) (st1 := [.int u5]) rfl rfl rfl dX2_clash_16 ⟨Nat.le_of_ble_eq_true rfl, Nat.le_of_ble_eq_true rfl⟩ (fun H locs hw => ?_)
    refine lv_goto (tgt := 23) hx hb dX2_clash_19 (by decide) ?_
    have h := Option.some.inj h
    obtain ⟨h1, h2⟩ := Prod.mk.inj h
    obtain ⟨h2, h3⟩ := Prod.mk.inj h2
    exact d_iret E hr rfl hw h1 (by rw [h2, h3]) dX2_clash_23

theorem m_X2_clash (l : Launch) {K : QK} {G : State → Prop} (hG : QG G) (hM : QMl K) {A : QA} {rs : QX × QM} {x1 : Int32} {B : QA} {L : QL} {ro : Int32} {Bo : QA} {Lo : QL} (h : f_X2_clash x1 B L = some (ro, Bo, Lo)) : MC l K G yX2_clash (ws_ yX2_clash cX2_clash 2 (some .int)) 6 164 0 0 [.ref (K.2.1 1000), .int x1] (A, B, L, rs) (QR (some (.int ro)) (A, Bo, Lo, rs)) := by
  refine MC.of (by decide) (Nat.le_of_ble_eq_true rfl) (lv := [(0, .ref (K.2.1 1000)), (1, .int x1)]) rfl (fun p e s m below meth c ls E hr hl hw => ?_)
  exact w_X2_clash_0 hG hM E hr _ _ _  h hw hl

def f_X2_leastFacts_40 (k14 : (Int32 → Int32 → Int32 → QA → QL → Option (Int32 × QA × QL))) (x1 : Int32) (x2 : Int32) (x3 : Int32) (B : QA) (L : QL) : Option (Int32 × QA × QL) :=
  qb1 (f_X2_get x1 (3:Int32) B) fun u3 =>
  qb3 (f_X2_clashOf x1 (u3 ^^^ x3) B L) fun u5 B6 L7 =>
  if u5 = (0:Int32) then (
  qlet (x3 + (1:Int32)) fun x3_9 =>
  k14 x1 x3 x3_9 B6 L7) else (
  if u5 = (15:Int32) then (
  qlet (x3 + (1:Int32)) fun x3_13 =>
  k14 x1 x3 x3_13 B6 L7) else (
  qlet (x3 + (1:Int32)) fun x3_11 =>
  k14 x1 x2 x3_11 B6 L7))
set_option maxHeartbeats 4000000 in
theorem w_X2_leastFacts_40 {p : Program} {l : Launch} {e : Env} {s : State} {m : MethodId} {args : Array Value} {below : List Frame} {meth : Method} {c : Code} {K : QK} {G : State → Prop} {A : QA} {rs : QX × QM} {ro : Int32} {Bo : QA} {Lo : QL} (hG : QG G) (hM : QMl K) (E : EV K G p s m args meth c cX2_leastFacts "VaneCourtModel" 5) (hr : meth.sig.returnType = (some .int)) {k14 : (Int32 → Int32 → Int32 → QA → QL → Option (Int32 × QA × QL))} (hk14 : ∀ (x1 : Int32) (x2 : Int32) (x3 : Int32) (B : QA) (L : QL) {H : Heap} {locs : List Loc} {ls : Array Slot}, k14 x1 x2 x3 B L = some (ro, Bo, Lo) → WP K (A, B, L, rs) H locs → lv_has ls 5 [(0, .ref (K.2.1 1000)), (1, .int x1), (2, .int x2), (3, .int x3)] → W p l e (qrm 6 164 0 0) s m args below meth c H locs 0 0 (MQ below (QE K (QR (some (.int ro)) (A, Bo, Lo, rs))) args s 0 0 (qA K)) (F0 m 14 ls [])) : ∀ (x1 : Int32) (x2 : Int32) (x3 : Int32) (B : QA) (L : QL) {H : Heap} {locs : List Loc} {ls : Array Slot}, f_X2_leastFacts_40 k14 x1 x2 x3 B L = some (ro, Bo, Lo) → WP K (A, B, L, rs) H locs → lv_has ls 5 [(0, .ref (K.2.1 1000)), (1, .int x1), (2, .int x2), (3, .int x3)] → W p l e (qrm 6 164 0 0) s m args below meth c H locs 0 0 (MQ below (QE K (QR (some (.int ro)) (A, Bo, Lo, rs))) args s 0 0 (qA K)) (F0 m 40 ls []) := by
  have hx := E.1
  have hb := E.2.1
  have hown := E.2.2.1
  have hts := E.2.2.2.2.1
  intro x1 x2 x3 B L H locs ls  h hw hl
  rw [f_X2_leastFacts_40] at h
  refine lv_aload_n hx hb dX2_leastFacts_40 rfl (lv_at hl 0 rfl) ?_
  refine lv_iload_n hx hb dX2_leastFacts_41 rfl (lv_at hl 1 rfl) ?_
  refine lv_aload_n hx hb dX2_leastFacts_42 rfl (lv_at hl 0 rfl) ?_
  refine lv_iload_n hx hb dX2_leastFacts_43 rfl (lv_at hl 1 rfl) ?_
  refine lv_iconst (v := (3:Int32)) hx hb dX2_leastFacts_44 (by decide) ?_
  obtain ⟨u3, g4, h⟩ := qb1_s h
  refine d_V (As := [.int x1, .int (3:Int32)]) (v0 := some (.int u3)) (w0 := (A, B, L, rs)) hG E hw hl (m_X2_get l hG hM  g4) (qM0 hM) rfl (cwV 2 hts (lw_V q1699 q1701 qs97 q140 q1702) rfl rfl rfl ⟨rfl, kd_X2_get⟩ ⟨Nat.le_of_ble_eq_true rfl, Nat.le_of_ble_eq_true rfl⟩) rfl (rest := [.int x1, .ref (K.2.1 1000)]) (st1 := [.int u3, .int x1, .ref (K.2.1 1000)]) rfl rfl rfl dX2_leastFacts_45 ⟨Nat.le_of_ble_eq_true rfl, Nat.le_of_ble_eq_true rfl⟩ (fun H locs hw => ?_)
  refine lv_iload_n hx hb dX2_leastFacts_48 rfl (lv_at hl 3 rfl) ?_
  refine lv_ixor hx hb dX2_leastFacts_49 ?_
  obtain ⟨u5, B6, L7, g8, h⟩ := qb3_s h
  refine d_V (As := [.int x1, .int (u3 ^^^ x3)]) (v0 := some (.int u5)) (w0 := (A, B6, L7, rs)) hG E hw hl (m_X2_clashOf l hG hM  g8) (qM0 hM) rfl (cwV 2 hts (lw_V q1917 q1919 qs128 q140 q1920) rfl rfl rfl ⟨rfl, kd_X2_clashOf⟩ ⟨Nat.le_of_ble_eq_true rfl, Nat.le_of_ble_eq_true rfl⟩) rfl (rest := []) (st1 := [.int u5]) rfl rfl rfl dX2_leastFacts_50 ⟨Nat.le_of_ble_eq_true rfl, Nat.le_of_ble_eq_true rfl⟩ (fun H locs hw => ?_)
  refine lv_istore (lv' := [(4, .int u5), (0, .ref (K.2.1 1000)), (1, .int x1), (2, .int x2), (3, .int x3)]) hx hb dX2_leastFacts_53 hl (by decide) rfl (fun ls hl => ?_)
  refine lv_iload hx hb dX2_leastFacts_55 (lv_at hl 0 rfl) ?_
  refine lv_if_eq (tgt := 67) hx hb dX2_leastFacts_57 (by decide) (fun c => ?_) (fun c => ?_)
  · have h := qi_t c h
    refine lv_iload_n hx hb dX2_leastFacts_67 rfl (lv_at hl 4 rfl) ?_
    refine lv_istore_n (lv' := [(2, .int x3), (4, .int u5), (0, .ref (K.2.1 1000)), (1, .int x1), (3, .int x3)]) hx hb dX2_leastFacts_68 rfl hl (by decide) rfl (fun ls hl => ?_)
    obtain ⟨x3_9, e10, h⟩ := qlet_s h
    refine lv_iinc (v := x3_9) (lv' := [(3, .int x3_9), (2, .int x3), (4, .int u5), (0, .ref (K.2.1 1000)), (1, .int x1)]) (k := 4) hx hb dX2_leastFacts_69 hl rfl (by rw [e10]; rfl) (by decide) rfl (fun ls hl => ?_)
    refine lv_goto (tgt := 14) hx hb dX2_leastFacts_72 (by decide) ?_
    exact hk14 _ _ _ _ _  h hw (lv_sub hl [3, 4, 1, 0] rfl)
  · have h := qi_f c h
    refine lv_iload hx hb dX2_leastFacts_60 (lv_at hl 0 rfl) ?_
    refine lv_bipush (v := (15:Int32)) hx hb dX2_leastFacts_62 (by decide) ?_
    refine lv_icmp_ne (tgt := 69) hx hb dX2_leastFacts_64 (by decide) (fun c => ?_) (fun c => ?_)
    · have h := qi_f c h
      obtain ⟨x3_11, e12, h⟩ := qlet_s h
      refine lv_iinc (v := x3_11) (lv' := [(3, .int x3_11), (4, .int u5), (0, .ref (K.2.1 1000)), (1, .int x1), (2, .int x2)]) (k := 4) hx hb dX2_leastFacts_69 hl rfl (by rw [e12]; rfl) (by decide) rfl (fun ls hl => ?_)
      refine lv_goto (tgt := 14) hx hb dX2_leastFacts_72 (by decide) ?_
      exact hk14 _ _ _ _ _  h hw (lv_sub hl [2, 3, 4, 0] rfl)
    · have h := qi_t c h
      refine lv_iload_n hx hb dX2_leastFacts_67 rfl (lv_at hl 4 rfl) ?_
      refine lv_istore_n (lv' := [(2, .int x3), (4, .int u5), (0, .ref (K.2.1 1000)), (1, .int x1), (3, .int x3)]) hx hb dX2_leastFacts_68 rfl hl (by decide) rfl (fun ls hl => ?_)
      obtain ⟨x3_13, e14, h⟩ := qlet_s h
      refine lv_iinc (v := x3_13) (lv' := [(3, .int x3_13), (2, .int x3), (4, .int u5), (0, .ref (K.2.1 1000)), (1, .int x1)]) (k := 4) hx hb dX2_leastFacts_69 hl rfl (by rw [e14]; rfl) (by decide) rfl (fun ls hl => ?_)
      refine lv_goto (tgt := 14) hx hb dX2_leastFacts_72 (by decide) ?_
      exact hk14 _ _ _ _ _  h hw (lv_sub hl [3, 4, 1, 0] rfl)

def f_X2_leastFacts_14 : Nat → Int32 → Int32 → Int32 → QA → QL → Option (Int32 × QA × QL)
  | 0, _, _, _, _, _ => none
  | n + 1, x1, x2, x3, B, L => if (256:Int32) ≤ x3 then (
  some (x2, B, L)) else (
  if x2 = (-1:Int32) then (
  f_X2_leastFacts_40 (fun x1' x2' x3' B' L' => f_X2_leastFacts_14 n x1' x2' x3' B' L') x1 x2 x3 B L) else (
  qb1 (f_X2_bits x3) fun u15 =>
  qb1 (f_X2_bits x2) fun u17 =>
  if u15 < u17 then (
  f_X2_leastFacts_40 (fun x1' x2' x3' B' L' => f_X2_leastFacts_14 n x1' x2' x3' B' L') x1 x2 x3 B L) else (
  qlet (x3 + (1:Int32)) fun x3_19 =>
  f_X2_leastFacts_14 n x1 x2 x3_19 B L)))
set_option maxHeartbeats 4000000 in
theorem w_X2_leastFacts_14 {p : Program} {l : Launch} {e : Env} {s : State} {m : MethodId} {args : Array Value} {below : List Frame} {meth : Method} {c : Code} {K : QK} {G : State → Prop} {A : QA} {rs : QX × QM} {ro : Int32} {Bo : QA} {Lo : QL} (hG : QG G) (hM : QMl K) (E : EV K G p s m args meth c cX2_leastFacts "VaneCourtModel" 5) (hr : meth.sig.returnType = (some .int)) : ∀ (n : Nat) (x1 : Int32) (x2 : Int32) (x3 : Int32) (B : QA) (L : QL) {H : Heap} {locs : List Loc} {ls : Array Slot}, f_X2_leastFacts_14 n x1 x2 x3 B L = some (ro, Bo, Lo) → WP K (A, B, L, rs) H locs → lv_has ls 5 [(0, .ref (K.2.1 1000)), (1, .int x1), (2, .int x2), (3, .int x3)] → W p l e (qrm 6 164 0 0) s m args below meth c H locs 0 0 (MQ below (QE K (QR (some (.int ro)) (A, Bo, Lo, rs))) args s 0 0 (qA K)) (F0 m 14 ls []) := by
  have hx := E.1
  have hb := E.2.1
  have hown := E.2.2.1
  have hts := E.2.2.2.2.1
  intro n
  induction n with
  | zero =>
    intro x1 x2 x3 B L H locs ls  h hw hl
    cases h
  | succ n ih =>
    intro x1 x2 x3 B L H locs ls  h hw hl
    rw [f_X2_leastFacts_14] at h
    refine lv_iload_n hx hb dX2_leastFacts_14 rfl (lv_at hl 3 rfl) ?_
    refine lv_sipush (v := (256:Int32)) hx hb dX2_leastFacts_15 (by decide) ?_
    refine lv_icmp_ge (tgt := 75) hx hb dX2_leastFacts_18 (by decide) (fun c => ?_) (fun c => ?_)
    · have h := qi_t c h
      refine lv_iload_n hx hb dX2_leastFacts_75 rfl (lv_at hl 2 rfl) ?_
      have h := Option.some.inj h
      obtain ⟨h1, h2⟩ := Prod.mk.inj h
      obtain ⟨h2, h3⟩ := Prod.mk.inj h2
      exact d_iret E hr rfl hw h1 (by rw [h2, h3]) dX2_leastFacts_76
    · have h := qi_f c h
      refine lv_iload_n hx hb dX2_leastFacts_21 rfl (lv_at hl 2 rfl) ?_
      refine lv_iconst (v := (-1:Int32)) hx hb dX2_leastFacts_22 (by decide) ?_
      refine lv_icmp_eq (tgt := 40) hx hb dX2_leastFacts_23 (by decide) (fun c => ?_) (fun c => ?_)
      · have h := qi_t c h
        exact w_X2_leastFacts_40 hG hM E hr ih _ _ _ _ _   h hw (lv_sub hl [0, 1, 2, 3] rfl)
      · have h := qi_f c h
        refine lv_iload_n hx hb dX2_leastFacts_26 rfl (lv_at hl 3 rfl) ?_
        obtain ⟨u15, g16, h⟩ := qb1_s h
        refine d_S (As := [.int x3]) (v0 := some (.int u15)) (w0 := (A, B, L, rs)) hG E hw hl (m_X2_bits l hG hM  g16) (va_cwS 1 hts (lw_S q1809 q1810 q140 q1811) rfl rfl rfl kd_X2_bits ⟨Nat.le_of_ble_eq_true rfl, Nat.le_of_ble_eq_true rfl⟩) rfl (rest := []) (st1 := [.int u15]) rfl rfl rfl dX2_leastFacts_27 ⟨Nat.le_of_ble_eq_true rfl, Nat.le_of_ble_eq_true rfl⟩ (fun H locs hw => ?_)
        refine lv_iload_n hx hb dX2_leastFacts_30 rfl (lv_at hl 2 rfl) ?_
        obtain ⟨u17, g18, h⟩ := qb1_s h
        refine d_S (As := [.int x2]) (v0 := some (.int u17)) (w0 := (A, B, L, rs)) hG E hw hl (m_X2_bits l hG hM  g18) (va_cwS 1 hts (lw_S q1809 q1810 q140 q1811) rfl rfl rfl kd_X2_bits ⟨Nat.le_of_ble_eq_true rfl, Nat.le_of_ble_eq_true rfl⟩) rfl (rest := [.int u15]) (st1 := [.int u17, .int u15]) rfl rfl rfl dX2_leastFacts_31 ⟨Nat.le_of_ble_eq_true rfl, Nat.le_of_ble_eq_true rfl⟩ (fun H locs hw => ?_)
        refine lv_icmp_lt (tgt := 40) hx hb dX2_leastFacts_34 (by decide) (fun c => ?_) (fun c => ?_)
        · have h := qi_t c h
          exact w_X2_leastFacts_40 hG hM E hr ih _ _ _ _ _   h hw (lv_sub hl [0, 1, 2, 3] rfl)
        · have h := qi_f c h
          refine lv_goto (tgt := 69) hx hb dX2_leastFacts_37 (by decide) ?_
          obtain ⟨x3_19, e20, h⟩ := qlet_s h
          refine lv_iinc (v := x3_19) (lv' := [(3, .int x3_19), (0, .ref (K.2.1 1000)), (1, .int x1), (2, .int x2)]) (k := 3) hx hb dX2_leastFacts_69 hl rfl (by rw [e20]; rfl) (by decide) rfl (fun ls hl => ?_)
          refine lv_goto (tgt := 14) hx hb dX2_leastFacts_72 (by decide) ?_
          exact ih _ _ _ _ _  h hw (lv_sub hl [1, 2, 3, 0] rfl)

def f_X2_leastFacts (x1 : Int32) (B : QA) (L : QL) : Option (Int32 × QA × QL) :=
  qb1 (f_X2_isCase x1 B) fun u1 =>
  if u1 = (0:Int32) then (
  some ((-1:Int32), B, L)) else (
  f_X2_leastFacts_14 FU x1 (-1:Int32) (0:Int32) B L)
set_option maxHeartbeats 4000000 in
theorem w_X2_leastFacts_0 {p : Program} {l : Launch} {e : Env} {s : State} {m : MethodId} {args : Array Value} {below : List Frame} {meth : Method} {c : Code} {K : QK} {G : State → Prop} {A : QA} {rs : QX × QM} {ro : Int32} {Bo : QA} {Lo : QL} (hG : QG G) (hM : QMl K) (E : EV K G p s m args meth c cX2_leastFacts "VaneCourtModel" 5) (hr : meth.sig.returnType = (some .int)) : ∀ (x1 : Int32) (B : QA) (L : QL) {H : Heap} {locs : List Loc} {ls : Array Slot}, f_X2_leastFacts x1 B L = some (ro, Bo, Lo) → WP K (A, B, L, rs) H locs → lv_has ls 5 [(0, .ref (K.2.1 1000)), (1, .int x1)] → W p l e (qrm 6 164 0 0) s m args below meth c H locs 0 0 (MQ below (QE K (QR (some (.int ro)) (A, Bo, Lo, rs))) args s 0 0 (qA K)) (F0 m 0 ls []) := by
  have hx := E.1
  have hb := E.2.1
  have hown := E.2.2.1
  have hts := E.2.2.2.2.1
  intro x1 B L H locs ls  h hw hl
  rw [f_X2_leastFacts] at h
  refine lv_aload_n hx hb dX2_leastFacts_0 rfl (lv_at hl 0 rfl) ?_
  refine lv_iload_n hx hb dX2_leastFacts_1 rfl (lv_at hl 1 rfl) ?_
  obtain ⟨u1, g2, h⟩ := qb1_s h
  refine d_V (As := [.int x1]) (v0 := some (.int u1)) (w0 := (A, B, L, rs)) hG E hw hl (m_X2_isCase l hG hM  g2) (qM0 hM) rfl (cwV 1 hts (lw_V q1695 q1697 qs96 q140 q1698) rfl rfl rfl ⟨rfl, kd_X2_isCase⟩ ⟨Nat.le_of_ble_eq_true rfl, Nat.le_of_ble_eq_true rfl⟩) rfl (rest := []) (st1 := [.int u1]) rfl rfl rfl dX2_leastFacts_2 ⟨Nat.le_of_ble_eq_true rfl, Nat.le_of_ble_eq_true rfl⟩ (fun H locs hw => ?_)
  refine lv_if_ne (tgt := 10) hx hb dX2_leastFacts_5 (by decide) (fun c => ?_) (fun c => ?_)
  · have h := qi_f c h
    refine lv_iconst (v := (-1:Int32)) hx hb dX2_leastFacts_10 (by decide) ?_
    refine lv_istore_n (lv' := [(2, .int (-1:Int32)), (0, .ref (K.2.1 1000)), (1, .int x1)]) hx hb dX2_leastFacts_11 rfl hl (by decide) rfl (fun ls hl => ?_)
    refine lv_iconst (v := (0:Int32)) hx hb dX2_leastFacts_12 (by decide) ?_
    refine lv_istore_n (lv' := [(3, .int (0:Int32)), (2, .int (-1:Int32)), (0, .ref (K.2.1 1000)), (1, .int x1)]) hx hb dX2_leastFacts_13 rfl hl (by decide) rfl (fun ls hl => ?_)
    exact w_X2_leastFacts_14 hG hM E hr  _ _ _ _ _ _   h hw (lv_sub hl [2, 3, 1, 0] rfl)
  · have h := qi_t c h
    refine lv_iconst (v := (-1:Int32)) hx hb dX2_leastFacts_8 (by decide) ?_
    have h := Option.some.inj h
    obtain ⟨h1, h2⟩ := Prod.mk.inj h
    obtain ⟨h2, h3⟩ := Prod.mk.inj h2
    exact d_iret E hr rfl hw h1 (by rw [h2, h3]) dX2_leastFacts_9

theorem m_X2_leastFacts (l : Launch) {K : QK} {G : State → Prop} (hG : QG G) (hM : QMl K) {A : QA} {rs : QX × QM} {x1 : Int32} {B : QA} {L : QL} {ro : Int32} {Bo : QA} {Lo : QL} (h : f_X2_leastFacts x1 B L = some (ro, Bo, Lo)) : MC l K G yX2_leastFacts (ws_ yX2_leastFacts cX2_leastFacts 5 (some .int)) 6 164 0 0 [.ref (K.2.1 1000), .int x1] (A, B, L, rs) (QR (some (.int ro)) (A, Bo, Lo, rs)) := by
  refine MC.of (by decide) (Nat.le_of_ble_eq_true rfl) (lv := [(0, .ref (K.2.1 1000)), (1, .int x1)]) rfl (fun p e s m below meth c ls E hr hl hw => ?_)
  exact w_X2_leastFacts_0 hG hM E hr _ _ _  h hw hl

def f_X2_game_188 (k72 : (Int32 → Int32 → Int32 → QA → QL → Option (Int32 × QA × QL))) (k105 : (Int32 → Int32 → Int32 → Int32 → Int32 → QA → QL → Option (Int32 × QA × QL))) (x2 : Int32) (x3 : Int32) (x4 : Int32) (x5 : Int32) (x6 : Int32) (x7 : Int32) (x8 : Int32) (s0 : Int32) (B : QA) (L : QL) : Option (Int32 × QA × QL) :=
  if s0 = (0:Int32) then (
  qif (qok (((4:Int32) * x4) + x6) 28) <|
  qlet (qu B 1014 (((4:Int32) * x4) + x6).toNatClampNeg x7) fun B17 =>
  qlet (x6 + (1:Int32)) fun x6_19 =>
  k105 x2 x3 x4 x5 x6_19 B17 L) else (
  qif (qok (((4:Int32) * x4) + x6) 28) <|
  qlet (qu B 1014 (((4:Int32) * x4) + x6).toNatClampNeg x8) fun B22 =>
  qlet (x6 + (1:Int32)) fun x6_24 =>
  k105 x2 x3 x4 x5 x6_24 B22 L)
set_option maxHeartbeats 4000000 in
theorem w_X2_game_188 {p : Program} {l : Launch} {e : Env} {s : State} {m : MethodId} {args : Array Value} {below : List Frame} {meth : Method} {c : Code} {K : QK} {G : State → Prop} {A : QA} {rs : QX × QM} {ro : Int32} {Bo : QA} {Lo : QL} (hG : QG G) (hM : QMl K) (E : EV K G p s m args meth c cX2_game "VaneCourtModel" 10) (hr : meth.sig.returnType = (some .int)) {k72 : (Int32 → Int32 → Int32 → QA → QL → Option (Int32 × QA × QL))} {k105 : (Int32 → Int32 → Int32 → Int32 → Int32 → QA → QL → Option (Int32 × QA × QL))} (hk72 : ∀ (x2 : Int32) (x3 : Int32) (x4 : Int32) (B : QA) (L : QL) {H : Heap} {locs : List Loc} {ls : Array Slot}, k72 x2 x3 x4 B L = some (ro, Bo, Lo) → WP K (A, B, L, rs) H locs → lv_has ls 10 [(0, .ref (K.2.1 1000)), (2, .int x2), (3, .int x3), (4, .int x4)] → W p l e (qrm 7 191 0 0) s m args below meth c H locs 0 0 (MQ below (QE K (QR (some (.int ro)) (A, Bo, Lo, rs))) args s 0 0 (qA K)) (F0 m 72 ls [])) (hk105 : ∀ (x2 : Int32) (x3 : Int32) (x4 : Int32) (x5 : Int32) (x6 : Int32) (B : QA) (L : QL) {H : Heap} {locs : List Loc} {ls : Array Slot}, k105 x2 x3 x4 x5 x6 B L = some (ro, Bo, Lo) → WP K (A, B, L, rs) H locs → lv_has ls 10 [(0, .ref (K.2.1 1000)), (2, .int x2), (3, .int x3), (4, .int x4), (5, .int x5), (6, .int x6)] → W p l e (qrm 7 191 0 0) s m args below meth c H locs 0 0 (MQ below (QE K (QR (some (.int ro)) (A, Bo, Lo, rs))) args s 0 0 (qA K)) (F0 m 105 ls [])) : ∀ (x2 : Int32) (x3 : Int32) (x4 : Int32) (x5 : Int32) (x6 : Int32) (x7 : Int32) (x8 : Int32) (s0 : Int32) (B : QA) (L : QL) {H : Heap} {locs : List Loc} {ls : Array Slot}, f_X2_game_188 k72 k105 x2 x3 x4 x5 x6 x7 x8 s0 B L = some (ro, Bo, Lo) → WP K (A, B, L, rs) H locs → lv_has ls 10 [(0, .ref (K.2.1 1000)), (2, .int x2), (3, .int x3), (4, .int x4), (5, .int x5), (6, .int x6), (7, .int x7), (8, .int x8)] → W p l e (qrm 7 191 0 0) s m args below meth c H locs 0 0 (MQ below (QE K (QR (some (.int ro)) (A, Bo, Lo, rs))) args s 0 0 (qA K)) (F0 m 188 ls [.int s0]) := by
  have hx := E.1
  have hb := E.2.1
  have hown := E.2.2.1
  have hts := E.2.2.2.2.1
  intro x2 x3 x4 x5 x6 x7 x8 s0 B L H locs ls  h hw hl
  rw [f_X2_game_188] at h
  refine lv_istore (lv' := [(9, .int s0), (0, .ref (K.2.1 1000)), (2, .int x2), (3, .int x3), (4, .int x4), (5, .int x5), (6, .int x6), (7, .int x7), (8, .int x8)]) hx hb dX2_game_188 hl (by decide) rfl (fun ls hl => ?_)
  refine lv_aload_n hx hb dX2_game_190 rfl (lv_at hl 1 rfl) ?_
  refine r_getM (v := .ref (K.2.1 1014)) E hw hM 36 (by decide) q1389 rfl dX2_game_191 ?_
  refine lv_iconst (v := (4:Int32)) hx hb dX2_game_194 (by decide) ?_
  refine lv_iload hx hb dX2_game_195 (lv_at hl 4 rfl) ?_
  refine lv_imul hx hb dX2_game_197 ?_
  refine lv_iload hx hb dX2_game_198 (lv_at hl 6 rfl) ?_
  refine lv_iadd hx hb dX2_game_200 ?_
  refine lv_iload hx hb dX2_game_201 (lv_at hl 0 rfl) ?_
  refine lv_if_eq (tgt := 211) hx hb dX2_game_203 (by decide) (fun c => ?_) (fun c => ?_)
  · have h := qi_t c h
    refine lv_iload hx hb dX2_game_211 (lv_at hl 7 rfl) ?_
    obtain ⟨z16, h⟩ := qif_s h
    obtain ⟨B17, e18, h⟩ := qlet_s h
    refine r_iastB (j := (((4:Int32) * x4) + x6).toNatClampNeg) E hw (qi_1014 hM) (qok_in z16) rfl dX2_game_213 (fun H locs hw => ?_)
    rw [← e18] at hw
    obtain ⟨x6_19, e20, h⟩ := qlet_s h
    refine lv_iinc (v := x6_19) (lv' := [(6, .int x6_19), (9, .int s0), (0, .ref (K.2.1 1000)), (2, .int x2), (3, .int x3), (4, .int x4), (5, .int x5), (7, .int x7), (8, .int x8)]) (k := 6) hx hb dX2_game_214 hl rfl (by rw [e20]; rfl) (by decide) rfl (fun ls hl => ?_)
    refine lv_goto (tgt := 105) hx hb dX2_game_217 (by decide) ?_
    exact hk105 _ _ _ _ _ _ _  h hw (lv_sub hl [2, 3, 4, 5, 6, 0] rfl)
  · have h := qi_f c h
    refine lv_iload hx hb dX2_game_206 (lv_at hl 8 rfl) ?_
    refine lv_goto (tgt := 213) hx hb dX2_game_208 (by decide) ?_
    obtain ⟨z21, h⟩ := qif_s h
    obtain ⟨B22, e23, h⟩ := qlet_s h
    refine r_iastB (j := (((4:Int32) * x4) + x6).toNatClampNeg) E hw (qi_1014 hM) (qok_in z21) rfl dX2_game_213 (fun H locs hw => ?_)
    rw [← e23] at hw
    obtain ⟨x6_24, e25, h⟩ := qlet_s h
    refine lv_iinc (v := x6_24) (lv' := [(6, .int x6_24), (9, .int s0), (0, .ref (K.2.1 1000)), (2, .int x2), (3, .int x3), (4, .int x4), (5, .int x5), (7, .int x7), (8, .int x8)]) (k := 6) hx hb dX2_game_214 hl rfl (by rw [e25]; rfl) (by decide) rfl (fun ls hl => ?_)
    refine lv_goto (tgt := 105) hx hb dX2_game_217 (by decide) ?_
    exact hk105 _ _ _ _ _ _ _  h hw (lv_sub hl [2, 3, 4, 5, 6, 0] rfl)

def f_X2_game_154 (k72 : (Int32 → Int32 → Int32 → QA → QL → Option (Int32 × QA × QL))) (k105 : (Int32 → Int32 → Int32 → Int32 → Int32 → QA → QL → Option (Int32 × QA × QL))) (x2 : Int32) (x3 : Int32) (x4 : Int32) (x5 : Int32) (x6 : Int32) (x7 : Int32) (s0 : Int32) (B : QA) (L : QL) : Option (Int32 × QA × QL) :=
  if x5 = (0:Int32) then (
  if x7 ≤ s0 then (
  f_X2_game_188 k72 k105 x2 x3 x4 x5 x6 x7 s0 (0:Int32) B L) else (
  f_X2_game_188 k72 k105 x2 x3 x4 x5 x6 x7 s0 (1:Int32) B L)) else (
  if s0 ≤ x7 then (
  f_X2_game_188 k72 k105 x2 x3 x4 x5 x6 x7 s0 (0:Int32) B L) else (
  f_X2_game_188 k72 k105 x2 x3 x4 x5 x6 x7 s0 (1:Int32) B L))
set_option maxHeartbeats 4000000 in
theorem w_X2_game_154 {p : Program} {l : Launch} {e : Env} {s : State} {m : MethodId} {args : Array Value} {below : List Frame} {meth : Method} {c : Code} {K : QK} {G : State → Prop} {A : QA} {rs : QX × QM} {ro : Int32} {Bo : QA} {Lo : QL} (hG : QG G) (hM : QMl K) (E : EV K G p s m args meth c cX2_game "VaneCourtModel" 10) (hr : meth.sig.returnType = (some .int)) {k72 : (Int32 → Int32 → Int32 → QA → QL → Option (Int32 × QA × QL))} {k105 : (Int32 → Int32 → Int32 → Int32 → Int32 → QA → QL → Option (Int32 × QA × QL))} (hk72 : ∀ (x2 : Int32) (x3 : Int32) (x4 : Int32) (B : QA) (L : QL) {H : Heap} {locs : List Loc} {ls : Array Slot}, k72 x2 x3 x4 B L = some (ro, Bo, Lo) → WP K (A, B, L, rs) H locs → lv_has ls 10 [(0, .ref (K.2.1 1000)), (2, .int x2), (3, .int x3), (4, .int x4)] → W p l e (qrm 7 191 0 0) s m args below meth c H locs 0 0 (MQ below (QE K (QR (some (.int ro)) (A, Bo, Lo, rs))) args s 0 0 (qA K)) (F0 m 72 ls [])) (hk105 : ∀ (x2 : Int32) (x3 : Int32) (x4 : Int32) (x5 : Int32) (x6 : Int32) (B : QA) (L : QL) {H : Heap} {locs : List Loc} {ls : Array Slot}, k105 x2 x3 x4 x5 x6 B L = some (ro, Bo, Lo) → WP K (A, B, L, rs) H locs → lv_has ls 10 [(0, .ref (K.2.1 1000)), (2, .int x2), (3, .int x3), (4, .int x4), (5, .int x5), (6, .int x6)] → W p l e (qrm 7 191 0 0) s m args below meth c H locs 0 0 (MQ below (QE K (QR (some (.int ro)) (A, Bo, Lo, rs))) args s 0 0 (qA K)) (F0 m 105 ls [])) : ∀ (x2 : Int32) (x3 : Int32) (x4 : Int32) (x5 : Int32) (x6 : Int32) (x7 : Int32) (s0 : Int32) (B : QA) (L : QL) {H : Heap} {locs : List Loc} {ls : Array Slot}, f_X2_game_154 k72 k105 x2 x3 x4 x5 x6 x7 s0 B L = some (ro, Bo, Lo) → WP K (A, B, L, rs) H locs → lv_has ls 10 [(0, .ref (K.2.1 1000)), (2, .int x2), (3, .int x3), (4, .int x4), (5, .int x5), (6, .int x6), (7, .int x7)] → W p l e (qrm 7 191 0 0) s m args below meth c H locs 0 0 (MQ below (QE K (QR (some (.int ro)) (A, Bo, Lo, rs))) args s 0 0 (qA K)) (F0 m 154 ls [.int s0]) := by
  have hx := E.1
  have hb := E.2.1
  have hown := E.2.2.1
  have hts := E.2.2.2.2.1
  intro x2 x3 x4 x5 x6 x7 s0 B L H locs ls  h hw hl
  rw [f_X2_game_154] at h
  refine lv_istore (lv' := [(8, .int s0), (0, .ref (K.2.1 1000)), (2, .int x2), (3, .int x3), (4, .int x4), (5, .int x5), (6, .int x6), (7, .int x7)]) hx hb dX2_game_154 hl (by decide) rfl (fun ls hl => ?_)
  refine lv_iload hx hb dX2_game_156 (lv_at hl 5 rfl) ?_
  refine lv_if_eq (tgt := 176) hx hb dX2_game_158 (by decide) (fun c => ?_) (fun c => ?_)
  · have h := qi_t c h
    refine lv_iload hx hb dX2_game_176 (lv_at hl 0 rfl) ?_
    refine lv_iload hx hb dX2_game_178 (lv_at hl 7 rfl) ?_
    refine lv_icmp_ge (tgt := 187) hx hb dX2_game_180 (by decide) (fun c => ?_) (fun c => ?_)
    · have h := qi_t c h
      refine lv_iconst (v := (0:Int32)) hx hb dX2_game_187 (by decide) ?_
      exact w_X2_game_188 hG hM E hr hk72 hk105 _ _ _ _ _ _ _ _ _ _   h hw (lv_sub hl [1, 2, 3, 4, 5, 6, 7, 0] rfl)
    · have h := qi_f c h
      refine lv_iconst (v := (1:Int32)) hx hb dX2_game_183 (by decide) ?_
      refine lv_goto (tgt := 188) hx hb dX2_game_184 (by decide) ?_
      exact w_X2_game_188 hG hM E hr hk72 hk105 _ _ _ _ _ _ _ _ _ _   h hw (lv_sub hl [1, 2, 3, 4, 5, 6, 7, 0] rfl)
  · have h := qi_f c h
    refine lv_iload hx hb dX2_game_161 (lv_at hl 0 rfl) ?_
    refine lv_iload hx hb dX2_game_163 (lv_at hl 7 rfl) ?_
    refine lv_icmp_le (tgt := 172) hx hb dX2_game_165 (by decide) (fun c => ?_) (fun c => ?_)
    · have h := qi_t c h
      refine lv_iconst (v := (0:Int32)) hx hb dX2_game_172 (by decide) ?_
      refine lv_goto (tgt := 188) hx hb dX2_game_173 (by decide) ?_
      exact w_X2_game_188 hG hM E hr hk72 hk105 _ _ _ _ _ _ _ _ _ _   h hw (lv_sub hl [1, 2, 3, 4, 5, 6, 7, 0] rfl)
    · have h := qi_f c h
      refine lv_iconst (v := (1:Int32)) hx hb dX2_game_168 (by decide) ?_
      refine lv_goto (tgt := 188) hx hb dX2_game_169 (by decide) ?_
      exact w_X2_game_188 hG hM E hr hk72 hk105 _ _ _ _ _ _ _ _ _ _   h hw (lv_sub hl [1, 2, 3, 4, 5, 6, 7, 0] rfl)

def f_X2_game_105 (k72 : (Int32 → Int32 → Int32 → QA → QL → Option (Int32 × QA × QL))) : Nat → Int32 → Int32 → Int32 → Int32 → Int32 → QA → QL → Option (Int32 × QA × QL)
  | 0, _, _, _, _, _, _, _ => none
  | n + 1, x2, x3, x4, x5, x6, B, L => if (3:Int32) < x6 then (
  qlet (x4 + (1:Int32)) fun x4_11 =>
  k72 x2 x3 x4_11 B L) else (
  qif (qok (((4:Int32) * (x4 - (1:Int32))) + x6) 28) <|
  qlet (B 1014 (((4:Int32) * (x4 - (1:Int32))) + x6).toNatClampNeg) fun x7_14 =>
  if (3:Int32) ≤ x6 then (
  f_X2_game_154 k72 (fun x2' x3' x4' x5' x6' B' L' => f_X2_game_105 k72 n x2' x3' x4' x5' x6' B' L') x2 x3 x4 x5 x6 x7_14 x7_14 B L) else (
  qif (qok ((((4:Int32) * (x4 - (1:Int32))) + x6) + (1:Int32)) 28) <|
  f_X2_game_154 k72 (fun x2' x3' x4' x5' x6' B' L' => f_X2_game_105 k72 n x2' x3' x4' x5' x6' B' L') x2 x3 x4 x5 x6 x7_14 (B 1014 ((((4:Int32) * (x4 - (1:Int32))) + x6) + (1:Int32)).toNatClampNeg) B L))
set_option maxHeartbeats 4000000 in
theorem w_X2_game_105 {p : Program} {l : Launch} {e : Env} {s : State} {m : MethodId} {args : Array Value} {below : List Frame} {meth : Method} {c : Code} {K : QK} {G : State → Prop} {A : QA} {rs : QX × QM} {ro : Int32} {Bo : QA} {Lo : QL} (hG : QG G) (hM : QMl K) (E : EV K G p s m args meth c cX2_game "VaneCourtModel" 10) (hr : meth.sig.returnType = (some .int)) {k72 : (Int32 → Int32 → Int32 → QA → QL → Option (Int32 × QA × QL))} (hk72 : ∀ (x2 : Int32) (x3 : Int32) (x4 : Int32) (B : QA) (L : QL) {H : Heap} {locs : List Loc} {ls : Array Slot}, k72 x2 x3 x4 B L = some (ro, Bo, Lo) → WP K (A, B, L, rs) H locs → lv_has ls 10 [(0, .ref (K.2.1 1000)), (2, .int x2), (3, .int x3), (4, .int x4)] → W p l e (qrm 7 191 0 0) s m args below meth c H locs 0 0 (MQ below (QE K (QR (some (.int ro)) (A, Bo, Lo, rs))) args s 0 0 (qA K)) (F0 m 72 ls [])) : ∀ (n : Nat) (x2 : Int32) (x3 : Int32) (x4 : Int32) (x5 : Int32) (x6 : Int32) (B : QA) (L : QL) {H : Heap} {locs : List Loc} {ls : Array Slot}, f_X2_game_105 k72 n x2 x3 x4 x5 x6 B L = some (ro, Bo, Lo) → WP K (A, B, L, rs) H locs → lv_has ls 10 [(0, .ref (K.2.1 1000)), (2, .int x2), (3, .int x3), (4, .int x4), (5, .int x5), (6, .int x6)] → W p l e (qrm 7 191 0 0) s m args below meth c H locs 0 0 (MQ below (QE K (QR (some (.int ro)) (A, Bo, Lo, rs))) args s 0 0 (qA K)) (F0 m 105 ls []) := by
  have hx := E.1
  have hb := E.2.1
  have hown := E.2.2.1
  have hts := E.2.2.2.2.1
  intro n
  induction n with
  | zero =>
    intro x2 x3 x4 x5 x6 B L H locs ls  h hw hl
    cases h
  | succ n ih =>
    intro x2 x3 x4 x5 x6 B L H locs ls  h hw hl
    rw [f_X2_game_105] at h
    refine lv_iload hx hb dX2_game_105 (lv_at hl 5 rfl) ?_
    refine lv_iconst (v := (3:Int32)) hx hb dX2_game_107 (by decide) ?_
    refine lv_icmp_gt (tgt := 220) hx hb dX2_game_108 (by decide) (fun c => ?_) (fun c => ?_)
    · have h := qi_t c h
      obtain ⟨x4_11, e12, h⟩ := qlet_s h
      refine lv_iinc (v := x4_11) (lv' := [(4, .int x4_11), (0, .ref (K.2.1 1000)), (2, .int x2), (3, .int x3), (5, .int x5), (6, .int x6)]) (k := 3) hx hb dX2_game_220 hl rfl (by rw [e12]; rfl) (by decide) rfl (fun ls hl => ?_)
      refine lv_goto (tgt := 72) hx hb dX2_game_223 (by decide) ?_
      exact hk72 _ _ _ _ _  h hw (lv_sub hl [1, 2, 3, 0] rfl)
    · have h := qi_f c h
      refine lv_aload_n hx hb dX2_game_111 rfl (lv_at hl 0 rfl) ?_
      refine r_getM (v := .ref (K.2.1 1014)) E hw hM 36 (by decide) q1389 rfl dX2_game_112 ?_
      refine lv_iconst (v := (4:Int32)) hx hb dX2_game_115 (by decide) ?_
      refine lv_iload hx hb dX2_game_116 (lv_at hl 3 rfl) ?_
      refine lv_iconst (v := (1:Int32)) hx hb dX2_game_118 (by decide) ?_
      refine lv_isub hx hb dX2_game_119 ?_
      refine lv_imul hx hb dX2_game_120 ?_
      refine lv_iload hx hb dX2_game_121 (lv_at hl 5 rfl) ?_
      refine lv_iadd hx hb dX2_game_123 ?_
      obtain ⟨z13, h⟩ := qif_s h
      refine r_iald (j := (((4:Int32) * (x4 - (1:Int32))) + x6).toNatClampNeg) E hw (qi_1014 hM).at (qok_in z13) rfl dX2_game_124 ?_
      obtain ⟨x7_14, e15, h⟩ := qlet_s h
      refine r_nm e15 ?_
      refine lv_istore (lv' := [(7, .int x7_14), (0, .ref (K.2.1 1000)), (2, .int x2), (3, .int x3), (4, .int x4), (5, .int x5), (6, .int x6)]) hx hb dX2_game_125 hl (by decide) rfl (fun ls hl => ?_)
      refine lv_iload hx hb dX2_game_127 (lv_at hl 6 rfl) ?_
      refine lv_iconst (v := (3:Int32)) hx hb dX2_game_129 (by decide) ?_
      refine lv_icmp_ge (tgt := 152) hx hb dX2_game_130 (by decide) (fun c => ?_) (fun c => ?_)
      · have h := qi_t c h
        refine lv_iload hx hb dX2_game_152 (lv_at hl 0 rfl) ?_
        exact w_X2_game_154 hG hM E hr hk72 ih _ _ _ _ _ _ _ _ _   h hw (lv_sub hl [1, 2, 3, 4, 5, 6, 0] rfl)
      · have h := qi_f c h
        refine lv_aload_n hx hb dX2_game_133 rfl (lv_at hl 1 rfl) ?_
        refine r_getM (v := .ref (K.2.1 1014)) E hw hM 36 (by decide) q1389 rfl dX2_game_134 ?_
        refine lv_iconst (v := (4:Int32)) hx hb dX2_game_137 (by decide) ?_
        refine lv_iload hx hb dX2_game_138 (lv_at hl 4 rfl) ?_
        refine lv_iconst (v := (1:Int32)) hx hb dX2_game_140 (by decide) ?_
        refine lv_isub hx hb dX2_game_141 ?_
        refine lv_imul hx hb dX2_game_142 ?_
        refine lv_iload hx hb dX2_game_143 (lv_at hl 6 rfl) ?_
        refine lv_iadd hx hb dX2_game_145 ?_
        refine lv_iconst (v := (1:Int32)) hx hb dX2_game_146 (by decide) ?_
        refine lv_iadd hx hb dX2_game_147 ?_
        obtain ⟨z26, h⟩ := qif_s h
        refine r_iald (j := ((((4:Int32) * (x4 - (1:Int32))) + x6) + (1:Int32)).toNatClampNeg) E hw (qi_1014 hM).at (qok_in z26) rfl dX2_game_148 ?_
        refine lv_goto (tgt := 154) hx hb dX2_game_149 (by decide) ?_
        exact w_X2_game_154 hG hM E hr hk72 ih _ _ _ _ _ _ _ _ _   h hw (lv_sub hl [1, 2, 3, 4, 5, 6, 0] rfl)

def f_X2_game_91 (k72 : (Int32 → Int32 → Int32 → QA → QL → Option (Int32 × QA × QL))) (x2 : Int32) (x3 : Int32) (x4 : Int32) (s0 : Int32) (B : QA) (L : QL) : Option (Int32 × QA × QL) :=
  if s0 = x2 then (
  f_X2_game_105 k72 FU x2 x3 x4 (1:Int32) (0:Int32) B L) else (
  f_X2_game_105 k72 FU x2 x3 x4 (0:Int32) (0:Int32) B L)
set_option maxHeartbeats 4000000 in
theorem w_X2_game_91 {p : Program} {l : Launch} {e : Env} {s : State} {m : MethodId} {args : Array Value} {below : List Frame} {meth : Method} {c : Code} {K : QK} {G : State → Prop} {A : QA} {rs : QX × QM} {ro : Int32} {Bo : QA} {Lo : QL} (hG : QG G) (hM : QMl K) (E : EV K G p s m args meth c cX2_game "VaneCourtModel" 10) (hr : meth.sig.returnType = (some .int)) {k72 : (Int32 → Int32 → Int32 → QA → QL → Option (Int32 × QA × QL))} (hk72 : ∀ (x2 : Int32) (x3 : Int32) (x4 : Int32) (B : QA) (L : QL) {H : Heap} {locs : List Loc} {ls : Array Slot}, k72 x2 x3 x4 B L = some (ro, Bo, Lo) → WP K (A, B, L, rs) H locs → lv_has ls 10 [(0, .ref (K.2.1 1000)), (2, .int x2), (3, .int x3), (4, .int x4)] → W p l e (qrm 7 191 0 0) s m args below meth c H locs 0 0 (MQ below (QE K (QR (some (.int ro)) (A, Bo, Lo, rs))) args s 0 0 (qA K)) (F0 m 72 ls [])) : ∀ (x2 : Int32) (x3 : Int32) (x4 : Int32) (s0 : Int32) (B : QA) (L : QL) {H : Heap} {locs : List Loc} {ls : Array Slot}, f_X2_game_91 k72 x2 x3 x4 s0 B L = some (ro, Bo, Lo) → WP K (A, B, L, rs) H locs → lv_has ls 10 [(0, .ref (K.2.1 1000)), (2, .int x2), (3, .int x3), (4, .int x4)] → W p l e (qrm 7 191 0 0) s m args below meth c H locs 0 0 (MQ below (QE K (QR (some (.int ro)) (A, Bo, Lo, rs))) args s 0 0 (qA K)) (F0 m 91 ls [.int s0]) := by
  have hx := E.1
  have hb := E.2.1
  have hown := E.2.2.1
  have hts := E.2.2.2.2.1
  intro x2 x3 x4 s0 B L H locs ls  h hw hl
  rw [f_X2_game_91] at h
  refine lv_iload_n hx hb dX2_game_91 rfl (lv_at hl 1 rfl) ?_
  refine lv_icmp_ne (tgt := 99) hx hb dX2_game_92 (by decide) (fun c => ?_) (fun c => ?_)
  · have h := qi_f c h
    refine lv_iconst (v := (0:Int32)) hx hb dX2_game_99 (by decide) ?_
    refine lv_istore (lv' := [(5, .int (0:Int32)), (0, .ref (K.2.1 1000)), (2, .int x2), (3, .int x3), (4, .int x4)]) hx hb dX2_game_100 hl (by decide) rfl (fun ls hl => ?_)
    refine lv_iconst (v := (0:Int32)) hx hb dX2_game_102 (by decide) ?_
    refine lv_istore (lv' := [(6, .int (0:Int32)), (5, .int (0:Int32)), (0, .ref (K.2.1 1000)), (2, .int x2), (3, .int x3), (4, .int x4)]) hx hb dX2_game_103 hl (by decide) rfl (fun ls hl => ?_)
    exact w_X2_game_105 hG hM E hr hk72 _ _ _ _ _ _ _ _   h hw (lv_sub hl [2, 3, 4, 5, 1, 0] rfl)
  · have h := qi_t c h
    refine lv_iconst (v := (1:Int32)) hx hb dX2_game_95 (by decide) ?_
    refine lv_goto (tgt := 100) hx hb dX2_game_96 (by decide) ?_
    refine lv_istore (lv' := [(5, .int (1:Int32)), (0, .ref (K.2.1 1000)), (2, .int x2), (3, .int x3), (4, .int x4)]) hx hb dX2_game_100 hl (by decide) rfl (fun ls hl => ?_)
    refine lv_iconst (v := (0:Int32)) hx hb dX2_game_102 (by decide) ?_
    refine lv_istore (lv' := [(6, .int (0:Int32)), (5, .int (1:Int32)), (0, .ref (K.2.1 1000)), (2, .int x2), (3, .int x3), (4, .int x4)]) hx hb dX2_game_103 hl (by decide) rfl (fun ls hl => ?_)
    exact w_X2_game_105 hG hM E hr hk72 _ _ _ _ _ _ _ _   h hw (lv_sub hl [2, 3, 4, 5, 1, 0] rfl)

def f_X2_game_72 : Nat → Int32 → Int32 → Int32 → QA → QL → Option (Int32 × QA × QL)
  | 0, _, _, _, _, _ => none
  | n + 1, x2, x3, x4, B, L => if (6:Int32) < x4 then (
  if x3 = (0:Int32) then (
  some ((B 1014 24), B, L)) else (
  qlet (B 1014 20) fun x4_7 =>
  qlet (B 1014 21) fun x5_9 =>
  if x2 = (0:Int32) then (
  if x4_7 ≤ x5_9 then (
  some ((0:Int32), B, L)) else (
  some ((1:Int32), B, L))) else (
  if x5_9 ≤ x4_7 then (
  some ((0:Int32), B, L)) else (
  some ((1:Int32), B, L))))) else (
  if (x4 - x4 / (2:Int32) * (2:Int32)) = (0:Int32) then (
  f_X2_game_91 (fun x2' x3' x4' B' L' => f_X2_game_72 n x2' x3' x4' B' L') x2 x3 x4 (1:Int32) B L) else (
  f_X2_game_91 (fun x2' x3' x4' B' L' => f_X2_game_72 n x2' x3' x4' B' L') x2 x3 x4 (0:Int32) B L))
set_option maxHeartbeats 4000000 in
theorem w_X2_game_72 {p : Program} {l : Launch} {e : Env} {s : State} {m : MethodId} {args : Array Value} {below : List Frame} {meth : Method} {c : Code} {K : QK} {G : State → Prop} {A : QA} {rs : QX × QM} {ro : Int32} {Bo : QA} {Lo : QL} (hG : QG G) (hM : QMl K) (E : EV K G p s m args meth c cX2_game "VaneCourtModel" 10) (hr : meth.sig.returnType = (some .int)) : ∀ (n : Nat) (x2 : Int32) (x3 : Int32) (x4 : Int32) (B : QA) (L : QL) {H : Heap} {locs : List Loc} {ls : Array Slot}, f_X2_game_72 n x2 x3 x4 B L = some (ro, Bo, Lo) → WP K (A, B, L, rs) H locs → lv_has ls 10 [(0, .ref (K.2.1 1000)), (2, .int x2), (3, .int x3), (4, .int x4)] → W p l e (qrm 7 191 0 0) s m args below meth c H locs 0 0 (MQ below (QE K (QR (some (.int ro)) (A, Bo, Lo, rs))) args s 0 0 (qA K)) (F0 m 72 ls []) := by
  have hx := E.1
  have hb := E.2.1
  have hown := E.2.2.1
  have hts := E.2.2.2.2.1
  intro n
  induction n with
  | zero =>
    intro x2 x3 x4 B L H locs ls  h hw hl
    cases h
  | succ n ih =>
    intro x2 x3 x4 B L H locs ls  h hw hl
    rw [f_X2_game_72] at h
    refine lv_iload hx hb dX2_game_72 (lv_at hl 3 rfl) ?_
    refine lv_bipush (v := (6:Int32)) hx hb dX2_game_74 (by decide) ?_
    refine lv_icmp_gt (tgt := 226) hx hb dX2_game_76 (by decide) (fun c => ?_) (fun c => ?_)
    · have h := qi_t c h
      refine lv_iload_n hx hb dX2_game_226 rfl (lv_at hl 2 rfl) ?_
      refine lv_if_ne (tgt := 238) hx hb dX2_game_227 (by decide) (fun c => ?_) (fun c => ?_)
      · have h := qi_f c h
        refine lv_aload_n hx hb dX2_game_238 rfl (lv_at hl 0 rfl) ?_
        refine r_getM (v := .ref (K.2.1 1014)) E hw hM 36 (by decide) q1389 rfl dX2_game_239 ?_
        refine lv_bipush (v := (20:Int32)) hx hb dX2_game_242 (by decide) ?_
        refine r_iald (j := 20) E hw (qi_1014 hM).at (q_lit (k := 20) (n := 28) rfl rfl) (q_clamp (k := 20) rfl) dX2_game_244 ?_
        obtain ⟨x4_7, e8, h⟩ := qlet_s h
        refine r_nm e8 ?_
        refine lv_istore (lv' := [(4, .int x4_7), (0, .ref (K.2.1 1000)), (2, .int x2), (3, .int x3)]) hx hb dX2_game_245 hl (by decide) rfl (fun ls hl => ?_)
        refine lv_aload_n hx hb dX2_game_247 rfl (lv_at hl 1 rfl) ?_
        refine r_getM (v := .ref (K.2.1 1014)) E hw hM 36 (by decide) q1389 rfl dX2_game_248 ?_
        refine lv_bipush (v := (21:Int32)) hx hb dX2_game_251 (by decide) ?_
        refine r_iald (j := 21) E hw (qi_1014 hM).at (q_lit (k := 21) (n := 28) rfl rfl) (q_clamp (k := 21) rfl) dX2_game_253 ?_
        obtain ⟨x5_9, e10, h⟩ := qlet_s h
        refine r_nm e10 ?_
        refine lv_istore (lv' := [(5, .int x5_9), (4, .int x4_7), (0, .ref (K.2.1 1000)), (2, .int x2), (3, .int x3)]) hx hb dX2_game_254 hl (by decide) rfl (fun ls hl => ?_)
        refine lv_iload_n hx hb dX2_game_256 rfl (lv_at hl 3 rfl) ?_
        refine lv_if_eq (tgt := 275) hx hb dX2_game_257 (by decide) (fun c => ?_) (fun c => ?_)
        · have h := qi_t c h
          refine lv_iload hx hb dX2_game_275 (lv_at hl 0 rfl) ?_
          refine lv_iload hx hb dX2_game_277 (lv_at hl 1 rfl) ?_
          refine lv_icmp_ge (tgt := 286) hx hb dX2_game_279 (by decide) (fun c => ?_) (fun c => ?_)
          · have h := qi_t c h
            refine lv_iconst (v := (0:Int32)) hx hb dX2_game_286 (by decide) ?_
            have h := Option.some.inj h
            obtain ⟨h1, h2⟩ := Prod.mk.inj h
            obtain ⟨h2, h3⟩ := Prod.mk.inj h2
            exact d_iret E hr rfl hw h1 (by rw [h2, h3]) dX2_game_287
          · have h := qi_f c h
            refine lv_iconst (v := (1:Int32)) hx hb dX2_game_282 (by decide) ?_
            refine lv_goto (tgt := 287) hx hb dX2_game_283 (by decide) ?_
            have h := Option.some.inj h
            obtain ⟨h1, h2⟩ := Prod.mk.inj h
            obtain ⟨h2, h3⟩ := Prod.mk.inj h2
            exact d_iret E hr rfl hw h1 (by rw [h2, h3]) dX2_game_287
        · have h := qi_f c h
          refine lv_iload hx hb dX2_game_260 (lv_at hl 0 rfl) ?_
          refine lv_iload hx hb dX2_game_262 (lv_at hl 1 rfl) ?_
          refine lv_icmp_le (tgt := 271) hx hb dX2_game_264 (by decide) (fun c => ?_) (fun c => ?_)
          · have h := qi_t c h
            refine lv_iconst (v := (0:Int32)) hx hb dX2_game_271 (by decide) ?_
            refine lv_goto (tgt := 287) hx hb dX2_game_272 (by decide) ?_
            have h := Option.some.inj h
            obtain ⟨h1, h2⟩ := Prod.mk.inj h
            obtain ⟨h2, h3⟩ := Prod.mk.inj h2
            exact d_iret E hr rfl hw h1 (by rw [h2, h3]) dX2_game_287
          · have h := qi_f c h
            refine lv_iconst (v := (1:Int32)) hx hb dX2_game_267 (by decide) ?_
            refine lv_goto (tgt := 287) hx hb dX2_game_268 (by decide) ?_
            have h := Option.some.inj h
            obtain ⟨h1, h2⟩ := Prod.mk.inj h
            obtain ⟨h2, h3⟩ := Prod.mk.inj h2
            exact d_iret E hr rfl hw h1 (by rw [h2, h3]) dX2_game_287
      · have h := qi_t c h
        refine lv_aload_n hx hb dX2_game_230 rfl (lv_at hl 0 rfl) ?_
        refine r_getM (v := .ref (K.2.1 1014)) E hw hM 36 (by decide) q1389 rfl dX2_game_231 ?_
        refine lv_bipush (v := (24:Int32)) hx hb dX2_game_234 (by decide) ?_
        refine r_iald (j := 24) E hw (qi_1014 hM).at (q_lit (k := 24) (n := 28) rfl rfl) (q_clamp (k := 24) rfl) dX2_game_236 ?_
        have h := Option.some.inj h
        obtain ⟨h1, h2⟩ := Prod.mk.inj h
        obtain ⟨h2, h3⟩ := Prod.mk.inj h2
        exact d_iret E hr rfl hw h1 (by rw [h2, h3]) dX2_game_237
    · have h := qi_f c h
      refine lv_iload hx hb dX2_game_79 (lv_at hl 3 rfl) ?_
      refine lv_iconst (v := (2:Int32)) hx hb dX2_game_81 (by decide) ?_
      refine lv_irem hx hb dX2_game_82 (by decide) ?_
      refine lv_if_ne (tgt := 90) hx hb dX2_game_83 (by decide) (fun c => ?_) (fun c => ?_)
      · have h := qi_f c h
        refine lv_iconst (v := (0:Int32)) hx hb dX2_game_90 (by decide) ?_
        exact w_X2_game_91 hG hM E hr ih _ _ _ _ _ _   h hw (lv_sub hl [0, 1, 2, 3] rfl)
      · have h := qi_t c h
        refine lv_iconst (v := (1:Int32)) hx hb dX2_game_86 (by decide) ?_
        refine lv_goto (tgt := 91) hx hb dX2_game_87 (by decide) ?_
        exact w_X2_game_91 hG hM E hr ih _ _ _ _ _ _   h hw (lv_sub hl [0, 1, 2, 3] rfl)

def f_X2_game_20 : Nat → Int32 → Int32 → Int32 → Int32 → QA → QL → Option (Int32 × QA × QL)
  | 0, _, _, _, _, _, _ => none
  | n + 1, x1, x2, x3, x4, B, L => if (3:Int32) < x4 then (
  f_X2_game_72 FU x2 x3 (1:Int32) B L) else (
  qb3 (f_X2_isEnding x1 (0:Int32) x4 B L) fun u27 B28 L29 =>
  if u27 = (0:Int32) then (
  qif (qok x4 28) <|
  qlet (qu B28 1014 x4.toNatClampNeg (0:Int32)) fun B32 =>
  qlet (x4 + (1:Int32)) fun x4_34 =>
  f_X2_game_20 n x1 x2 x3 x4_34 B32 L29) else (
  if (B28 1000 34) = (0:Int32) then (
  qif (qok x4 28) <|
  qlet (qu B28 1014 x4.toNatClampNeg (0:Int32)) fun B37 =>
  qlet (x4 + (1:Int32)) fun x4_39 =>
  f_X2_game_20 n x1 x2 x3 x4_39 B37 L29) else (
  qif (qok x4 28) <|
  qlet (qu B28 1014 x4.toNatClampNeg ((100000:Int32) + (B28 1000 35))) fun B42 =>
  qlet (x4 + (1:Int32)) fun x4_44 =>
  f_X2_game_20 n x1 x2 x3 x4_44 B42 L29)))
set_option maxHeartbeats 4000000 in
theorem w_X2_game_20 {p : Program} {l : Launch} {e : Env} {s : State} {m : MethodId} {args : Array Value} {below : List Frame} {meth : Method} {c : Code} {K : QK} {G : State → Prop} {A : QA} {rs : QX × QM} {ro : Int32} {Bo : QA} {Lo : QL} (hG : QG G) (hM : QMl K) (E : EV K G p s m args meth c cX2_game "VaneCourtModel" 10) (hr : meth.sig.returnType = (some .int)) : ∀ (n : Nat) (x1 : Int32) (x2 : Int32) (x3 : Int32) (x4 : Int32) (B : QA) (L : QL) {H : Heap} {locs : List Loc} {ls : Array Slot}, f_X2_game_20 n x1 x2 x3 x4 B L = some (ro, Bo, Lo) → WP K (A, B, L, rs) H locs → lv_has ls 10 [(0, .ref (K.2.1 1000)), (1, .int x1), (2, .int x2), (3, .int x3), (4, .int x4)] → W p l e (qrm 7 191 0 0) s m args below meth c H locs 0 0 (MQ below (QE K (QR (some (.int ro)) (A, Bo, Lo, rs))) args s 0 0 (qA K)) (F0 m 20 ls []) := by
  have hx := E.1
  have hb := E.2.1
  have hown := E.2.2.1
  have hts := E.2.2.2.2.1
  intro n
  induction n with
  | zero =>
    intro x1 x2 x3 x4 B L H locs ls  h hw hl
    cases h
  | succ n ih =>
    intro x1 x2 x3 x4 B L H locs ls  h hw hl
    rw [f_X2_game_20] at h
    refine lv_iload hx hb dX2_game_20 (lv_at hl 4 rfl) ?_
    refine lv_iconst (v := (3:Int32)) hx hb dX2_game_22 (by decide) ?_
    refine lv_icmp_gt (tgt := 69) hx hb dX2_game_23 (by decide) (fun c => ?_) (fun c => ?_)
    · have h := qi_t c h
      refine lv_iconst (v := (1:Int32)) hx hb dX2_game_69 (by decide) ?_
      refine lv_istore (lv' := [(4, .int (1:Int32)), (0, .ref (K.2.1 1000)), (1, .int x1), (2, .int x2), (3, .int x3)]) hx hb dX2_game_70 hl (by decide) rfl (fun ls hl => ?_)
      exact w_X2_game_72 hG hM E hr  _ _ _ _ _ _   h hw (lv_sub hl [1, 3, 4, 0] rfl)
    · have h := qi_f c h
      refine lv_aload_n hx hb dX2_game_26 rfl (lv_at hl 0 rfl) ?_
      refine r_getM (v := .ref (K.2.1 1014)) E hw hM 36 (by decide) q1389 rfl dX2_game_27 ?_
      refine lv_iload hx hb dX2_game_30 (lv_at hl 4 rfl) ?_
      refine lv_aload_n hx hb dX2_game_32 rfl (lv_at hl 0 rfl) ?_
      refine lv_iload_n hx hb dX2_game_33 rfl (lv_at hl 1 rfl) ?_
      refine lv_iconst (v := (0:Int32)) hx hb dX2_game_34 (by decide) ?_
      refine lv_iload hx hb dX2_game_35 (lv_at hl 4 rfl) ?_
      obtain ⟨u27, B28, L29, g30, h⟩ := qb3_s h
      refine d_V (As := [.int x1, .int (0:Int32), .int x4]) (v0 := some (.int u27)) (w0 := (A, B28, L29, rs)) hG E hw hl (m_X2_isEnding l hG hM  g30) (qM0 hM) rfl (cwV 3 hts (lw_V q1889 q1891 qs126 q140 q1892) rfl rfl rfl ⟨rfl, kd_X2_isEnding⟩ ⟨Nat.le_of_ble_eq_true rfl, Nat.le_of_ble_eq_true rfl⟩) rfl (rest := [.int x4, .ref (K.2.1 1014)]) (st1 := [.int u27, .int x4, .ref (K.2.1 1014)]) rfl rfl rfl dX2_game_37 ⟨Nat.le_of_ble_eq_true rfl, Nat.le_of_ble_eq_true rfl⟩ (fun H locs hw => ?_)
      refine lv_if_eq (tgt := 61) hx hb dX2_game_40 (by decide) (fun c => ?_) (fun c => ?_)
      · have h := qi_t c h
        refine lv_iconst (v := (0:Int32)) hx hb dX2_game_61 (by decide) ?_
        obtain ⟨z31, h⟩ := qif_s h
        obtain ⟨B32, e33, h⟩ := qlet_s h
        refine r_iastB (j := x4.toNatClampNeg) E hw (qi_1014 hM) (qok_in z31) rfl dX2_game_62 (fun H locs hw => ?_)
        rw [← e33] at hw
        obtain ⟨x4_34, e35, h⟩ := qlet_s h
        refine lv_iinc (v := x4_34) (lv' := [(4, .int x4_34), (0, .ref (K.2.1 1000)), (1, .int x1), (2, .int x2), (3, .int x3)]) (k := 4) hx hb dX2_game_63 hl rfl (by rw [e35]; rfl) (by decide) rfl (fun ls hl => ?_)
        refine lv_goto (tgt := 20) hx hb dX2_game_66 (by decide) ?_
        exact ih _ _ _ _ _ _  h hw (lv_sub hl [1, 2, 3, 4, 0] rfl)
      · have h := qi_f c h
        refine lv_aload_n hx hb dX2_game_43 rfl (lv_at hl 0 rfl) ?_
        refine r_getM (v := .int (B28 1000 34)) E hw hM 34 (by decide) q1387 rfl dX2_game_44 ?_
        refine lv_if_eq (tgt := 61) hx hb dX2_game_47 (by decide) (fun c => ?_) (fun c => ?_)
        · have h := qi_t c h
          refine lv_iconst (v := (0:Int32)) hx hb dX2_game_61 (by decide) ?_
          obtain ⟨z36, h⟩ := qif_s h
          obtain ⟨B37, e38, h⟩ := qlet_s h
          refine r_iastB (j := x4.toNatClampNeg) E hw (qi_1014 hM) (qok_in z36) rfl dX2_game_62 (fun H locs hw => ?_)
          rw [← e38] at hw
          obtain ⟨x4_39, e40, h⟩ := qlet_s h
          refine lv_iinc (v := x4_39) (lv' := [(4, .int x4_39), (0, .ref (K.2.1 1000)), (1, .int x1), (2, .int x2), (3, .int x3)]) (k := 4) hx hb dX2_game_63 hl rfl (by rw [e40]; rfl) (by decide) rfl (fun ls hl => ?_)
          refine lv_goto (tgt := 20) hx hb dX2_game_66 (by decide) ?_
          exact ih _ _ _ _ _ _  h hw (lv_sub hl [1, 2, 3, 4, 0] rfl)
        · have h := qi_f c h
          refine lv_ldcw (v := (100000:Int32)) hx hb hown (hts _ q1929) dX2_game_50 ?_
          refine lv_aload_n hx hb dX2_game_53 rfl (lv_at hl 0 rfl) ?_
          refine r_getM (v := .int (B28 1000 35)) E hw hM 35 (by decide) q1388 rfl dX2_game_54 ?_
          refine lv_iadd hx hb dX2_game_57 ?_
          refine lv_goto (tgt := 62) hx hb dX2_game_58 (by decide) ?_
          obtain ⟨z41, h⟩ := qif_s h
          obtain ⟨B42, e43, h⟩ := qlet_s h
          refine r_iastB (j := x4.toNatClampNeg) E hw (qi_1014 hM) (qok_in z41) rfl dX2_game_62 (fun H locs hw => ?_)
          rw [← e43] at hw
          obtain ⟨x4_44, e45, h⟩ := qlet_s h
          refine lv_iinc (v := x4_44) (lv' := [(4, .int x4_44), (0, .ref (K.2.1 1000)), (1, .int x1), (2, .int x2), (3, .int x3)]) (k := 4) hx hb dX2_game_63 hl rfl (by rw [e45]; rfl) (by decide) rfl (fun ls hl => ?_)
          refine lv_goto (tgt := 20) hx hb dX2_game_66 (by decide) ?_
          exact ih _ _ _ _ _ _  h hw (lv_sub hl [1, 2, 3, 4, 0] rfl)

def f_X2_game (x1 : Int32) (x2 : Int32) (x3 : Int32) (B : QA) (L : QL) : Option (Int32 × QA × QL) :=
  qb1 (f_X2_isWaiting x1 B) fun u1 =>
  if u1 = (0:Int32) then (
  some ((-1:Int32), B, L)) else (
  qb3 (f_X2_layWinds (40:Int32) B L) fun u3 B4 L5 =>
  f_X2_game_20 FU x1 x2 x3 (0:Int32) B4 L5)
set_option maxHeartbeats 4000000 in
theorem w_X2_game_0 {p : Program} {l : Launch} {e : Env} {s : State} {m : MethodId} {args : Array Value} {below : List Frame} {meth : Method} {c : Code} {K : QK} {G : State → Prop} {A : QA} {rs : QX × QM} {ro : Int32} {Bo : QA} {Lo : QL} (hG : QG G) (hM : QMl K) (E : EV K G p s m args meth c cX2_game "VaneCourtModel" 10) (hr : meth.sig.returnType = (some .int)) : ∀ (x1 : Int32) (x2 : Int32) (x3 : Int32) (B : QA) (L : QL) {H : Heap} {locs : List Loc} {ls : Array Slot}, f_X2_game x1 x2 x3 B L = some (ro, Bo, Lo) → WP K (A, B, L, rs) H locs → lv_has ls 10 [(0, .ref (K.2.1 1000)), (1, .int x1), (2, .int x2), (3, .int x3)] → W p l e (qrm 7 191 0 0) s m args below meth c H locs 0 0 (MQ below (QE K (QR (some (.int ro)) (A, Bo, Lo, rs))) args s 0 0 (qA K)) (F0 m 0 ls []) := by
  have hx := E.1
  have hb := E.2.1
  have hown := E.2.2.1
  have hts := E.2.2.2.2.1
  intro x1 x2 x3 B L H locs ls  h hw hl
  rw [f_X2_game] at h
  refine lv_aload_n hx hb dX2_game_0 rfl (lv_at hl 0 rfl) ?_
  refine lv_iload_n hx hb dX2_game_1 rfl (lv_at hl 1 rfl) ?_
  obtain ⟨u1, g2, h⟩ := qb1_s h
  refine d_V (As := [.int x1]) (v0 := some (.int u1)) (w0 := (A, B, L, rs)) hG E hw hl (m_X2_isWaiting l hG hM  g2) (qM0 hM) rfl (cwV 1 hts (lw_V q1691 q1693 qs95 q140 q1694) rfl rfl rfl ⟨rfl, kd_X2_isWaiting⟩ ⟨Nat.le_of_ble_eq_true rfl, Nat.le_of_ble_eq_true rfl⟩) rfl (rest := []) (st1 := [.int u1]) rfl rfl rfl dX2_game_2 ⟨Nat.le_of_ble_eq_true rfl, Nat.le_of_ble_eq_true rfl⟩ (fun H locs hw => ?_)
  refine lv_if_ne (tgt := 10) hx hb dX2_game_5 (by decide) (fun c => ?_) (fun c => ?_)
  · have h := qi_f c h
    refine lv_aload_n hx hb dX2_game_10 rfl (lv_at hl 0 rfl) ?_
    refine lv_bipush (v := (40:Int32)) hx hb dX2_game_11 (by decide) ?_
    obtain ⟨u3, B4, L5, g6, h⟩ := qb3_s h
    refine d_V (As := [.int (40:Int32)]) (v0 := some (.int u3)) (w0 := (A, B4, L5, rs)) hG E hw hl (m_X2_layWinds l hG hM  g6) (qM0 hM) rfl (cwV 1 hts (lw_V q1873 q1875 qs123 q140 q1876) rfl rfl rfl ⟨rfl, kd_X2_layWinds⟩ ⟨Nat.le_of_ble_eq_true rfl, Nat.le_of_ble_eq_true rfl⟩) rfl (rest := []) (st1 := [.int u3]) rfl rfl rfl dX2_game_13 ⟨Nat.le_of_ble_eq_true rfl, Nat.le_of_ble_eq_true rfl⟩ (fun H locs hw => ?_)
    refine lv_pop hx hb dX2_game_16 rfl ?_
    refine lv_iconst (v := (0:Int32)) hx hb dX2_game_17 (by decide) ?_
    refine lv_istore (lv' := [(4, .int (0:Int32)), (0, .ref (K.2.1 1000)), (1, .int x1), (2, .int x2), (3, .int x3)]) hx hb dX2_game_18 hl (by decide) rfl (fun ls hl => ?_)
    exact w_X2_game_20 hG hM E hr  _ _ _ _ _ _ _   h hw (lv_sub hl [1, 2, 3, 4, 0] rfl)
  · have h := qi_t c h
    refine lv_iconst (v := (-1:Int32)) hx hb dX2_game_8 (by decide) ?_
    have h := Option.some.inj h
    obtain ⟨h1, h2⟩ := Prod.mk.inj h
    obtain ⟨h2, h3⟩ := Prod.mk.inj h2
    exact d_iret E hr rfl hw h1 (by rw [h2, h3]) dX2_game_9

theorem m_X2_game (l : Launch) {K : QK} {G : State → Prop} (hG : QG G) (hM : QMl K) {A : QA} {rs : QX × QM} {x1 : Int32} {x2 : Int32} {x3 : Int32} {B : QA} {L : QL} {ro : Int32} {Bo : QA} {Lo : QL} (h : f_X2_game x1 x2 x3 B L = some (ro, Bo, Lo)) : MC l K G yX2_game (ws_ yX2_game cX2_game 10 (some .int)) 7 191 0 0 [.ref (K.2.1 1000), .int x1, .int x2, .int x3] (A, B, L, rs) (QR (some (.int ro)) (A, Bo, Lo, rs)) := by
  refine MC.of (by decide) (Nat.le_of_ble_eq_true rfl) (lv := [(0, .ref (K.2.1 1000)), (1, .int x1), (2, .int x2), (3, .int x3)]) rfl (fun p e s m below meth c ls E hr hl hw => ?_)
  exact w_X2_game_0 hG hM E hr _ _ _ _ _  h hw hl

def f_X2_sentencesBy_7 : Nat → Int32 → Int32 → Int32 → Int32 → QA → QL → Option (Int32 × QA × QL)
  | 0, _, _, _, _, _, _ => none
  | n + 1, x1, x2, x3, x4, B, L => if x1 ≤ x4 then (
  some (x2, B, L)) else (
  qif (qok x4 5) <|
  qif (qok (B 1016 x4.toNatClampNeg) 8) <|
  qlet (B 1015 (B 1016 x4.toNatClampNeg).toNatClampNeg) fun x5_3 =>
  qb3 (f_X2_isEnding x5_3 x3 (0:Int32) B L) fun u5 B6 L7 =>
  if u5 = (0:Int32) then (
  some (x2, B6, L7)) else (
  qlet (x2 + (B6 1000 35)) fun x2_9 =>
  qb1 (f_X2_get x5_3 (2:Int32) B6) fun u11 =>
  qlet (x3 + u11) fun x3_13 =>
  qlet (x4 + (1:Int32)) fun x4_15 =>
  f_X2_sentencesBy_7 n x1 x2_9 x3_13 x4_15 B6 L7))
set_option maxHeartbeats 4000000 in
theorem w_X2_sentencesBy_7 {p : Program} {l : Launch} {e : Env} {s : State} {m : MethodId} {args : Array Value} {below : List Frame} {meth : Method} {c : Code} {K : QK} {G : State → Prop} {A : QA} {rs : QX × QM} {ro : Int32} {Bo : QA} {Lo : QL} (hG : QG G) (hM : QMl K) (E : EV K G p s m args meth c cX2_sentencesBy "VaneCourtModel" 6) (hr : meth.sig.returnType = (some .int)) : ∀ (n : Nat) (x1 : Int32) (x2 : Int32) (x3 : Int32) (x4 : Int32) (B : QA) (L : QL) {H : Heap} {locs : List Loc} {ls : Array Slot}, f_X2_sentencesBy_7 n x1 x2 x3 x4 B L = some (ro, Bo, Lo) → WP K (A, B, L, rs) H locs → lv_has ls 6 [(0, .ref (K.2.1 1000)), (1, .int x1), (2, .int x2), (3, .int x3), (4, .int x4)] → W p l e (qrm 7 191 0 0) s m args below meth c H locs 0 0 (MQ below (QE K (QR (some (.int ro)) (A, Bo, Lo, rs))) args s 0 0 (qA K)) (F0 m 7 ls []) := by
  have hx := E.1
  have hb := E.2.1
  have hown := E.2.2.1
  have hts := E.2.2.2.2.1
  intro n
  induction n with
  | zero =>
    intro x1 x2 x3 x4 B L H locs ls  h hw hl
    cases h
  | succ n ih =>
    intro x1 x2 x3 x4 B L H locs ls  h hw hl
    rw [f_X2_sentencesBy_7] at h
    refine lv_iload hx hb dX2_sentencesBy_7 (lv_at hl 4 rfl) ?_
    refine lv_iload_n hx hb dX2_sentencesBy_9 rfl (lv_at hl 1 rfl) ?_
    refine lv_icmp_ge (tgt := 63) hx hb dX2_sentencesBy_10 (by decide) (fun c => ?_) (fun c => ?_)
    · have h := qi_t c h
      refine lv_iload_n hx hb dX2_sentencesBy_63 rfl (lv_at hl 2 rfl) ?_
      have h := Option.some.inj h
      obtain ⟨h1, h2⟩ := Prod.mk.inj h
      obtain ⟨h2, h3⟩ := Prod.mk.inj h2
      exact d_iret E hr rfl hw h1 (by rw [h2, h3]) dX2_sentencesBy_64
    · have h := qi_f c h
      refine lv_aload_n hx hb dX2_sentencesBy_13 rfl (lv_at hl 0 rfl) ?_
      refine r_getM (v := .ref (K.2.1 1015)) E hw hM 37 (by decide) q1390 rfl dX2_sentencesBy_14 ?_
      refine lv_aload_n hx hb dX2_sentencesBy_17 rfl (lv_at hl 0 rfl) ?_
      refine r_getM (v := .ref (K.2.1 1016)) E hw hM 38 (by decide) q1391 rfl dX2_sentencesBy_18 ?_
      refine lv_iload hx hb dX2_sentencesBy_21 (lv_at hl 4 rfl) ?_
      obtain ⟨z1, h⟩ := qif_s h
      refine r_iald (j := x4.toNatClampNeg) E hw (qi_1016 hM).at (qok_in z1) rfl dX2_sentencesBy_23 ?_
      obtain ⟨z2, h⟩ := qif_s h
      refine r_iald (j := (B 1016 x4.toNatClampNeg).toNatClampNeg) E hw (qi_1015 hM).at (qok_in z2) rfl dX2_sentencesBy_24 ?_
      obtain ⟨x5_3, e4, h⟩ := qlet_s h
      refine r_nm e4 ?_
      refine lv_istore (lv' := [(5, .int x5_3), (0, .ref (K.2.1 1000)), (1, .int x1), (2, .int x2), (3, .int x3), (4, .int x4)]) hx hb dX2_sentencesBy_25 hl (by decide) rfl (fun ls hl => ?_)
      refine lv_aload_n hx hb dX2_sentencesBy_27 rfl (lv_at hl 1 rfl) ?_
      refine lv_iload hx hb dX2_sentencesBy_28 (lv_at hl 0 rfl) ?_
      refine lv_iload_n hx hb dX2_sentencesBy_30 rfl (lv_at hl 4 rfl) ?_
      refine lv_iconst (v := (0:Int32)) hx hb dX2_sentencesBy_31 (by decide) ?_
      obtain ⟨u5, B6, L7, g8, h⟩ := qb3_s h
      refine d_V (As := [.int x5_3, .int x3, .int (0:Int32)]) (v0 := some (.int u5)) (w0 := (A, B6, L7, rs)) hG E hw hl (m_X2_isEnding l hG hM  g8) (qM0 hM) rfl (cwV 3 hts (lw_V q1889 q1891 qs126 q140 q1892) rfl rfl rfl ⟨rfl, kd_X2_isEnding⟩ ⟨Nat.le_of_ble_eq_true rfl, Nat.le_of_ble_eq_true rfl⟩) rfl (rest := []) (st1 := [.int u5]) rfl rfl rfl dX2_sentencesBy_32 ⟨Nat.le_of_ble_eq_true rfl, Nat.le_of_ble_eq_true rfl⟩ (fun H locs hw => ?_)
      refine lv_if_ne (tgt := 40) hx hb dX2_sentencesBy_35 (by decide) (fun c => ?_) (fun c => ?_)
      · have h := qi_f c h
        refine lv_iload_n hx hb dX2_sentencesBy_40 rfl (lv_at hl 3 rfl) ?_
        refine lv_aload_n hx hb dX2_sentencesBy_41 rfl (lv_at hl 1 rfl) ?_
        refine r_getM (v := .int (B6 1000 35)) E hw hM 35 (by decide) q1388 rfl dX2_sentencesBy_42 ?_
        refine lv_iadd hx hb dX2_sentencesBy_45 ?_
        obtain ⟨x2_9, e10, h⟩ := qlet_s h
        refine r_nm e10 ?_
        refine lv_istore_n (lv' := [(2, .int x2_9), (5, .int x5_3), (0, .ref (K.2.1 1000)), (1, .int x1), (3, .int x3), (4, .int x4)]) hx hb dX2_sentencesBy_46 rfl hl (by decide) rfl (fun ls hl => ?_)
        refine lv_iload_n hx hb dX2_sentencesBy_47 rfl (lv_at hl 4 rfl) ?_
        refine lv_aload_n hx hb dX2_sentencesBy_48 rfl (lv_at hl 2 rfl) ?_
        refine lv_iload hx hb dX2_sentencesBy_49 (lv_at hl 1 rfl) ?_
        refine lv_iconst (v := (2:Int32)) hx hb dX2_sentencesBy_51 (by decide) ?_
        obtain ⟨u11, g12, h⟩ := qb1_s h
        refine d_V (As := [.int x5_3, .int (2:Int32)]) (v0 := some (.int u11)) (w0 := (A, B6, L7, rs)) hG E hw hl (m_X2_get l hG hM  g12) (qM0 hM) rfl (cwV 2 hts (lw_V q1699 q1701 qs97 q140 q1702) rfl rfl rfl ⟨rfl, kd_X2_get⟩ ⟨Nat.le_of_ble_eq_true rfl, Nat.le_of_ble_eq_true rfl⟩) rfl (rest := [.int x3]) (st1 := [.int u11, .int x3]) rfl rfl rfl dX2_sentencesBy_52 ⟨Nat.le_of_ble_eq_true rfl, Nat.le_of_ble_eq_true rfl⟩ (fun H locs hw => ?_)
        refine lv_iadd hx hb dX2_sentencesBy_55 ?_
        obtain ⟨x3_13, e14, h⟩ := qlet_s h
        refine r_nm e14 ?_
        refine lv_istore_n (lv' := [(3, .int x3_13), (2, .int x2_9), (5, .int x5_3), (0, .ref (K.2.1 1000)), (1, .int x1), (4, .int x4)]) hx hb dX2_sentencesBy_56 rfl hl (by decide) rfl (fun ls hl => ?_)
        obtain ⟨x4_15, e16, h⟩ := qlet_s h
        refine lv_iinc (v := x4_15) (lv' := [(4, .int x4_15), (3, .int x3_13), (2, .int x2_9), (5, .int x5_3), (0, .ref (K.2.1 1000)), (1, .int x1)]) (k := 5) hx hb dX2_sentencesBy_57 hl rfl (by rw [e16]; rfl) (by decide) rfl (fun ls hl => ?_)
        refine lv_goto (tgt := 7) hx hb dX2_sentencesBy_60 (by decide) ?_
        exact ih _ _ _ _ _ _  h hw (lv_sub hl [4, 5, 2, 1, 0] rfl)
      · have h := qi_t c h
        refine lv_iload_n hx hb dX2_sentencesBy_38 rfl (lv_at hl 3 rfl) ?_
        have h := Option.some.inj h
        obtain ⟨h1, h2⟩ := Prod.mk.inj h
        obtain ⟨h2, h3⟩ := Prod.mk.inj h2
        exact d_iret E hr rfl hw h1 (by rw [h2, h3]) dX2_sentencesBy_39

def f_X2_sentencesBy (x1 : Int32) (B : QA) (L : QL) : Option (Int32 × QA × QL) :=
  f_X2_sentencesBy_7 FU x1 (0:Int32) (0:Int32) (0:Int32) B L
set_option maxHeartbeats 4000000 in
theorem w_X2_sentencesBy_0 {p : Program} {l : Launch} {e : Env} {s : State} {m : MethodId} {args : Array Value} {below : List Frame} {meth : Method} {c : Code} {K : QK} {G : State → Prop} {A : QA} {rs : QX × QM} {ro : Int32} {Bo : QA} {Lo : QL} (hG : QG G) (hM : QMl K) (E : EV K G p s m args meth c cX2_sentencesBy "VaneCourtModel" 6) (hr : meth.sig.returnType = (some .int)) : ∀ (x1 : Int32) (B : QA) (L : QL) {H : Heap} {locs : List Loc} {ls : Array Slot}, f_X2_sentencesBy x1 B L = some (ro, Bo, Lo) → WP K (A, B, L, rs) H locs → lv_has ls 6 [(0, .ref (K.2.1 1000)), (1, .int x1)] → W p l e (qrm 7 191 0 0) s m args below meth c H locs 0 0 (MQ below (QE K (QR (some (.int ro)) (A, Bo, Lo, rs))) args s 0 0 (qA K)) (F0 m 0 ls []) := by
  have hx := E.1
  have hb := E.2.1
  have hown := E.2.2.1
  have hts := E.2.2.2.2.1
  intro x1 B L H locs ls  h hw hl
  rw [f_X2_sentencesBy] at h
  refine lv_iconst (v := (0:Int32)) hx hb dX2_sentencesBy_0 (by decide) ?_
  refine lv_istore_n (lv' := [(2, .int (0:Int32)), (0, .ref (K.2.1 1000)), (1, .int x1)]) hx hb dX2_sentencesBy_1 rfl hl (by decide) rfl (fun ls hl => ?_)
  refine lv_iconst (v := (0:Int32)) hx hb dX2_sentencesBy_2 (by decide) ?_
  refine lv_istore_n (lv' := [(3, .int (0:Int32)), (2, .int (0:Int32)), (0, .ref (K.2.1 1000)), (1, .int x1)]) hx hb dX2_sentencesBy_3 rfl hl (by decide) rfl (fun ls hl => ?_)
  refine lv_iconst (v := (0:Int32)) hx hb dX2_sentencesBy_4 (by decide) ?_
  refine lv_istore (lv' := [(4, .int (0:Int32)), (3, .int (0:Int32)), (2, .int (0:Int32)), (0, .ref (K.2.1 1000)), (1, .int x1)]) hx hb dX2_sentencesBy_5 hl (by decide) rfl (fun ls hl => ?_)
  exact w_X2_sentencesBy_7 hG hM E hr  _ _ _ _ _ _ _   h hw (lv_sub hl [3, 4, 2, 1, 0] rfl)

theorem m_X2_sentencesBy (l : Launch) {K : QK} {G : State → Prop} (hG : QG G) (hM : QMl K) {A : QA} {rs : QX × QM} {x1 : Int32} {B : QA} {L : QL} {ro : Int32} {Bo : QA} {Lo : QL} (h : f_X2_sentencesBy x1 B L = some (ro, Bo, Lo)) : MC l K G yX2_sentencesBy (ws_ yX2_sentencesBy cX2_sentencesBy 6 (some .int)) 7 191 0 0 [.ref (K.2.1 1000), .int x1] (A, B, L, rs) (QR (some (.int ro)) (A, Bo, Lo, rs)) := by
  refine MC.of (by decide) (Nat.le_of_ble_eq_true rfl) (lv := [(0, .ref (K.2.1 1000)), (1, .int x1)]) rfl (fun p e s m below meth c ls E hr hl hw => ?_)
  exact w_X2_sentencesBy_0 hG hM E hr _ _ _  h hw hl

def f_X2_nextRow_100 : Nat → Int32 → Int32 → QA → Option (Int32 × QA)
  | 0, _, _, _ => none
  | n + 1, x5, x6, B => if x6 ≤ x5 then (
  some ((1:Int32), B)) else (
  qif (qok x5 5) <|
  qlet (B 1016 x5.toNatClampNeg) fun x4_18 =>
  qif (qok x6 5) <|
  qlet (qu B 1016 x5.toNatClampNeg (B 1016 x6.toNatClampNeg)) fun B21 =>
  qlet (qu B21 1016 x6.toNatClampNeg x4_18) fun B23 =>
  qlet (x5 + (1:Int32)) fun x5_25 =>
  qlet (x6 + (-1:Int32)) fun x6_27 =>
  f_X2_nextRow_100 n x5_25 x6_27 B23)
set_option maxHeartbeats 4000000 in
theorem w_X2_nextRow_100 {p : Program} {l : Launch} {e : Env} {s : State} {m : MethodId} {args : Array Value} {below : List Frame} {meth : Method} {c : Code} {K : QK} {G : State → Prop} {A : QA} {rs : QX × QM} {L : QL} {ro : Int32} {Bo : QA} (hG : QG G) (hM : QMl K) (E : EV K G p s m args meth c cX2_nextRow "VaneCourtModel" 7) (hr : meth.sig.returnType = (some .boolean)) : ∀ (n : Nat) (x5 : Int32) (x6 : Int32) (B : QA) {H : Heap} {locs : List Loc} {ls : Array Slot}, f_X2_nextRow_100 n x5 x6 B = some (ro, Bo) → WP K (A, B, L, rs) H locs → lv_has ls 7 [(0, .ref (K.2.1 1000)), (5, .int x5), (6, .int x6)] → W p l e (qrm 1 40 0 0) s m args below meth c H locs 0 0 (MQ below (QE K (QR (some (.int ro)) (A, Bo, L, rs))) args s 0 0 (qA K)) (F0 m 100 ls []) := by
  have hx := E.1
  have hb := E.2.1
  have hown := E.2.2.1
  have hts := E.2.2.2.2.1
  intro n
  induction n with
  | zero =>
    intro x5 x6 B H locs ls  h hw hl
    cases h
  | succ n ih =>
    intro x5 x6 B H locs ls  h hw hl
    rw [f_X2_nextRow_100] at h
    refine lv_iload hx hb dX2_nextRow_100 (lv_at hl 1 rfl) ?_
    refine lv_iload hx hb dX2_nextRow_102 (lv_at hl 2 rfl) ?_
    refine lv_icmp_ge (tgt := 148) hx hb dX2_nextRow_104 (by decide) (fun c => ?_) (fun c => ?_)
    · have h := qi_t c h
      refine lv_iconst (v := (1:Int32)) hx hb dX2_nextRow_148 (by decide) ?_
      have h := Option.some.inj h
      obtain ⟨h1, h2⟩ := Prod.mk.inj h
      exact d_iret E hr rfl hw h1 (by rw [h2]) dX2_nextRow_149
    · have h := qi_f c h
      refine lv_aload_n hx hb dX2_nextRow_107 rfl (lv_at hl 0 rfl) ?_
      refine r_getM (v := .ref (K.2.1 1016)) E hw hM 38 (by decide) q1391 rfl dX2_nextRow_108 ?_
      refine lv_iload hx hb dX2_nextRow_111 (lv_at hl 1 rfl) ?_
      obtain ⟨z17, h⟩ := qif_s h
      refine r_iald (j := x5.toNatClampNeg) E hw (qi_1016 hM).at (qok_in z17) rfl dX2_nextRow_113 ?_
      obtain ⟨x4_18, e19, h⟩ := qlet_s h
      refine r_nm e19 ?_
      refine lv_istore (lv' := [(4, .int x4_18), (0, .ref (K.2.1 1000)), (5, .int x5), (6, .int x6)]) hx hb dX2_nextRow_114 hl (by decide) rfl (fun ls hl => ?_)
      refine lv_aload_n hx hb dX2_nextRow_116 rfl (lv_at hl 1 rfl) ?_
      refine r_getM (v := .ref (K.2.1 1016)) E hw hM 38 (by decide) q1391 rfl dX2_nextRow_117 ?_
      refine lv_iload hx hb dX2_nextRow_120 (lv_at hl 2 rfl) ?_
      refine lv_aload_n hx hb dX2_nextRow_122 rfl (lv_at hl 1 rfl) ?_
      refine r_getM (v := .ref (K.2.1 1016)) E hw hM 38 (by decide) q1391 rfl dX2_nextRow_123 ?_
      refine lv_iload hx hb dX2_nextRow_126 (lv_at hl 3 rfl) ?_
      obtain ⟨z20, h⟩ := qif_s h
      refine r_iald (j := x6.toNatClampNeg) E hw (qi_1016 hM).at (qok_in z20) rfl dX2_nextRow_128 ?_
      obtain ⟨B21, e22, h⟩ := qlet_s h
      refine r_iastB (j := x5.toNatClampNeg) E hw (qi_1016 hM) (qok_in z17) rfl dX2_nextRow_129 (fun H locs hw => ?_)
      rw [← e22] at hw
      refine lv_aload_n hx hb dX2_nextRow_130 rfl (lv_at hl 1 rfl) ?_
      refine r_getM (v := .ref (K.2.1 1016)) E hw hM 38 (by decide) q1391 rfl dX2_nextRow_131 ?_
      refine lv_iload hx hb dX2_nextRow_134 (lv_at hl 3 rfl) ?_
      refine lv_iload hx hb dX2_nextRow_136 (lv_at hl 0 rfl) ?_
      obtain ⟨B23, e24, h⟩ := qlet_s h
      refine r_iastB (j := x6.toNatClampNeg) E hw (qi_1016 hM) (qok_in z20) rfl dX2_nextRow_138 (fun H locs hw => ?_)
      rw [← e24] at hw
      obtain ⟨x5_25, e26, h⟩ := qlet_s h
      refine lv_iinc (v := x5_25) (lv' := [(5, .int x5_25), (4, .int x4_18), (0, .ref (K.2.1 1000)), (6, .int x6)]) (k := 2) hx hb dX2_nextRow_139 hl rfl (by rw [e26]; rfl) (by decide) rfl (fun ls hl => ?_)
      obtain ⟨x6_27, e28, h⟩ := qlet_s h
      refine lv_iinc (v := x6_27) (lv' := [(6, .int x6_27), (5, .int x5_25), (4, .int x4_18), (0, .ref (K.2.1 1000))]) (k := 3) hx hb dX2_nextRow_142 hl rfl (by rw [e28]; rfl) (by decide) rfl (fun ls hl => ?_)
      refine lv_goto (tgt := 100) hx hb dX2_nextRow_145 (by decide) ?_
      exact ih _ _ _  h hw (lv_sub hl [3, 1, 0] rfl)

def f_X2_nextRow_41 : Nat → Int32 → Int32 → Int32 → QA → Option (Int32 × QA)
  | 0, _, _, _, _ => none
  | n + 1, x1, x2, x3, B => qif (qok x3 5) <|
  qif (qok x2 5) <|
  if (B 1016 x2.toNatClampNeg) ≤ (B 1016 x3.toNatClampNeg) then (
  qlet (B 1016 x2.toNatClampNeg) fun x4_7 =>
  qlet (qu B 1016 x2.toNatClampNeg (B 1016 x3.toNatClampNeg)) fun B9 =>
  qlet (qu B9 1016 x3.toNatClampNeg x4_7) fun B11 =>
  qlet (x2 + (1:Int32)) fun x5_13 =>
  qlet (x1 - (1:Int32)) fun x6_15 =>
  f_X2_nextRow_100 FU x5_13 x6_15 B11) else (
  qlet (x3 + (-1:Int32)) fun x3_29 =>
  f_X2_nextRow_41 n x1 x2 x3_29 B)
set_option maxHeartbeats 4000000 in
theorem w_X2_nextRow_41 {p : Program} {l : Launch} {e : Env} {s : State} {m : MethodId} {args : Array Value} {below : List Frame} {meth : Method} {c : Code} {K : QK} {G : State → Prop} {A : QA} {rs : QX × QM} {L : QL} {ro : Int32} {Bo : QA} (hG : QG G) (hM : QMl K) (E : EV K G p s m args meth c cX2_nextRow "VaneCourtModel" 7) (hr : meth.sig.returnType = (some .boolean)) : ∀ (n : Nat) (x1 : Int32) (x2 : Int32) (x3 : Int32) (B : QA) {H : Heap} {locs : List Loc} {ls : Array Slot}, f_X2_nextRow_41 n x1 x2 x3 B = some (ro, Bo) → WP K (A, B, L, rs) H locs → lv_has ls 7 [(0, .ref (K.2.1 1000)), (1, .int x1), (2, .int x2), (3, .int x3)] → W p l e (qrm 1 40 0 0) s m args below meth c H locs 0 0 (MQ below (QE K (QR (some (.int ro)) (A, Bo, L, rs))) args s 0 0 (qA K)) (F0 m 41 ls []) := by
  have hx := E.1
  have hb := E.2.1
  have hown := E.2.2.1
  have hts := E.2.2.2.2.1
  intro n
  induction n with
  | zero =>
    intro x1 x2 x3 B H locs ls  h hw hl
    cases h
  | succ n ih =>
    intro x1 x2 x3 B H locs ls  h hw hl
    rw [f_X2_nextRow_41] at h
    refine lv_aload_n hx hb dX2_nextRow_41 rfl (lv_at hl 0 rfl) ?_
    refine r_getM (v := .ref (K.2.1 1016)) E hw hM 38 (by decide) q1391 rfl dX2_nextRow_42 ?_
    refine lv_iload_n hx hb dX2_nextRow_45 rfl (lv_at hl 3 rfl) ?_
    obtain ⟨z5, h⟩ := qif_s h
    refine r_iald (j := x3.toNatClampNeg) E hw (qi_1016 hM).at (qok_in z5) rfl dX2_nextRow_46 ?_
    refine lv_aload_n hx hb dX2_nextRow_47 rfl (lv_at hl 0 rfl) ?_
    refine r_getM (v := .ref (K.2.1 1016)) E hw hM 38 (by decide) q1391 rfl dX2_nextRow_48 ?_
    refine lv_iload_n hx hb dX2_nextRow_51 rfl (lv_at hl 2 rfl) ?_
    obtain ⟨z6, h⟩ := qif_s h
    refine r_iald (j := x2.toNatClampNeg) E hw (qi_1016 hM).at (qok_in z6) rfl dX2_nextRow_52 ?_
    refine lv_icmp_ge (tgt := 62) hx hb dX2_nextRow_53 (by decide) (fun c => ?_) (fun c => ?_)
    · have h := qi_t c h
      refine lv_aload_n hx hb dX2_nextRow_62 rfl (lv_at hl 0 rfl) ?_
      refine r_getM (v := .ref (K.2.1 1016)) E hw hM 38 (by decide) q1391 rfl dX2_nextRow_63 ?_
      refine lv_iload_n hx hb dX2_nextRow_66 rfl (lv_at hl 2 rfl) ?_
      refine r_iald (j := x2.toNatClampNeg) E hw (qi_1016 hM).at (qok_in z6) rfl dX2_nextRow_67 ?_
      obtain ⟨x4_7, e8, h⟩ := qlet_s h
      refine r_nm e8 ?_
      refine lv_istore (lv' := [(4, .int x4_7), (0, .ref (K.2.1 1000)), (1, .int x1), (2, .int x2), (3, .int x3)]) hx hb dX2_nextRow_68 hl (by decide) rfl (fun ls hl => ?_)
      refine lv_aload_n hx hb dX2_nextRow_70 rfl (lv_at hl 1 rfl) ?_
      refine r_getM (v := .ref (K.2.1 1016)) E hw hM 38 (by decide) q1391 rfl dX2_nextRow_71 ?_
      refine lv_iload_n hx hb dX2_nextRow_74 rfl (lv_at hl 3 rfl) ?_
      refine lv_aload_n hx hb dX2_nextRow_75 rfl (lv_at hl 1 rfl) ?_
      refine r_getM (v := .ref (K.2.1 1016)) E hw hM 38 (by decide) q1391 rfl dX2_nextRow_76 ?_
      refine lv_iload_n hx hb dX2_nextRow_79 rfl (lv_at hl 4 rfl) ?_
      refine r_iald (j := x3.toNatClampNeg) E hw (qi_1016 hM).at (qok_in z5) rfl dX2_nextRow_80 ?_
      obtain ⟨B9, e10, h⟩ := qlet_s h
      refine r_iastB (j := x2.toNatClampNeg) E hw (qi_1016 hM) (qok_in z6) rfl dX2_nextRow_81 (fun H locs hw => ?_)
      rw [← e10] at hw
      refine lv_aload_n hx hb dX2_nextRow_82 rfl (lv_at hl 1 rfl) ?_
      refine r_getM (v := .ref (K.2.1 1016)) E hw hM 38 (by decide) q1391 rfl dX2_nextRow_83 ?_
      refine lv_iload_n hx hb dX2_nextRow_86 rfl (lv_at hl 4 rfl) ?_
      refine lv_iload hx hb dX2_nextRow_87 (lv_at hl 0 rfl) ?_
      obtain ⟨B11, e12, h⟩ := qlet_s h
      refine r_iastB (j := x3.toNatClampNeg) E hw (qi_1016 hM) (qok_in z5) rfl dX2_nextRow_89 (fun H locs hw => ?_)
      rw [← e12] at hw
      refine lv_iload_n hx hb dX2_nextRow_90 rfl (lv_at hl 3 rfl) ?_
      refine lv_iconst (v := (1:Int32)) hx hb dX2_nextRow_91 (by decide) ?_
      refine lv_iadd hx hb dX2_nextRow_92 ?_
      obtain ⟨x5_13, e14, h⟩ := qlet_s h
      refine r_nm e14 ?_
      refine lv_istore (lv' := [(5, .int x5_13), (4, .int x4_7), (0, .ref (K.2.1 1000)), (1, .int x1), (2, .int x2), (3, .int x3)]) hx hb dX2_nextRow_93 hl (by decide) rfl (fun ls hl => ?_)
      refine lv_iload_n hx hb dX2_nextRow_95 rfl (lv_at hl 3 rfl) ?_
      refine lv_iconst (v := (1:Int32)) hx hb dX2_nextRow_96 (by decide) ?_
      refine lv_isub hx hb dX2_nextRow_97 ?_
      obtain ⟨x6_15, e16, h⟩ := qlet_s h
      refine r_nm e16 ?_
      refine lv_istore (lv' := [(6, .int x6_15), (5, .int x5_13), (4, .int x4_7), (0, .ref (K.2.1 1000)), (1, .int x1), (2, .int x2), (3, .int x3)]) hx hb dX2_nextRow_98 hl (by decide) rfl (fun ls hl => ?_)
      exact w_X2_nextRow_100 hG hM E hr  _ _ _ _   h hw (lv_sub hl [3, 1, 0] rfl)
    · have h := qi_f c h
      obtain ⟨x3_29, e30, h⟩ := qlet_s h
      refine lv_iinc (v := x3_29) (lv' := [(3, .int x3_29), (0, .ref (K.2.1 1000)), (1, .int x1), (2, .int x2)]) (k := 3) hx hb dX2_nextRow_56 hl rfl (by rw [e30]; rfl) (by decide) rfl (fun ls hl => ?_)
      refine lv_goto (tgt := 41) hx hb dX2_nextRow_59 (by decide) ?_
      exact ih _ _ _ _  h hw (lv_sub hl [1, 2, 3, 0] rfl)

def f_X2_nextRow_31 (x1 : Int32) (x2 : Int32) (B : QA) : Option (Int32 × QA) :=
  if (0:Int32) ≤ x2 then (
  qlet (x1 - (1:Int32)) fun x3_3 =>
  f_X2_nextRow_41 FU x1 x2 x3_3 B) else (
  some ((0:Int32), B))
set_option maxHeartbeats 4000000 in
theorem w_X2_nextRow_31 {p : Program} {l : Launch} {e : Env} {s : State} {m : MethodId} {args : Array Value} {below : List Frame} {meth : Method} {c : Code} {K : QK} {G : State → Prop} {A : QA} {rs : QX × QM} {L : QL} {ro : Int32} {Bo : QA} (hG : QG G) (hM : QMl K) (E : EV K G p s m args meth c cX2_nextRow "VaneCourtModel" 7) (hr : meth.sig.returnType = (some .boolean)) : ∀ (x1 : Int32) (x2 : Int32) (B : QA) {H : Heap} {locs : List Loc} {ls : Array Slot}, f_X2_nextRow_31 x1 x2 B = some (ro, Bo) → WP K (A, B, L, rs) H locs → lv_has ls 7 [(0, .ref (K.2.1 1000)), (1, .int x1), (2, .int x2)] → W p l e (qrm 1 40 0 0) s m args below meth c H locs 0 0 (MQ below (QE K (QR (some (.int ro)) (A, Bo, L, rs))) args s 0 0 (qA K)) (F0 m 31 ls []) := by
  have hx := E.1
  have hb := E.2.1
  have hown := E.2.2.1
  have hts := E.2.2.2.2.1
  intro x1 x2 B H locs ls  h hw hl
  rw [f_X2_nextRow_31] at h
  refine lv_iload_n hx hb dX2_nextRow_31 rfl (lv_at hl 2 rfl) ?_
  refine lv_if_ge (tgt := 37) hx hb dX2_nextRow_32 (by decide) (fun c => ?_) (fun c => ?_)
  · have h := qi_t c h
    refine lv_iload_n hx hb dX2_nextRow_37 rfl (lv_at hl 1 rfl) ?_
    refine lv_iconst (v := (1:Int32)) hx hb dX2_nextRow_38 (by decide) ?_
    refine lv_isub hx hb dX2_nextRow_39 ?_
    obtain ⟨x3_3, e4, h⟩ := qlet_s h
    refine r_nm e4 ?_
    refine lv_istore_n (lv' := [(3, .int x3_3), (0, .ref (K.2.1 1000)), (1, .int x1), (2, .int x2)]) hx hb dX2_nextRow_40 rfl hl (by decide) rfl (fun ls hl => ?_)
    exact w_X2_nextRow_41 hG hM E hr  _ _ _ _ _   h hw (lv_sub hl [1, 2, 3, 0] rfl)
  · have h := qi_f c h
    refine lv_iconst (v := (0:Int32)) hx hb dX2_nextRow_35 (by decide) ?_
    have h := Option.some.inj h
    obtain ⟨h1, h2⟩ := Prod.mk.inj h
    exact d_iret E hr rfl hw h1 (by rw [h2]) dX2_nextRow_36

def f_X2_nextRow_4 : Nat → Int32 → Int32 → QA → Option (Int32 × QA)
  | 0, _, _, _ => none
  | n + 1, x1, x2, B => if x2 < (0:Int32) then (
  f_X2_nextRow_31 x1 x2 B) else (
  qif (qok x2 5) <|
  qif (qok (x2 + (1:Int32)) 5) <|
  if (B 1016 x2.toNatClampNeg) ≤ (B 1016 (x2 + (1:Int32)).toNatClampNeg) then (
  f_X2_nextRow_31 x1 x2 B) else (
  qlet (x2 + (-1:Int32)) fun x2_33 =>
  f_X2_nextRow_4 n x1 x2_33 B))
set_option maxHeartbeats 4000000 in
theorem w_X2_nextRow_4 {p : Program} {l : Launch} {e : Env} {s : State} {m : MethodId} {args : Array Value} {below : List Frame} {meth : Method} {c : Code} {K : QK} {G : State → Prop} {A : QA} {rs : QX × QM} {L : QL} {ro : Int32} {Bo : QA} (hG : QG G) (hM : QMl K) (E : EV K G p s m args meth c cX2_nextRow "VaneCourtModel" 7) (hr : meth.sig.returnType = (some .boolean)) : ∀ (n : Nat) (x1 : Int32) (x2 : Int32) (B : QA) {H : Heap} {locs : List Loc} {ls : Array Slot}, f_X2_nextRow_4 n x1 x2 B = some (ro, Bo) → WP K (A, B, L, rs) H locs → lv_has ls 7 [(0, .ref (K.2.1 1000)), (1, .int x1), (2, .int x2)] → W p l e (qrm 1 40 0 0) s m args below meth c H locs 0 0 (MQ below (QE K (QR (some (.int ro)) (A, Bo, L, rs))) args s 0 0 (qA K)) (F0 m 4 ls []) := by
  have hx := E.1
  have hb := E.2.1
  have hown := E.2.2.1
  have hts := E.2.2.2.2.1
  intro n
  induction n with
  | zero =>
    intro x1 x2 B H locs ls  h hw hl
    cases h
  | succ n ih =>
    intro x1 x2 B H locs ls  h hw hl
    rw [f_X2_nextRow_4] at h
    refine lv_iload_n hx hb dX2_nextRow_4 rfl (lv_at hl 2 rfl) ?_
    refine lv_if_lt (tgt := 31) hx hb dX2_nextRow_5 (by decide) (fun c => ?_) (fun c => ?_)
    · have h := qi_t c h
      exact w_X2_nextRow_31 hG hM E hr  _ _ _   h hw (lv_sub hl [0, 1, 2] rfl)
    · have h := qi_f c h
      refine lv_aload_n hx hb dX2_nextRow_8 rfl (lv_at hl 0 rfl) ?_
      refine r_getM (v := .ref (K.2.1 1016)) E hw hM 38 (by decide) q1391 rfl dX2_nextRow_9 ?_
      refine lv_iload_n hx hb dX2_nextRow_12 rfl (lv_at hl 2 rfl) ?_
      obtain ⟨z31, h⟩ := qif_s h
      refine r_iald (j := x2.toNatClampNeg) E hw (qi_1016 hM).at (qok_in z31) rfl dX2_nextRow_13 ?_
      refine lv_aload_n hx hb dX2_nextRow_14 rfl (lv_at hl 0 rfl) ?_
      refine r_getM (v := .ref (K.2.1 1016)) E hw hM 38 (by decide) q1391 rfl dX2_nextRow_15 ?_
      refine lv_iload_n hx hb dX2_nextRow_18 rfl (lv_at hl 2 rfl) ?_
      refine lv_iconst (v := (1:Int32)) hx hb dX2_nextRow_19 (by decide) ?_
      refine lv_iadd hx hb dX2_nextRow_20 ?_
      obtain ⟨z32, h⟩ := qif_s h
      refine r_iald (j := (x2 + (1:Int32)).toNatClampNeg) E hw (qi_1016 hM).at (qok_in z32) rfl dX2_nextRow_21 ?_
      refine lv_icmp_le (tgt := 31) hx hb dX2_nextRow_22 (by decide) (fun c => ?_) (fun c => ?_)
      · have h := qi_t c h
        exact w_X2_nextRow_31 hG hM E hr  _ _ _   h hw (lv_sub hl [0, 1, 2] rfl)
      · have h := qi_f c h
        obtain ⟨x2_33, e34, h⟩ := qlet_s h
        refine lv_iinc (v := x2_33) (lv' := [(2, .int x2_33), (0, .ref (K.2.1 1000)), (1, .int x1)]) (k := 2) hx hb dX2_nextRow_25 hl rfl (by rw [e34]; rfl) (by decide) rfl (fun ls hl => ?_)
        refine lv_goto (tgt := 4) hx hb dX2_nextRow_28 (by decide) ?_
        exact ih _ _ _  h hw (lv_sub hl [1, 2, 0] rfl)

def f_X2_nextRow (x1 : Int32) (B : QA) : Option (Int32 × QA) :=
  qlet (x1 - (2:Int32)) fun x2_1 =>
  f_X2_nextRow_4 FU x1 x2_1 B
set_option maxHeartbeats 4000000 in
theorem w_X2_nextRow_0 {p : Program} {l : Launch} {e : Env} {s : State} {m : MethodId} {args : Array Value} {below : List Frame} {meth : Method} {c : Code} {K : QK} {G : State → Prop} {A : QA} {rs : QX × QM} {L : QL} {ro : Int32} {Bo : QA} (hG : QG G) (hM : QMl K) (E : EV K G p s m args meth c cX2_nextRow "VaneCourtModel" 7) (hr : meth.sig.returnType = (some .boolean)) : ∀ (x1 : Int32) (B : QA) {H : Heap} {locs : List Loc} {ls : Array Slot}, f_X2_nextRow x1 B = some (ro, Bo) → WP K (A, B, L, rs) H locs → lv_has ls 7 [(0, .ref (K.2.1 1000)), (1, .int x1)] → W p l e (qrm 1 40 0 0) s m args below meth c H locs 0 0 (MQ below (QE K (QR (some (.int ro)) (A, Bo, L, rs))) args s 0 0 (qA K)) (F0 m 0 ls []) := by
  have hx := E.1
  have hb := E.2.1
  have hown := E.2.2.1
  have hts := E.2.2.2.2.1
  intro x1 B H locs ls  h hw hl
  rw [f_X2_nextRow] at h
  refine lv_iload_n hx hb dX2_nextRow_0 rfl (lv_at hl 1 rfl) ?_
  refine lv_iconst (v := (2:Int32)) hx hb dX2_nextRow_1 (by decide) ?_
  refine lv_isub hx hb dX2_nextRow_2 ?_
  obtain ⟨x2_1, e2, h⟩ := qlet_s h
  refine r_nm e2 ?_
  refine lv_istore_n (lv' := [(2, .int x2_1), (0, .ref (K.2.1 1000)), (1, .int x1)]) hx hb dX2_nextRow_3 rfl hl (by decide) rfl (fun ls hl => ?_)
  exact w_X2_nextRow_4 hG hM E hr  _ _ _ _   h hw (lv_sub hl [1, 2, 0] rfl)

theorem m_X2_nextRow (l : Launch) {K : QK} {G : State → Prop} (hG : QG G) (hM : QMl K) {A : QA} {rs : QX × QM} {L : QL} {x1 : Int32} {B : QA} {ro : Int32} {Bo : QA} (h : f_X2_nextRow x1 B = some (ro, Bo)) : MC l K G yX2_nextRow (ws_ yX2_nextRow cX2_nextRow 7 (some .boolean)) 1 40 0 0 [.ref (K.2.1 1000), .int x1] (A, B, L, rs) (QR (some (.int ro)) (A, Bo, L, rs)) := by
  refine MC.of (by decide) (Nat.le_of_ble_eq_true rfl) (lv := [(0, .ref (K.2.1 1000)), (1, .int x1)]) rfl (fun p e s m below meth c ls E hr hl hw => ?_)
  exact w_X2_nextRow_0 hG hM E hr _ _  h hw hl

def f_X2_session_176 (k119 : (Int32 → Int32 → Int32 → Int32 → QA → QL → Option (Int32 × QA × QL))) (x2 : Int32) (x3 : Int32) (x4 : Int32) (B : QA) (L : QL) : Option (Int32 × QA × QL) :=
  qb2 (f_X2_nextRow x3 B) fun u16 B17 =>
  k119 x2 x3 x4 u16 B17 L
set_option maxHeartbeats 4000000 in
theorem w_X2_session_176 {p : Program} {l : Launch} {e : Env} {s : State} {m : MethodId} {args : Array Value} {below : List Frame} {meth : Method} {c : Code} {K : QK} {G : State → Prop} {A : QA} {rs : QX × QM} {ro : Int32} {Bo : QA} {Lo : QL} (hG : QG G) (hM : QMl K) (E : EV K G p s m args meth c cX2_session "VaneCourtModel" 8) (hr : meth.sig.returnType = (some .int)) {k119 : (Int32 → Int32 → Int32 → Int32 → QA → QL → Option (Int32 × QA × QL))} (hk119 : ∀ (x2 : Int32) (x3 : Int32) (x4 : Int32) (x5 : Int32) (B : QA) (L : QL) {H : Heap} {locs : List Loc} {ls : Array Slot}, k119 x2 x3 x4 x5 B L = some (ro, Bo, Lo) → WP K (A, B, L, rs) H locs → lv_has ls 8 [(0, .ref (K.2.1 1000)), (2, .int x2), (3, .int x3), (4, .int x4), (5, .int x5)] → W p l e (qrm 8 216 0 0) s m args below meth c H locs 0 0 (MQ below (QE K (QR (some (.int ro)) (A, Bo, Lo, rs))) args s 0 0 (qA K)) (F0 m 119 ls [])) : ∀ (x2 : Int32) (x3 : Int32) (x4 : Int32) (B : QA) (L : QL) {H : Heap} {locs : List Loc} {ls : Array Slot}, f_X2_session_176 k119 x2 x3 x4 B L = some (ro, Bo, Lo) → WP K (A, B, L, rs) H locs → lv_has ls 8 [(0, .ref (K.2.1 1000)), (2, .int x2), (3, .int x3), (4, .int x4)] → W p l e (qrm 8 216 0 0) s m args below meth c H locs 0 0 (MQ below (QE K (QR (some (.int ro)) (A, Bo, Lo, rs))) args s 0 0 (qA K)) (F0 m 176 ls []) := by
  have hx := E.1
  have hb := E.2.1
  have hown := E.2.2.1
  have hts := E.2.2.2.2.1
  intro x2 x3 x4 B L H locs ls  h hw hl
  rw [f_X2_session_176] at h
  refine lv_aload_n hx hb dX2_session_176 rfl (lv_at hl 0 rfl) ?_
  refine lv_iload_n hx hb dX2_session_177 rfl (lv_at hl 2 rfl) ?_
  obtain ⟨u16, B17, g18, h⟩ := qb2_s h
  refine d_V (As := [.int x3]) (v0 := some (.int u16)) (w0 := (A, B17, L, rs)) hG E hw hl (m_X2_nextRow l hG hM  g18) (qM0 hM) rfl (cwV 1 hts (lw_V q1938 q1940 qs130 q140 q1941) rfl rfl rfl ⟨rfl, kd_X2_nextRow⟩ ⟨Nat.le_of_ble_eq_true rfl, Nat.le_of_ble_eq_true rfl⟩) rfl (rest := []) (st1 := [.int u16]) rfl rfl rfl dX2_session_178 ⟨Nat.le_of_ble_eq_true rfl, Nat.le_of_ble_eq_true rfl⟩ (fun H locs hw => ?_)
  refine lv_istore (lv' := [(5, .int u16), (0, .ref (K.2.1 1000)), (2, .int x2), (3, .int x3), (4, .int x4)]) hx hb dX2_session_181 hl (by decide) rfl (fun ls hl => ?_)
  refine lv_goto (tgt := 119) hx hb dX2_session_183 (by decide) ?_
  exact hk119 _ _ _ _ _ _  h hw (lv_sub hl [1, 2, 3, 4, 0] rfl)

def f_X2_session_145 (k119 : (Int32 → Int32 → Int32 → Int32 → QA → QL → Option (Int32 × QA × QL))) : Nat → Int32 → Int32 → Int32 → Int32 → QA → QL → Option (Int32 × QA × QL)
  | 0, _, _, _, _, _, _ => none
  | n + 1, x2, x3, x4, x7, B, L => if x3 ≤ x7 then (
  f_X2_session_176 k119 x2 x3 x4 B L) else (
  qif (qok x7 5) <|
  qif (qok (B 1016 x7.toNatClampNeg) 8) <|
  qlet (qu B 1017 x7.toNatClampNeg (B 1015 (B 1016 x7.toNatClampNeg).toNatClampNeg)) fun B21 =>
  qlet (x7 + (1:Int32)) fun x7_23 =>
  f_X2_session_145 k119 n x2 x3 x4 x7_23 B21 L)
set_option maxHeartbeats 4000000 in
theorem w_X2_session_145 {p : Program} {l : Launch} {e : Env} {s : State} {m : MethodId} {args : Array Value} {below : List Frame} {meth : Method} {c : Code} {K : QK} {G : State → Prop} {A : QA} {rs : QX × QM} {ro : Int32} {Bo : QA} {Lo : QL} (hG : QG G) (hM : QMl K) (E : EV K G p s m args meth c cX2_session "VaneCourtModel" 8) (hr : meth.sig.returnType = (some .int)) {k119 : (Int32 → Int32 → Int32 → Int32 → QA → QL → Option (Int32 × QA × QL))} (hk119 : ∀ (x2 : Int32) (x3 : Int32) (x4 : Int32) (x5 : Int32) (B : QA) (L : QL) {H : Heap} {locs : List Loc} {ls : Array Slot}, k119 x2 x3 x4 x5 B L = some (ro, Bo, Lo) → WP K (A, B, L, rs) H locs → lv_has ls 8 [(0, .ref (K.2.1 1000)), (2, .int x2), (3, .int x3), (4, .int x4), (5, .int x5)] → W p l e (qrm 8 216 0 0) s m args below meth c H locs 0 0 (MQ below (QE K (QR (some (.int ro)) (A, Bo, Lo, rs))) args s 0 0 (qA K)) (F0 m 119 ls [])) : ∀ (n : Nat) (x2 : Int32) (x3 : Int32) (x4 : Int32) (x7 : Int32) (B : QA) (L : QL) {H : Heap} {locs : List Loc} {ls : Array Slot}, f_X2_session_145 k119 n x2 x3 x4 x7 B L = some (ro, Bo, Lo) → WP K (A, B, L, rs) H locs → lv_has ls 8 [(0, .ref (K.2.1 1000)), (2, .int x2), (3, .int x3), (4, .int x4), (7, .int x7)] → W p l e (qrm 8 216 0 0) s m args below meth c H locs 0 0 (MQ below (QE K (QR (some (.int ro)) (A, Bo, Lo, rs))) args s 0 0 (qA K)) (F0 m 145 ls []) := by
  have hx := E.1
  have hb := E.2.1
  have hown := E.2.2.1
  have hts := E.2.2.2.2.1
  intro n
  induction n with
  | zero =>
    intro x2 x3 x4 x7 B L H locs ls  h hw hl
    cases h
  | succ n ih =>
    intro x2 x3 x4 x7 B L H locs ls  h hw hl
    rw [f_X2_session_145] at h
    refine lv_iload hx hb dX2_session_145 (lv_at hl 4 rfl) ?_
    refine lv_iload_n hx hb dX2_session_147 rfl (lv_at hl 2 rfl) ?_
    refine lv_icmp_ge (tgt := 176) hx hb dX2_session_148 (by decide) (fun c => ?_) (fun c => ?_)
    · have h := qi_t c h
      exact w_X2_session_176 hG hM E hr hk119 _ _ _ _ _   h hw (lv_sub hl [0, 1, 2, 3] rfl)
    · have h := qi_f c h
      refine lv_aload_n hx hb dX2_session_151 rfl (lv_at hl 0 rfl) ?_
      refine r_getM (v := .ref (K.2.1 1017)) E hw hM 39 (by decide) q1392 rfl dX2_session_152 ?_
      refine lv_iload hx hb dX2_session_155 (lv_at hl 4 rfl) ?_
      refine lv_aload_n hx hb dX2_session_157 rfl (lv_at hl 0 rfl) ?_
      refine r_getM (v := .ref (K.2.1 1015)) E hw hM 37 (by decide) q1390 rfl dX2_session_158 ?_
      refine lv_aload_n hx hb dX2_session_161 rfl (lv_at hl 0 rfl) ?_
      refine r_getM (v := .ref (K.2.1 1016)) E hw hM 38 (by decide) q1391 rfl dX2_session_162 ?_
      refine lv_iload hx hb dX2_session_165 (lv_at hl 4 rfl) ?_
      obtain ⟨z19, h⟩ := qif_s h
      refine r_iald (j := x7.toNatClampNeg) E hw (qi_1016 hM).at (qok_in z19) rfl dX2_session_167 ?_
      obtain ⟨z20, h⟩ := qif_s h
      refine r_iald (j := (B 1016 x7.toNatClampNeg).toNatClampNeg) E hw (qi_1015 hM).at (qok_in z20) rfl dX2_session_168 ?_
      obtain ⟨B21, e22, h⟩ := qlet_s h
      refine r_iastB (j := x7.toNatClampNeg) E hw (qi_1017 hM) (qok_in z19) rfl dX2_session_169 (fun H locs hw => ?_)
      rw [← e22] at hw
      obtain ⟨x7_23, e24, h⟩ := qlet_s h
      refine lv_iinc (v := x7_23) (lv' := [(7, .int x7_23), (0, .ref (K.2.1 1000)), (2, .int x2), (3, .int x3), (4, .int x4)]) (k := 4) hx hb dX2_session_170 hl rfl (by rw [e24]; rfl) (by decide) rfl (fun ls hl => ?_)
      refine lv_goto (tgt := 145) hx hb dX2_session_173 (by decide) ?_
      exact ih _ _ _ _ _ _  h hw (lv_sub hl [1, 2, 3, 4, 0] rfl)

def f_X2_session_119 : Nat → Int32 → Int32 → Int32 → Int32 → QA → QL → Option (Int32 × QA × QL)
  | 0, _, _, _, _, _, _ => none
  | n + 1, x2, x3, x4, x5, B, L => if x5 = (0:Int32) then (
  if x2 = (-1:Int32) then (
  some (x4, B, L)) else (
  qif (qok x2 5) <|
  some ((B 1017 x2.toNatClampNeg), B, L))) else (
  qb3 (f_X2_sentencesBy x3 B L) fun u12 B13 L14 =>
  if u12 ≤ x4 then (
  f_X2_session_176 (fun x2' x3' x4' x5' B' L' => f_X2_session_119 n x2' x3' x4' x5' B' L') x2 x3 x4 B13 L14) else (
  f_X2_session_145 (fun x2' x3' x4' x5' B' L' => f_X2_session_119 n x2' x3' x4' x5' B' L') FU x2 x3 u12 (0:Int32) B13 L14))
set_option maxHeartbeats 4000000 in
theorem w_X2_session_119 {p : Program} {l : Launch} {e : Env} {s : State} {m : MethodId} {args : Array Value} {below : List Frame} {meth : Method} {c : Code} {K : QK} {G : State → Prop} {A : QA} {rs : QX × QM} {ro : Int32} {Bo : QA} {Lo : QL} (hG : QG G) (hM : QMl K) (E : EV K G p s m args meth c cX2_session "VaneCourtModel" 8) (hr : meth.sig.returnType = (some .int)) : ∀ (n : Nat) (x2 : Int32) (x3 : Int32) (x4 : Int32) (x5 : Int32) (B : QA) (L : QL) {H : Heap} {locs : List Loc} {ls : Array Slot}, f_X2_session_119 n x2 x3 x4 x5 B L = some (ro, Bo, Lo) → WP K (A, B, L, rs) H locs → lv_has ls 8 [(0, .ref (K.2.1 1000)), (2, .int x2), (3, .int x3), (4, .int x4), (5, .int x5)] → W p l e (qrm 8 216 0 0) s m args below meth c H locs 0 0 (MQ below (QE K (QR (some (.int ro)) (A, Bo, Lo, rs))) args s 0 0 (qA K)) (F0 m 119 ls []) := by
  have hx := E.1
  have hb := E.2.1
  have hown := E.2.2.1
  have hts := E.2.2.2.2.1
  intro n
  induction n with
  | zero =>
    intro x2 x3 x4 x5 B L H locs ls  h hw hl
    cases h
  | succ n ih =>
    intro x2 x3 x4 x5 B L H locs ls  h hw hl
    rw [f_X2_session_119] at h
    refine lv_iload hx hb dX2_session_119 (lv_at hl 4 rfl) ?_
    refine lv_if_eq (tgt := 186) hx hb dX2_session_121 (by decide) (fun c => ?_) (fun c => ?_)
    · have h := qi_t c h
      refine lv_iload_n hx hb dX2_session_186 rfl (lv_at hl 1 rfl) ?_
      refine lv_iconst (v := (-1:Int32)) hx hb dX2_session_187 (by decide) ?_
      refine lv_icmp_ne (tgt := 196) hx hb dX2_session_188 (by decide) (fun c => ?_) (fun c => ?_)
      · have h := qi_f c h
        refine lv_aload_n hx hb dX2_session_196 rfl (lv_at hl 0 rfl) ?_
        refine r_getM (v := .ref (K.2.1 1017)) E hw hM 39 (by decide) q1392 rfl dX2_session_197 ?_
        refine lv_iload_n hx hb dX2_session_200 rfl (lv_at hl 1 rfl) ?_
        obtain ⟨z11, h⟩ := qif_s h
        refine r_iald (j := x2.toNatClampNeg) E hw (qi_1017 hM).at (qok_in z11) rfl dX2_session_201 ?_
        have h := Option.some.inj h
        obtain ⟨h1, h2⟩ := Prod.mk.inj h
        obtain ⟨h2, h3⟩ := Prod.mk.inj h2
        exact d_iret E hr rfl hw h1 (by rw [h2, h3]) dX2_session_202
      · have h := qi_t c h
        refine lv_iload hx hb dX2_session_191 (lv_at hl 3 rfl) ?_
        refine lv_goto (tgt := 202) hx hb dX2_session_193 (by decide) ?_
        have h := Option.some.inj h
        obtain ⟨h1, h2⟩ := Prod.mk.inj h
        obtain ⟨h2, h3⟩ := Prod.mk.inj h2
        exact d_iret E hr rfl hw h1 (by rw [h2, h3]) dX2_session_202
    · have h := qi_f c h
      refine lv_aload_n hx hb dX2_session_124 rfl (lv_at hl 0 rfl) ?_
      refine lv_iload_n hx hb dX2_session_125 rfl (lv_at hl 2 rfl) ?_
      obtain ⟨u12, B13, L14, g15, h⟩ := qb3_s h
      refine d_V (As := [.int x3]) (v0 := some (.int u12)) (w0 := (A, B13, L14, rs)) hG E hw hl (m_X2_sentencesBy l hG hM  g15) (qM0 hM) rfl (cwV 1 hts (lw_V q1934 q1936 qs129 q140 q1937) rfl rfl rfl ⟨rfl, kd_X2_sentencesBy⟩ ⟨Nat.le_of_ble_eq_true rfl, Nat.le_of_ble_eq_true rfl⟩) rfl (rest := []) (st1 := [.int u12]) rfl rfl rfl dX2_session_126 ⟨Nat.le_of_ble_eq_true rfl, Nat.le_of_ble_eq_true rfl⟩ (fun H locs hw => ?_)
      refine lv_istore (lv' := [(6, .int u12), (0, .ref (K.2.1 1000)), (2, .int x2), (3, .int x3), (4, .int x4), (5, .int x5)]) hx hb dX2_session_129 hl (by decide) rfl (fun ls hl => ?_)
      refine lv_iload hx hb dX2_session_131 (lv_at hl 0 rfl) ?_
      refine lv_iload hx hb dX2_session_133 (lv_at hl 4 rfl) ?_
      refine lv_icmp_le (tgt := 176) hx hb dX2_session_135 (by decide) (fun c => ?_) (fun c => ?_)
      · have h := qi_t c h
        exact w_X2_session_176 hG hM E hr ih _ _ _ _ _   h hw (lv_sub hl [1, 2, 3, 4] rfl)
      · have h := qi_f c h
        refine lv_iload hx hb dX2_session_138 (lv_at hl 0 rfl) ?_
        refine lv_istore (lv' := [(4, .int u12), (6, .int u12), (0, .ref (K.2.1 1000)), (2, .int x2), (3, .int x3), (5, .int x5)]) hx hb dX2_session_140 hl (by decide) rfl (fun ls hl => ?_)
        refine lv_iconst (v := (0:Int32)) hx hb dX2_session_142 (by decide) ?_
        refine lv_istore (lv' := [(7, .int (0:Int32)), (4, .int u12), (6, .int u12), (0, .ref (K.2.1 1000)), (2, .int x2), (3, .int x3), (5, .int x5)]) hx hb dX2_session_143 hl (by decide) rfl (fun ls hl => ?_)
        exact w_X2_session_145 hG hM E hr ih _ _ _ _ _ _ _   h hw (lv_sub hl [3, 4, 5, 1, 0] rfl)

def f_X2_session_47 : Nat → Int32 → Int32 → Int32 → Int32 → QA → QL → Option (Int32 × QA × QL)
  | 0, _, _, _, _, _, _ => none
  | n + 1, x1, x2, x3, x4, B, L => if (B 1001 0) ≤ x4 then (
  qb3 (f_X2_layWinds (60:Int32) B L) fun u7 B8 L9 =>
  f_X2_session_119 FU x2 x3 (-1:Int32) (1:Int32) B8 L9) else (
  qb1 (f_X2_has x1 x4) fun u25 =>
  if u25 = (0:Int32) then (
  qlet (x4 + (1:Int32)) fun x4_39 =>
  f_X2_session_47 n x1 x2 x3 x4_39 B L) else (
  qb1 (f_X2_isWaiting x4 B) fun u27 =>
  if u27 = (0:Int32) then (
  some ((-2:Int32), B, L)) else (
  qif (qok x3 8) <|
  qlet (qu B 1015 x3.toNatClampNeg x4) fun B30 =>
  qif (qok x3 5) <|
  qlet (qu B30 1016 x3.toNatClampNeg x3) fun B33 =>
  qlet (x3 + (1:Int32)) fun x3_35 =>
  qlet (x4 + (1:Int32)) fun x4_37 =>
  f_X2_session_47 n x1 x2 x3_35 x4_37 B33 L)))
set_option maxHeartbeats 4000000 in
theorem w_X2_session_47 {p : Program} {l : Launch} {e : Env} {s : State} {m : MethodId} {args : Array Value} {below : List Frame} {meth : Method} {c : Code} {K : QK} {G : State → Prop} {A : QA} {rs : QX × QM} {ro : Int32} {Bo : QA} {Lo : QL} (hG : QG G) (hM : QMl K) (E : EV K G p s m args meth c cX2_session "VaneCourtModel" 8) (hr : meth.sig.returnType = (some .int)) : ∀ (n : Nat) (x1 : Int32) (x2 : Int32) (x3 : Int32) (x4 : Int32) (B : QA) (L : QL) {H : Heap} {locs : List Loc} {ls : Array Slot}, f_X2_session_47 n x1 x2 x3 x4 B L = some (ro, Bo, Lo) → WP K (A, B, L, rs) H locs → lv_has ls 8 [(0, .ref (K.2.1 1000)), (1, .int x1), (2, .int x2), (3, .int x3), (4, .int x4)] → W p l e (qrm 8 216 0 0) s m args below meth c H locs 0 0 (MQ below (QE K (QR (some (.int ro)) (A, Bo, Lo, rs))) args s 0 0 (qA K)) (F0 m 47 ls []) := by
  have hx := E.1
  have hb := E.2.1
  have hown := E.2.2.1
  have hts := E.2.2.2.2.1
  intro n
  induction n with
  | zero =>
    intro x1 x2 x3 x4 B L H locs ls  h hw hl
    cases h
  | succ n ih =>
    intro x1 x2 x3 x4 B L H locs ls  h hw hl
    rw [f_X2_session_47] at h
    refine lv_iload hx hb dX2_session_47 (lv_at hl 4 rfl) ?_
    refine lv_aload_n hx hb dX2_session_49 rfl (lv_at hl 0 rfl) ?_
    refine r_getM (v := .ref (K.2.1 1001)) E hw hM 0 (by decide) q1353 rfl dX2_session_50 ?_
    refine lv_iconst (v := (0:Int32)) hx hb dX2_session_53 (by decide) ?_
    refine r_iald (j := 0) E hw (qi_1001 hM).at (q_lit (k := 0) (n := 3642) rfl rfl) (q_clamp (k := 0) rfl) dX2_session_54 ?_
    refine lv_icmp_ge (tgt := 106) hx hb dX2_session_55 (by decide) (fun c => ?_) (fun c => ?_)
    · have h := qi_t c h
      refine lv_aload_n hx hb dX2_session_106 rfl (lv_at hl 0 rfl) ?_
      refine lv_bipush (v := (60:Int32)) hx hb dX2_session_107 (by decide) ?_
      obtain ⟨u7, B8, L9, g10, h⟩ := qb3_s h
      refine d_V (As := [.int (60:Int32)]) (v0 := some (.int u7)) (w0 := (A, B8, L9, rs)) hG E hw hl (m_X2_layWinds l hG hM  g10) (qM0 hM) rfl (cwV 1 hts (lw_V q1873 q1875 qs123 q140 q1876) rfl rfl rfl ⟨rfl, kd_X2_layWinds⟩ ⟨Nat.le_of_ble_eq_true rfl, Nat.le_of_ble_eq_true rfl⟩) rfl (rest := []) (st1 := [.int u7]) rfl rfl rfl dX2_session_109 ⟨Nat.le_of_ble_eq_true rfl, Nat.le_of_ble_eq_true rfl⟩ (fun H locs hw => ?_)
      refine lv_pop hx hb dX2_session_112 rfl ?_
      refine lv_iconst (v := (-1:Int32)) hx hb dX2_session_113 (by decide) ?_
      refine lv_istore (lv' := [(4, .int (-1:Int32)), (0, .ref (K.2.1 1000)), (1, .int x1), (2, .int x2), (3, .int x3)]) hx hb dX2_session_114 hl (by decide) rfl (fun ls hl => ?_)
      refine lv_iconst (v := (1:Int32)) hx hb dX2_session_116 (by decide) ?_
      refine lv_istore (lv' := [(5, .int (1:Int32)), (4, .int (-1:Int32)), (0, .ref (K.2.1 1000)), (1, .int x1), (2, .int x2), (3, .int x3)]) hx hb dX2_session_117 hl (by decide) rfl (fun ls hl => ?_)
      exact w_X2_session_119 hG hM E hr  _ _ _ _ _ _ _   h hw (lv_sub hl [2, 4, 5, 1, 0] rfl)
    · have h := qi_f c h
      refine lv_iload_n hx hb dX2_session_58 rfl (lv_at hl 1 rfl) ?_
      refine lv_iload hx hb dX2_session_59 (lv_at hl 4 rfl) ?_
      obtain ⟨u25, g26, h⟩ := qb1_s h
      refine d_S (As := [.int x1, .int x4]) (v0 := some (.int u25)) (w0 := (A, B, L, rs)) hG E hw hl (m_X2_has l hG hM  g26) (va_cwS 2 hts (lw_S q1565 q1566 q140 q1567) rfl rfl rfl kd_X2_has ⟨Nat.le_of_ble_eq_true rfl, Nat.le_of_ble_eq_true rfl⟩) rfl (rest := []) (st1 := [.int u25]) rfl rfl rfl dX2_session_61 ⟨Nat.le_of_ble_eq_true rfl, Nat.le_of_ble_eq_true rfl⟩ (fun H locs hw => ?_)
      refine lv_if_ne (tgt := 70) hx hb dX2_session_64 (by decide) (fun c => ?_) (fun c => ?_)
      · have h := qi_f c h
        refine lv_aload_n hx hb dX2_session_70 rfl (lv_at hl 0 rfl) ?_
        refine lv_iload hx hb dX2_session_71 (lv_at hl 4 rfl) ?_
        obtain ⟨u27, g28, h⟩ := qb1_s h
        refine d_V (As := [.int x4]) (v0 := some (.int u27)) (w0 := (A, B, L, rs)) hG E hw hl (m_X2_isWaiting l hG hM  g28) (qM0 hM) rfl (cwV 1 hts (lw_V q1691 q1693 qs95 q140 q1694) rfl rfl rfl ⟨rfl, kd_X2_isWaiting⟩ ⟨Nat.le_of_ble_eq_true rfl, Nat.le_of_ble_eq_true rfl⟩) rfl (rest := []) (st1 := [.int u27]) rfl rfl rfl dX2_session_73 ⟨Nat.le_of_ble_eq_true rfl, Nat.le_of_ble_eq_true rfl⟩ (fun H locs hw => ?_)
        refine lv_if_ne (tgt := 82) hx hb dX2_session_76 (by decide) (fun c => ?_) (fun c => ?_)
        · have h := qi_f c h
          refine lv_aload_n hx hb dX2_session_82 rfl (lv_at hl 0 rfl) ?_
          refine r_getM (v := .ref (K.2.1 1015)) E hw hM 37 (by decide) q1390 rfl dX2_session_83 ?_
          refine lv_iload_n hx hb dX2_session_86 rfl (lv_at hl 3 rfl) ?_
          refine lv_iload hx hb dX2_session_87 (lv_at hl 4 rfl) ?_
          obtain ⟨z29, h⟩ := qif_s h
          obtain ⟨B30, e31, h⟩ := qlet_s h
          refine r_iastB (j := x3.toNatClampNeg) E hw (qi_1015 hM) (qok_in z29) rfl dX2_session_89 (fun H locs hw => ?_)
          rw [← e31] at hw
          refine lv_aload_n hx hb dX2_session_90 rfl (lv_at hl 0 rfl) ?_
          refine r_getM (v := .ref (K.2.1 1016)) E hw hM 38 (by decide) q1391 rfl dX2_session_91 ?_
          refine lv_iload_n hx hb dX2_session_94 rfl (lv_at hl 3 rfl) ?_
          refine lv_iload_n hx hb dX2_session_95 rfl (lv_at hl 3 rfl) ?_
          obtain ⟨z32, h⟩ := qif_s h
          obtain ⟨B33, e34, h⟩ := qlet_s h
          refine r_iastB (j := x3.toNatClampNeg) E hw (qi_1016 hM) (qok_in z32) rfl dX2_session_96 (fun H locs hw => ?_)
          rw [← e34] at hw
          obtain ⟨x3_35, e36, h⟩ := qlet_s h
          refine lv_iinc (v := x3_35) (lv' := [(3, .int x3_35), (0, .ref (K.2.1 1000)), (1, .int x1), (2, .int x2), (4, .int x4)]) (k := 3) hx hb dX2_session_97 hl rfl (by rw [e36]; rfl) (by decide) rfl (fun ls hl => ?_)
          obtain ⟨x4_37, e38, h⟩ := qlet_s h
          refine lv_iinc (v := x4_37) (lv' := [(4, .int x4_37), (3, .int x3_35), (0, .ref (K.2.1 1000)), (1, .int x1), (2, .int x2)]) (k := 4) hx hb dX2_session_100 hl rfl (by rw [e38]; rfl) (by decide) rfl (fun ls hl => ?_)
          refine lv_goto (tgt := 47) hx hb dX2_session_103 (by decide) ?_
          exact ih _ _ _ _ _ _  h hw (lv_sub hl [2, 3, 4, 1, 0] rfl)
        · have h := qi_t c h
          refine lv_bipush (v := (-2:Int32)) hx hb dX2_session_79 (by decide) ?_
          have h := Option.some.inj h
          obtain ⟨h1, h2⟩ := Prod.mk.inj h
          obtain ⟨h2, h3⟩ := Prod.mk.inj h2
          exact d_iret E hr rfl hw h1 (by rw [h2, h3]) dX2_session_81
      · have h := qi_t c h
        refine lv_goto (tgt := 100) hx hb dX2_session_67 (by decide) ?_
        obtain ⟨x4_39, e40, h⟩ := qlet_s h
        refine lv_iinc (v := x4_39) (lv' := [(4, .int x4_39), (0, .ref (K.2.1 1000)), (1, .int x1), (2, .int x2), (3, .int x3)]) (k := 4) hx hb dX2_session_100 hl rfl (by rw [e40]; rfl) (by decide) rfl (fun ls hl => ?_)
        refine lv_goto (tgt := 47) hx hb dX2_session_103 (by decide) ?_
        exact ih _ _ _ _ _ _  h hw (lv_sub hl [1, 2, 3, 4, 0] rfl)

def f_X2_session (x1 : Int32) (x2 : Int32) (B : QA) (L : QL) : Option (Int32 × QA × QL) :=
  qb1 (f_X2_isIn x1 (1:Int32) (((1:Int32) <<< ((B 1001 0) &&& 31)) - (1:Int32))) fun u1 =>
  if u1 = (0:Int32) then (
  some ((-2:Int32), B, L)) else (
  qb1 (f_X2_bits x1) fun u3 =>
  if (5:Int32) < u3 then (
  some ((-2:Int32), B, L)) else (
  if x2 < (-1:Int32) then (
  some ((-2:Int32), B, L)) else (
  qb1 (f_X2_bits x1) fun u5 =>
  if x2 < u5 then (
  f_X2_session_47 FU x1 x2 (0:Int32) (0:Int32) B L) else (
  some ((-2:Int32), B, L)))))
set_option maxHeartbeats 4000000 in
theorem w_X2_session_0 {p : Program} {l : Launch} {e : Env} {s : State} {m : MethodId} {args : Array Value} {below : List Frame} {meth : Method} {c : Code} {K : QK} {G : State → Prop} {A : QA} {rs : QX × QM} {ro : Int32} {Bo : QA} {Lo : QL} (hG : QG G) (hM : QMl K) (E : EV K G p s m args meth c cX2_session "VaneCourtModel" 8) (hr : meth.sig.returnType = (some .int)) : ∀ (x1 : Int32) (x2 : Int32) (B : QA) (L : QL) {H : Heap} {locs : List Loc} {ls : Array Slot}, f_X2_session x1 x2 B L = some (ro, Bo, Lo) → WP K (A, B, L, rs) H locs → lv_has ls 8 [(0, .ref (K.2.1 1000)), (1, .int x1), (2, .int x2)] → W p l e (qrm 8 216 0 0) s m args below meth c H locs 0 0 (MQ below (QE K (QR (some (.int ro)) (A, Bo, Lo, rs))) args s 0 0 (qA K)) (F0 m 0 ls []) := by
  have hx := E.1
  have hb := E.2.1
  have hown := E.2.2.1
  have hts := E.2.2.2.2.1
  intro x1 x2 B L H locs ls  h hw hl
  rw [f_X2_session] at h
  refine lv_iload_n hx hb dX2_session_0 rfl (lv_at hl 1 rfl) ?_
  refine lv_iconst (v := (1:Int32)) hx hb dX2_session_1 (by decide) ?_
  refine lv_iconst (v := (1:Int32)) hx hb dX2_session_2 (by decide) ?_
  refine lv_aload_n hx hb dX2_session_3 rfl (lv_at hl 0 rfl) ?_
  refine r_getM (v := .ref (K.2.1 1001)) E hw hM 0 (by decide) q1353 rfl dX2_session_4 ?_
  refine lv_iconst (v := (0:Int32)) hx hb dX2_session_7 (by decide) ?_
  refine r_iald (j := 0) E hw (qi_1001 hM).at (q_lit (k := 0) (n := 3642) rfl rfl) (q_clamp (k := 0) rfl) dX2_session_8 ?_
  refine lv_ishl hx hb dX2_session_9 ?_
  refine lv_iconst (v := (1:Int32)) hx hb dX2_session_10 (by decide) ?_
  refine lv_isub hx hb dX2_session_11 ?_
  obtain ⟨u1, g2, h⟩ := qb1_s h
  refine d_S (As := [.int x1, .int (1:Int32), .int (((1:Int32) <<< ((B 1001 0) &&& 31)) - (1:Int32))]) (v0 := some (.int u1)) (w0 := (A, B, L, rs)) hG E hw hl (m_X2_isIn l hG hM  g2) (va_cwS 3 hts (lw_S q1480 q1481 q140 q1482) rfl rfl rfl kd_X2_isIn ⟨Nat.le_of_ble_eq_true rfl, Nat.le_of_ble_eq_true rfl⟩) rfl (rest := []) (st1 := [.int u1]) rfl rfl rfl dX2_session_12 ⟨Nat.le_of_ble_eq_true rfl, Nat.le_of_ble_eq_true rfl⟩ (fun H locs hw => ?_)
  refine lv_if_eq (tgt := 39) hx hb dX2_session_15 (by decide) (fun c => ?_) (fun c => ?_)
  · have h := qi_t c h
    refine lv_bipush (v := (-2:Int32)) hx hb dX2_session_39 (by decide) ?_
    have h := Option.some.inj h
    obtain ⟨h1, h2⟩ := Prod.mk.inj h
    obtain ⟨h2, h3⟩ := Prod.mk.inj h2
    exact d_iret E hr rfl hw h1 (by rw [h2, h3]) dX2_session_41
  · have h := qi_f c h
    refine lv_iload_n hx hb dX2_session_18 rfl (lv_at hl 1 rfl) ?_
    obtain ⟨u3, g4, h⟩ := qb1_s h
    refine d_S (As := [.int x1]) (v0 := some (.int u3)) (w0 := (A, B, L, rs)) hG E hw hl (m_X2_bits l hG hM  g4) (va_cwS 1 hts (lw_S q1809 q1810 q140 q1811) rfl rfl rfl kd_X2_bits ⟨Nat.le_of_ble_eq_true rfl, Nat.le_of_ble_eq_true rfl⟩) rfl (rest := []) (st1 := [.int u3]) rfl rfl rfl dX2_session_19 ⟨Nat.le_of_ble_eq_true rfl, Nat.le_of_ble_eq_true rfl⟩ (fun H locs hw => ?_)
    refine lv_iconst (v := (5:Int32)) hx hb dX2_session_22 (by decide) ?_
    refine lv_icmp_gt (tgt := 39) hx hb dX2_session_23 (by decide) (fun c => ?_) (fun c => ?_)
    · have h := qi_t c h
      refine lv_bipush (v := (-2:Int32)) hx hb dX2_session_39 (by decide) ?_
      have h := Option.some.inj h
      obtain ⟨h1, h2⟩ := Prod.mk.inj h
      obtain ⟨h2, h3⟩ := Prod.mk.inj h2
      exact d_iret E hr rfl hw h1 (by rw [h2, h3]) dX2_session_41
    · have h := qi_f c h
      refine lv_iload_n hx hb dX2_session_26 rfl (lv_at hl 2 rfl) ?_
      refine lv_iconst (v := (-1:Int32)) hx hb dX2_session_27 (by decide) ?_
      refine lv_icmp_lt (tgt := 39) hx hb dX2_session_28 (by decide) (fun c => ?_) (fun c => ?_)
      · have h := qi_t c h
        refine lv_bipush (v := (-2:Int32)) hx hb dX2_session_39 (by decide) ?_
        have h := Option.some.inj h
        obtain ⟨h1, h2⟩ := Prod.mk.inj h
        obtain ⟨h2, h3⟩ := Prod.mk.inj h2
        exact d_iret E hr rfl hw h1 (by rw [h2, h3]) dX2_session_41
      · have h := qi_f c h
        refine lv_iload_n hx hb dX2_session_31 rfl (lv_at hl 2 rfl) ?_
        refine lv_iload_n hx hb dX2_session_32 rfl (lv_at hl 1 rfl) ?_
        obtain ⟨u5, g6, h⟩ := qb1_s h
        refine d_S (As := [.int x1]) (v0 := some (.int u5)) (w0 := (A, B, L, rs)) hG E hw hl (m_X2_bits l hG hM  g6) (va_cwS 1 hts (lw_S q1809 q1810 q140 q1811) rfl rfl rfl kd_X2_bits ⟨Nat.le_of_ble_eq_true rfl, Nat.le_of_ble_eq_true rfl⟩) rfl (rest := [.int x2]) (st1 := [.int u5, .int x2]) rfl rfl rfl dX2_session_33 ⟨Nat.le_of_ble_eq_true rfl, Nat.le_of_ble_eq_true rfl⟩ (fun H locs hw => ?_)
        refine lv_icmp_lt (tgt := 42) hx hb dX2_session_36 (by decide) (fun c => ?_) (fun c => ?_)
        · have h := qi_t c h
          refine lv_iconst (v := (0:Int32)) hx hb dX2_session_42 (by decide) ?_
          refine lv_istore_n (lv' := [(3, .int (0:Int32)), (0, .ref (K.2.1 1000)), (1, .int x1), (2, .int x2)]) hx hb dX2_session_43 rfl hl (by decide) rfl (fun ls hl => ?_)
          refine lv_iconst (v := (0:Int32)) hx hb dX2_session_44 (by decide) ?_
          refine lv_istore (lv' := [(4, .int (0:Int32)), (3, .int (0:Int32)), (0, .ref (K.2.1 1000)), (1, .int x1), (2, .int x2)]) hx hb dX2_session_45 hl (by decide) rfl (fun ls hl => ?_)
          exact w_X2_session_47 hG hM E hr  _ _ _ _ _ _ _   h hw (lv_sub hl [2, 3, 4, 1, 0] rfl)
        · have h := qi_f c h
          refine lv_bipush (v := (-2:Int32)) hx hb dX2_session_39 (by decide) ?_
          have h := Option.some.inj h
          obtain ⟨h1, h2⟩ := Prod.mk.inj h
          obtain ⟨h2, h3⟩ := Prod.mk.inj h2
          exact d_iret E hr rfl hw h1 (by rw [h2, h3]) dX2_session_41

theorem m_X2_session (l : Launch) {K : QK} {G : State → Prop} (hG : QG G) (hM : QMl K) {A : QA} {rs : QX × QM} {x1 : Int32} {x2 : Int32} {B : QA} {L : QL} {ro : Int32} {Bo : QA} {Lo : QL} (h : f_X2_session x1 x2 B L = some (ro, Bo, Lo)) : MC l K G yX2_session (ws_ yX2_session cX2_session 8 (some .int)) 8 216 0 0 [.ref (K.2.1 1000), .int x1, .int x2] (A, B, L, rs) (QR (some (.int ro)) (A, Bo, Lo, rs)) := by
  refine MC.of (by decide) (Nat.le_of_ble_eq_true rfl) (lv := [(0, .ref (K.2.1 1000)), (1, .int x1), (2, .int x2)]) rfl (fun p e s m below meth c ls E hr hl hw => ?_)
  exact w_X2_session_0 hG hM E hr _ _ _ _  h hw hl

def f_X2_record_93 (s1 : Int32) (s2 : Int32) (B : QA) : Option (Int32 × QA) :=
  qif (qok s1 3642) <|
  qlet (qu B 1001 s1.toNatClampNeg s2) fun B14 =>
  qlet (qu B14 1001 4 ((B14 1001 4) + (1:Int32))) fun B16 =>
  some ((B16 1001 4), B16)
set_option maxHeartbeats 4000000 in
theorem w_X2_record_93 {p : Program} {l : Launch} {e : Env} {s : State} {m : MethodId} {args : Array Value} {below : List Frame} {meth : Method} {c : Code} {K : QK} {G : State → Prop} {A : QA} {rs : QX × QM} {L : QL} {ro : Int32} {Bo : QA} (hG : QG G) (hM : QMl K) (E : EV K G p s m args meth c cX2_record "VaneCourtModel" 5) (hr : meth.sig.returnType = (some .int)) : ∀ (s1 : Int32) (s2 : Int32) (B : QA) {H : Heap} {locs : List Loc} {ls : Array Slot}, f_X2_record_93 s1 s2 B = some (ro, Bo) → WP K (A, B, L, rs) H locs → lv_has ls 5 [(0, .ref (K.2.1 1000))] → W p l e (qrm 3 83 0 0) s m args below meth c H locs 0 0 (MQ below (QE K (QR (some (.int ro)) (A, Bo, L, rs))) args s 0 0 (qA K)) (F0 m 93 ls [.int s2, .int s1, .ref (K.2.1 1001)]) := by
  have hx := E.1
  have hb := E.2.1
  have hown := E.2.2.1
  have hts := E.2.2.2.2.1
  intro s1 s2 B H locs ls  h hw hl
  rw [f_X2_record_93] at h
  obtain ⟨z13, h⟩ := qif_s h
  obtain ⟨B14, e15, h⟩ := qlet_s h
  refine r_iastB (j := s1.toNatClampNeg) E hw (qi_1001 hM) (qok_in z13) rfl dX2_record_93 (fun H locs hw => ?_)
  rw [← e15] at hw
  refine lv_aload_n hx hb dX2_record_94 rfl (lv_at hl 0 rfl) ?_
  refine r_getM (v := .ref (K.2.1 1001)) E hw hM 0 (by decide) q1353 rfl dX2_record_95 ?_
  refine lv_iconst (v := (4:Int32)) hx hb dX2_record_98 (by decide) ?_
  refine lv_dup2_11 hx hb dX2_record_99 rfl rfl ?_
  refine r_iald (j := 4) E hw (qi_1001 hM).at (q_lit (k := 4) (n := 3642) rfl rfl) (q_clamp (k := 4) rfl) dX2_record_100 ?_
  refine lv_iconst (v := (1:Int32)) hx hb dX2_record_101 (by decide) ?_
  refine lv_iadd hx hb dX2_record_102 ?_
  obtain ⟨B16, e17, h⟩ := qlet_s h
  refine r_iastB (j := 4) E hw (qi_1001 hM) (q_lit (k := 4) (n := 3642) rfl rfl) (q_clamp (k := 4) rfl) dX2_record_103 (fun H locs hw => ?_)
  rw [← e17] at hw
  refine lv_aload_n hx hb dX2_record_104 rfl (lv_at hl 0 rfl) ?_
  refine r_getM (v := .ref (K.2.1 1001)) E hw hM 0 (by decide) q1353 rfl dX2_record_105 ?_
  refine lv_iconst (v := (4:Int32)) hx hb dX2_record_108 (by decide) ?_
  refine r_iald (j := 4) E hw (qi_1001 hM).at (q_lit (k := 4) (n := 3642) rfl rfl) (q_clamp (k := 4) rfl) dX2_record_109 ?_
  have h := Option.some.inj h
  obtain ⟨h1, h2⟩ := Prod.mk.inj h
  exact d_iret E hr rfl hw h1 (by rw [h2]) dX2_record_110

def f_X2_record (x1 : Int32) (x2 : Int32) (x3 : Int32) (B : QA) : Option (Int32 × QA) :=
  if x1 = (-1:Int32) then (
  qlet (qu B 1001 4 (0:Int32)) fun B18 =>
  some ((0:Int32), B18)) else (
  qb1 (f_X2_isCase x1 B) fun u1 =>
  if u1 = (0:Int32) then (
  some ((-2:Int32), B)) else (
  qb1 (f_X2_isIn x2 (0:Int32) (3:Int32)) fun u3 =>
  if u3 = (0:Int32) then (
  some ((-2:Int32), B)) else (
  if (B 1001 4) = (8:Int32) then (
  some ((-2:Int32), B)) else (
  qlet ((76:Int32) + ((3:Int32) * (B 1001 4))) fun x4_5 =>
  qif (qok x4_5 3642) <|
  qlet (qu B 1001 x4_5.toNatClampNeg x1) fun B8 =>
  qif (qok (x4_5 + (1:Int32)) 3642) <|
  qlet (qu B8 1001 (x4_5 + (1:Int32)).toNatClampNeg x2) fun B11 =>
  if x3 = (0:Int32) then (
  f_X2_record_93 (x4_5 + (2:Int32)) (0:Int32) B11) else (
  f_X2_record_93 (x4_5 + (2:Int32)) (1:Int32) B11)))))
set_option maxHeartbeats 4000000 in
theorem w_X2_record_0 {p : Program} {l : Launch} {e : Env} {s : State} {m : MethodId} {args : Array Value} {below : List Frame} {meth : Method} {c : Code} {K : QK} {G : State → Prop} {A : QA} {rs : QX × QM} {L : QL} {ro : Int32} {Bo : QA} (hG : QG G) (hM : QMl K) (E : EV K G p s m args meth c cX2_record "VaneCourtModel" 5) (hr : meth.sig.returnType = (some .int)) : ∀ (x1 : Int32) (x2 : Int32) (x3 : Int32) (B : QA) {H : Heap} {locs : List Loc} {ls : Array Slot}, f_X2_record x1 x2 x3 B = some (ro, Bo) → WP K (A, B, L, rs) H locs → lv_has ls 5 [(0, .ref (K.2.1 1000)), (1, .int x1), (2, .int x2), (3, .int x3)] → W p l e (qrm 3 83 0 0) s m args below meth c H locs 0 0 (MQ below (QE K (QR (some (.int ro)) (A, Bo, L, rs))) args s 0 0 (qA K)) (F0 m 0 ls []) := by
  have hx := E.1
  have hb := E.2.1
  have hown := E.2.2.1
  have hts := E.2.2.2.2.1
  intro x1 x2 x3 B H locs ls  h hw hl
  rw [f_X2_record] at h
  refine lv_iload_n hx hb dX2_record_0 rfl (lv_at hl 1 rfl) ?_
  refine lv_iconst (v := (-1:Int32)) hx hb dX2_record_1 (by decide) ?_
  refine lv_icmp_ne (tgt := 14) hx hb dX2_record_2 (by decide) (fun c => ?_) (fun c => ?_)
  · have h := qi_f c h
    refine lv_aload_n hx hb dX2_record_14 rfl (lv_at hl 0 rfl) ?_
    refine lv_iload_n hx hb dX2_record_15 rfl (lv_at hl 1 rfl) ?_
    obtain ⟨u1, g2, h⟩ := qb1_s h
    refine d_V (As := [.int x1]) (v0 := some (.int u1)) (w0 := (A, B, L, rs)) hG E hw hl (m_X2_isCase l hG hM  g2) (qM0 hM) rfl (cwV 1 hts (lw_V q1695 q1697 qs96 q140 q1698) rfl rfl rfl ⟨rfl, kd_X2_isCase⟩ ⟨Nat.le_of_ble_eq_true rfl, Nat.le_of_ble_eq_true rfl⟩) rfl (rest := []) (st1 := [.int u1]) rfl rfl rfl dX2_record_16 ⟨Nat.le_of_ble_eq_true rfl, Nat.le_of_ble_eq_true rfl⟩ (fun H locs hw => ?_)
    refine lv_if_eq (tgt := 42) hx hb dX2_record_19 (by decide) (fun c => ?_) (fun c => ?_)
    · have h := qi_t c h
      refine lv_bipush (v := (-2:Int32)) hx hb dX2_record_42 (by decide) ?_
      have h := Option.some.inj h
      obtain ⟨h1, h2⟩ := Prod.mk.inj h
      exact d_iret E hr rfl hw h1 (by rw [h2]) dX2_record_44
    · have h := qi_f c h
      refine lv_iload_n hx hb dX2_record_22 rfl (lv_at hl 2 rfl) ?_
      refine lv_iconst (v := (0:Int32)) hx hb dX2_record_23 (by decide) ?_
      refine lv_iconst (v := (3:Int32)) hx hb dX2_record_24 (by decide) ?_
      obtain ⟨u3, g4, h⟩ := qb1_s h
      refine d_S (As := [.int x2, .int (0:Int32), .int (3:Int32)]) (v0 := some (.int u3)) (w0 := (A, B, L, rs)) hG E hw hl (m_X2_isIn l hG hM  g4) (va_cwS 3 hts (lw_S q1480 q1481 q140 q1482) rfl rfl rfl kd_X2_isIn ⟨Nat.le_of_ble_eq_true rfl, Nat.le_of_ble_eq_true rfl⟩) rfl (rest := []) (st1 := [.int u3]) rfl rfl rfl dX2_record_25 ⟨Nat.le_of_ble_eq_true rfl, Nat.le_of_ble_eq_true rfl⟩ (fun H locs hw => ?_)
      refine lv_if_eq (tgt := 42) hx hb dX2_record_28 (by decide) (fun c => ?_) (fun c => ?_)
      · have h := qi_t c h
        refine lv_bipush (v := (-2:Int32)) hx hb dX2_record_42 (by decide) ?_
        have h := Option.some.inj h
        obtain ⟨h1, h2⟩ := Prod.mk.inj h
        exact d_iret E hr rfl hw h1 (by rw [h2]) dX2_record_44
      · have h := qi_f c h
        refine lv_aload_n hx hb dX2_record_31 rfl (lv_at hl 0 rfl) ?_
        refine r_getM (v := .ref (K.2.1 1001)) E hw hM 0 (by decide) q1353 rfl dX2_record_32 ?_
        refine lv_iconst (v := (4:Int32)) hx hb dX2_record_35 (by decide) ?_
        refine r_iald (j := 4) E hw (qi_1001 hM).at (q_lit (k := 4) (n := 3642) rfl rfl) (q_clamp (k := 4) rfl) dX2_record_36 ?_
        refine lv_bipush (v := (8:Int32)) hx hb dX2_record_37 (by decide) ?_
        refine lv_icmp_ne (tgt := 45) hx hb dX2_record_39 (by decide) (fun c => ?_) (fun c => ?_)
        · have h := qi_f c h
          refine lv_bipush (v := (76:Int32)) hx hb dX2_record_45 (by decide) ?_
          refine lv_iconst (v := (3:Int32)) hx hb dX2_record_47 (by decide) ?_
          refine lv_aload_n hx hb dX2_record_48 rfl (lv_at hl 0 rfl) ?_
          refine r_getM (v := .ref (K.2.1 1001)) E hw hM 0 (by decide) q1353 rfl dX2_record_49 ?_
          refine lv_iconst (v := (4:Int32)) hx hb dX2_record_52 (by decide) ?_
          refine r_iald (j := 4) E hw (qi_1001 hM).at (q_lit (k := 4) (n := 3642) rfl rfl) (q_clamp (k := 4) rfl) dX2_record_53 ?_
          refine lv_imul hx hb dX2_record_54 ?_
          refine lv_iadd hx hb dX2_record_55 ?_
          obtain ⟨x4_5, e6, h⟩ := qlet_s h
          refine r_nm e6 ?_
          refine lv_istore (lv' := [(4, .int x4_5), (0, .ref (K.2.1 1000)), (1, .int x1), (2, .int x2), (3, .int x3)]) hx hb dX2_record_56 hl (by decide) rfl (fun ls hl => ?_)
          refine lv_aload_n hx hb dX2_record_58 rfl (lv_at hl 1 rfl) ?_
          refine r_getM (v := .ref (K.2.1 1001)) E hw hM 0 (by decide) q1353 rfl dX2_record_59 ?_
          refine lv_iload hx hb dX2_record_62 (lv_at hl 0 rfl) ?_
          refine lv_iload_n hx hb dX2_record_64 rfl (lv_at hl 2 rfl) ?_
          obtain ⟨z7, h⟩ := qif_s h
          obtain ⟨B8, e9, h⟩ := qlet_s h
          refine r_iastB (j := x4_5.toNatClampNeg) E hw (qi_1001 hM) (qok_in z7) rfl dX2_record_65 (fun H locs hw => ?_)
          rw [← e9] at hw
          refine lv_aload_n hx hb dX2_record_66 rfl (lv_at hl 1 rfl) ?_
          refine r_getM (v := .ref (K.2.1 1001)) E hw hM 0 (by decide) q1353 rfl dX2_record_67 ?_
          refine lv_iload hx hb dX2_record_70 (lv_at hl 0 rfl) ?_
          refine lv_iconst (v := (1:Int32)) hx hb dX2_record_72 (by decide) ?_
          refine lv_iadd hx hb dX2_record_73 ?_
          refine lv_iload_n hx hb dX2_record_74 rfl (lv_at hl 3 rfl) ?_
          obtain ⟨z10, h⟩ := qif_s h
          obtain ⟨B11, e12, h⟩ := qlet_s h
          refine r_iastB (j := (x4_5 + (1:Int32)).toNatClampNeg) E hw (qi_1001 hM) (qok_in z10) rfl dX2_record_75 (fun H locs hw => ?_)
          rw [← e12] at hw
          refine lv_aload_n hx hb dX2_record_76 rfl (lv_at hl 1 rfl) ?_
          refine r_getM (v := .ref (K.2.1 1001)) E hw hM 0 (by decide) q1353 rfl dX2_record_77 ?_
          refine lv_iload hx hb dX2_record_80 (lv_at hl 0 rfl) ?_
          refine lv_iconst (v := (2:Int32)) hx hb dX2_record_82 (by decide) ?_
          refine lv_iadd hx hb dX2_record_83 ?_
          refine lv_iload_n hx hb dX2_record_84 rfl (lv_at hl 4 rfl) ?_
          refine lv_if_eq (tgt := 92) hx hb dX2_record_85 (by decide) (fun c => ?_) (fun c => ?_)
          · have h := qi_t c h
            refine lv_iconst (v := (0:Int32)) hx hb dX2_record_92 (by decide) ?_
            exact w_X2_record_93 hG hM E hr  _ _ _   h hw (lv_sub hl [1] rfl)
          · have h := qi_f c h
            refine lv_iconst (v := (1:Int32)) hx hb dX2_record_88 (by decide) ?_
            refine lv_goto (tgt := 93) hx hb dX2_record_89 (by decide) ?_
            exact w_X2_record_93 hG hM E hr  _ _ _   h hw (lv_sub hl [1] rfl)
        · have h := qi_t c h
          refine lv_bipush (v := (-2:Int32)) hx hb dX2_record_42 (by decide) ?_
          have h := Option.some.inj h
          obtain ⟨h1, h2⟩ := Prod.mk.inj h
          exact d_iret E hr rfl hw h1 (by rw [h2]) dX2_record_44
  · have h := qi_t c h
    refine lv_aload_n hx hb dX2_record_5 rfl (lv_at hl 0 rfl) ?_
    refine r_getM (v := .ref (K.2.1 1001)) E hw hM 0 (by decide) q1353 rfl dX2_record_6 ?_
    refine lv_iconst (v := (4:Int32)) hx hb dX2_record_9 (by decide) ?_
    refine lv_iconst (v := (0:Int32)) hx hb dX2_record_10 (by decide) ?_
    obtain ⟨B18, e19, h⟩ := qlet_s h
    refine r_iastB (j := 4) E hw (qi_1001 hM) (q_lit (k := 4) (n := 3642) rfl rfl) (q_clamp (k := 4) rfl) dX2_record_11 (fun H locs hw => ?_)
    rw [← e19] at hw
    refine lv_iconst (v := (0:Int32)) hx hb dX2_record_12 (by decide) ?_
    have h := Option.some.inj h
    obtain ⟨h1, h2⟩ := Prod.mk.inj h
    exact d_iret E hr rfl hw h1 (by rw [h2]) dX2_record_13

theorem m_X2_record (l : Launch) {K : QK} {G : State → Prop} (hG : QG G) (hM : QMl K) {A : QA} {rs : QX × QM} {L : QL} {x1 : Int32} {x2 : Int32} {x3 : Int32} {B : QA} {ro : Int32} {Bo : QA} (h : f_X2_record x1 x2 x3 B = some (ro, Bo)) : MC l K G yX2_record (ws_ yX2_record cX2_record 5 (some .int)) 3 83 0 0 [.ref (K.2.1 1000), .int x1, .int x2, .int x3] (A, B, L, rs) (QR (some (.int ro)) (A, Bo, L, rs)) := by
  refine MC.of (by decide) (Nat.le_of_ble_eq_true rfl) (lv := [(0, .ref (K.2.1 1000)), (1, .int x1), (2, .int x2), (3, .int x3)]) rfl (fun p e s m below meth c ls E hr hl hw => ?_)
  exact w_X2_record_0 hG hM E hr _ _ _ _  h hw hl

def f_X2_wrongBy_87 (k5 : (Int32 → Int32 → Int32 → Int32 → QA → QL → Option (Int32 × QA × QL))) (x1 : Int32) (x2 : Int32) (x4 : Int32) (s0 : Int32) (s1 : Int32) (s2 : Int32) (B : QA) (L : QL) : Option (Int32 × QA × QL) :=
  if s1 = s2 then (
  qlet (s0 + (0:Int32)) fun x3_20 =>
  qlet (x4 + (1:Int32)) fun x4_22 =>
  k5 x1 x2 x3_20 x4_22 B L) else (
  qlet (s0 + (1:Int32)) fun x3_16 =>
  qlet (x4 + (1:Int32)) fun x4_18 =>
  k5 x1 x2 x3_16 x4_18 B L)
set_option maxHeartbeats 4000000 in
theorem w_X2_wrongBy_87 {p : Program} {l : Launch} {e : Env} {s : State} {m : MethodId} {args : Array Value} {below : List Frame} {meth : Method} {c : Code} {K : QK} {G : State → Prop} {A : QA} {rs : QX × QM} {ro : Int32} {Bo : QA} {Lo : QL} (hG : QG G) (hM : QMl K) (E : EV K G p s m args meth c cX2_wrongBy "VaneCourtModel" 7) (hr : meth.sig.returnType = (some .int)) {k5 : (Int32 → Int32 → Int32 → Int32 → QA → QL → Option (Int32 × QA × QL))} (hk5 : ∀ (x1 : Int32) (x2 : Int32) (x3 : Int32) (x4 : Int32) (B : QA) (L : QL) {H : Heap} {locs : List Loc} {ls : Array Slot}, k5 x1 x2 x3 x4 B L = some (ro, Bo, Lo) → WP K (A, B, L, rs) H locs → lv_has ls 7 [(0, .ref (K.2.1 1000)), (1, .int x1), (2, .int x2), (3, .int x3), (4, .int x4)] → W p l e (qrm 5 140 0 0) s m args below meth c H locs 0 0 (MQ below (QE K (QR (some (.int ro)) (A, Bo, Lo, rs))) args s 0 0 (qA K)) (F0 m 5 ls [])) : ∀ (x1 : Int32) (x2 : Int32) (x4 : Int32) (s0 : Int32) (s1 : Int32) (s2 : Int32) (B : QA) (L : QL) {H : Heap} {locs : List Loc} {ls : Array Slot}, f_X2_wrongBy_87 k5 x1 x2 x4 s0 s1 s2 B L = some (ro, Bo, Lo) → WP K (A, B, L, rs) H locs → lv_has ls 7 [(0, .ref (K.2.1 1000)), (1, .int x1), (2, .int x2), (4, .int x4)] → W p l e (qrm 5 140 0 0) s m args below meth c H locs 0 0 (MQ below (QE K (QR (some (.int ro)) (A, Bo, Lo, rs))) args s 0 0 (qA K)) (F0 m 87 ls [.int s2, .int s1, .int s0]) := by
  have hx := E.1
  have hb := E.2.1
  have hown := E.2.2.1
  have hts := E.2.2.2.2.1
  intro x1 x2 x4 s0 s1 s2 B L H locs ls  h hw hl
  rw [f_X2_wrongBy_87] at h
  refine lv_icmp_ne (tgt := 94) hx hb dX2_wrongBy_87 (by decide) (fun c => ?_) (fun c => ?_)
  · have h := qi_f c h
    refine lv_iconst (v := (1:Int32)) hx hb dX2_wrongBy_94 (by decide) ?_
    refine lv_iadd hx hb dX2_wrongBy_95 ?_
    obtain ⟨x3_16, e17, h⟩ := qlet_s h
    refine r_nm e17 ?_
    refine lv_istore_n (lv' := [(3, .int x3_16), (0, .ref (K.2.1 1000)), (1, .int x1), (2, .int x2), (4, .int x4)]) hx hb dX2_wrongBy_96 rfl hl (by decide) rfl (fun ls hl => ?_)
    obtain ⟨x4_18, e19, h⟩ := qlet_s h
    refine lv_iinc (v := x4_18) (lv' := [(4, .int x4_18), (3, .int x3_16), (0, .ref (K.2.1 1000)), (1, .int x1), (2, .int x2)]) (k := 4) hx hb dX2_wrongBy_97 hl rfl (by rw [e19]; rfl) (by decide) rfl (fun ls hl => ?_)
    refine lv_goto (tgt := 5) hx hb dX2_wrongBy_100 (by decide) ?_
    exact hk5 _ _ _ _ _ _  h hw (lv_sub hl [2, 3, 4, 1, 0] rfl)
  · have h := qi_t c h
    refine lv_iconst (v := (0:Int32)) hx hb dX2_wrongBy_90 (by decide) ?_
    refine lv_goto (tgt := 95) hx hb dX2_wrongBy_91 (by decide) ?_
    refine lv_iadd hx hb dX2_wrongBy_95 ?_
    obtain ⟨x3_20, e21, h⟩ := qlet_s h
    refine r_nm e21 ?_
    refine lv_istore_n (lv' := [(3, .int x3_20), (0, .ref (K.2.1 1000)), (1, .int x1), (2, .int x2), (4, .int x4)]) hx hb dX2_wrongBy_96 rfl hl (by decide) rfl (fun ls hl => ?_)
    obtain ⟨x4_22, e23, h⟩ := qlet_s h
    refine lv_iinc (v := x4_22) (lv' := [(4, .int x4_22), (3, .int x3_20), (0, .ref (K.2.1 1000)), (1, .int x1), (2, .int x2)]) (k := 4) hx hb dX2_wrongBy_97 hl rfl (by rw [e23]; rfl) (by decide) rfl (fun ls hl => ?_)
    refine lv_goto (tgt := 5) hx hb dX2_wrongBy_100 (by decide) ?_
    exact hk5 _ _ _ _ _ _  h hw (lv_sub hl [2, 3, 4, 1, 0] rfl)

def f_X2_wrongBy_5 : Nat → Int32 → Int32 → Int32 → Int32 → QA → QL → Option (Int32 × QA × QL)
  | 0, _, _, _, _, _, _ => none
  | n + 1, x1, x2, x3, x4, B, L => if (B 1001 4) ≤ x4 then (
  some (x3, B, L)) else (
  qlet ((76:Int32) + ((3:Int32) * x4)) fun x5_1 =>
  qif (qok x5_1 3642) <|
  qlet (B 1001 x5_1.toNatClampNeg) fun x6_4 =>
  qif (qok (x5_1 + (1:Int32)) 3642) <|
  qb1 (f_X2_get x6_4 (2:Int32) B) fun u7 =>
  qb1 (f_X2_get x6_4 (3:Int32) B) fun u9 =>
  qb3 (f_X2_isGuilty x1 (((B 1001 (x5_1 + (1:Int32)).toNatClampNeg) + x2) - ((B 1001 (x5_1 + (1:Int32)).toNatClampNeg) + x2) / (4:Int32) * (4:Int32)) x6_4 u7 u9 B L) fun u11 B12 L13 =>
  qif (qok (x5_1 + (2:Int32)) 3642) <|
  if (B12 1001 (x5_1 + (2:Int32)).toNatClampNeg) = (1:Int32) then (
  f_X2_wrongBy_87 (fun x1' x2' x3' x4' B' L' => f_X2_wrongBy_5 n x1' x2' x3' x4' B' L') x1 x2 x4 x3 u11 (1:Int32) B12 L13) else (
  f_X2_wrongBy_87 (fun x1' x2' x3' x4' B' L' => f_X2_wrongBy_5 n x1' x2' x3' x4' B' L') x1 x2 x4 x3 u11 (0:Int32) B12 L13))
set_option maxHeartbeats 4000000 in
theorem w_X2_wrongBy_5 {p : Program} {l : Launch} {e : Env} {s : State} {m : MethodId} {args : Array Value} {below : List Frame} {meth : Method} {c : Code} {K : QK} {G : State → Prop} {A : QA} {rs : QX × QM} {ro : Int32} {Bo : QA} {Lo : QL} (hG : QG G) (hM : QMl K) (E : EV K G p s m args meth c cX2_wrongBy "VaneCourtModel" 7) (hr : meth.sig.returnType = (some .int)) : ∀ (n : Nat) (x1 : Int32) (x2 : Int32) (x3 : Int32) (x4 : Int32) (B : QA) (L : QL) {H : Heap} {locs : List Loc} {ls : Array Slot}, f_X2_wrongBy_5 n x1 x2 x3 x4 B L = some (ro, Bo, Lo) → WP K (A, B, L, rs) H locs → lv_has ls 7 [(0, .ref (K.2.1 1000)), (1, .int x1), (2, .int x2), (3, .int x3), (4, .int x4)] → W p l e (qrm 5 140 0 0) s m args below meth c H locs 0 0 (MQ below (QE K (QR (some (.int ro)) (A, Bo, Lo, rs))) args s 0 0 (qA K)) (F0 m 5 ls []) := by
  have hx := E.1
  have hb := E.2.1
  have hown := E.2.2.1
  have hts := E.2.2.2.2.1
  intro n
  induction n with
  | zero =>
    intro x1 x2 x3 x4 B L H locs ls  h hw hl
    cases h
  | succ n ih =>
    intro x1 x2 x3 x4 B L H locs ls  h hw hl
    rw [f_X2_wrongBy_5] at h
    refine lv_iload hx hb dX2_wrongBy_5 (lv_at hl 4 rfl) ?_
    refine lv_aload_n hx hb dX2_wrongBy_7 rfl (lv_at hl 0 rfl) ?_
    refine r_getM (v := .ref (K.2.1 1001)) E hw hM 0 (by decide) q1353 rfl dX2_wrongBy_8 ?_
    refine lv_iconst (v := (4:Int32)) hx hb dX2_wrongBy_11 (by decide) ?_
    refine r_iald (j := 4) E hw (qi_1001 hM).at (q_lit (k := 4) (n := 3642) rfl rfl) (q_clamp (k := 4) rfl) dX2_wrongBy_12 ?_
    refine lv_icmp_ge (tgt := 103) hx hb dX2_wrongBy_13 (by decide) (fun c => ?_) (fun c => ?_)
    · have h := qi_t c h
      refine lv_iload_n hx hb dX2_wrongBy_103 rfl (lv_at hl 3 rfl) ?_
      have h := Option.some.inj h
      obtain ⟨h1, h2⟩ := Prod.mk.inj h
      obtain ⟨h2, h3⟩ := Prod.mk.inj h2
      exact d_iret E hr rfl hw h1 (by rw [h2, h3]) dX2_wrongBy_104
    · have h := qi_f c h
      refine lv_bipush (v := (76:Int32)) hx hb dX2_wrongBy_16 (by decide) ?_
      refine lv_iconst (v := (3:Int32)) hx hb dX2_wrongBy_18 (by decide) ?_
      refine lv_iload hx hb dX2_wrongBy_19 (lv_at hl 4 rfl) ?_
      refine lv_imul hx hb dX2_wrongBy_21 ?_
      refine lv_iadd hx hb dX2_wrongBy_22 ?_
      obtain ⟨x5_1, e2, h⟩ := qlet_s h
      refine r_nm e2 ?_
      refine lv_istore (lv' := [(5, .int x5_1), (0, .ref (K.2.1 1000)), (1, .int x1), (2, .int x2), (3, .int x3), (4, .int x4)]) hx hb dX2_wrongBy_23 hl (by decide) rfl (fun ls hl => ?_)
      refine lv_aload_n hx hb dX2_wrongBy_25 rfl (lv_at hl 1 rfl) ?_
      refine r_getM (v := .ref (K.2.1 1001)) E hw hM 0 (by decide) q1353 rfl dX2_wrongBy_26 ?_
      refine lv_iload hx hb dX2_wrongBy_29 (lv_at hl 0 rfl) ?_
      obtain ⟨z3, h⟩ := qif_s h
      refine r_iald (j := x5_1.toNatClampNeg) E hw (qi_1001 hM).at (qok_in z3) rfl dX2_wrongBy_31 ?_
      obtain ⟨x6_4, e5, h⟩ := qlet_s h
      refine r_nm e5 ?_
      refine lv_istore (lv' := [(6, .int x6_4), (5, .int x5_1), (0, .ref (K.2.1 1000)), (1, .int x1), (2, .int x2), (3, .int x3), (4, .int x4)]) hx hb dX2_wrongBy_32 hl (by decide) rfl (fun ls hl => ?_)
      refine lv_iload_n hx hb dX2_wrongBy_34 rfl (lv_at hl 5 rfl) ?_
      refine lv_aload_n hx hb dX2_wrongBy_35 rfl (lv_at hl 2 rfl) ?_
      refine lv_iload_n hx hb dX2_wrongBy_36 rfl (lv_at hl 3 rfl) ?_
      refine lv_aload_n hx hb dX2_wrongBy_37 rfl (lv_at hl 2 rfl) ?_
      refine r_getM (v := .ref (K.2.1 1001)) E hw hM 0 (by decide) q1353 rfl dX2_wrongBy_38 ?_
      refine lv_iload hx hb dX2_wrongBy_41 (lv_at hl 1 rfl) ?_
      refine lv_iconst (v := (1:Int32)) hx hb dX2_wrongBy_43 (by decide) ?_
      refine lv_iadd hx hb dX2_wrongBy_44 ?_
      obtain ⟨z6, h⟩ := qif_s h
      refine r_iald (j := (x5_1 + (1:Int32)).toNatClampNeg) E hw (qi_1001 hM).at (qok_in z6) rfl dX2_wrongBy_45 ?_
      refine lv_iload_n hx hb dX2_wrongBy_46 rfl (lv_at hl 4 rfl) ?_
      refine lv_iadd hx hb dX2_wrongBy_47 ?_
      refine lv_iconst (v := (4:Int32)) hx hb dX2_wrongBy_48 (by decide) ?_
      refine lv_irem hx hb dX2_wrongBy_49 (by decide) ?_
      refine lv_iload hx hb dX2_wrongBy_50 (lv_at hl 0 rfl) ?_
      refine lv_aload_n hx hb dX2_wrongBy_52 rfl (lv_at hl 2 rfl) ?_
      refine lv_iload hx hb dX2_wrongBy_53 (lv_at hl 0 rfl) ?_
      refine lv_iconst (v := (2:Int32)) hx hb dX2_wrongBy_55 (by decide) ?_
      obtain ⟨u7, g8, h⟩ := qb1_s h
      refine d_V (As := [.int x6_4, .int (2:Int32)]) (v0 := some (.int u7)) (w0 := (A, B, L, rs)) hG E hw hl (m_X2_get l hG hM  g8) (qM0 hM) rfl (cwV 2 hts (lw_V q1699 q1701 qs97 q140 q1702) rfl rfl rfl ⟨rfl, kd_X2_get⟩ ⟨Nat.le_of_ble_eq_true rfl, Nat.le_of_ble_eq_true rfl⟩) rfl (rest := [.int x6_4, .int (((B 1001 (x5_1 + (1:Int32)).toNatClampNeg) + x2) - ((B 1001 (x5_1 + (1:Int32)).toNatClampNeg) + x2) / (4:Int32) * (4:Int32)), .int x1, .ref (K.2.1 1000), .int x3]) (st1 := [.int u7, .int x6_4, .int (((B 1001 (x5_1 + (1:Int32)).toNatClampNeg) + x2) - ((B 1001 (x5_1 + (1:Int32)).toNatClampNeg) + x2) / (4:Int32) * (4:Int32)), .int x1, .ref (K.2.1 1000), .int x3]) rfl rfl rfl dX2_wrongBy_56 ⟨Nat.le_of_ble_eq_true rfl, Nat.le_of_ble_eq_true rfl⟩ (fun H locs hw => ?_)
      refine lv_aload_n hx hb dX2_wrongBy_59 rfl (lv_at hl 2 rfl) ?_
      refine lv_iload hx hb dX2_wrongBy_60 (lv_at hl 0 rfl) ?_
      refine lv_iconst (v := (3:Int32)) hx hb dX2_wrongBy_62 (by decide) ?_
      obtain ⟨u9, g10, h⟩ := qb1_s h
      refine d_V (As := [.int x6_4, .int (3:Int32)]) (v0 := some (.int u9)) (w0 := (A, B, L, rs)) hG E hw hl (m_X2_get l hG hM  g10) (qM0 hM) rfl (cwV 2 hts (lw_V q1699 q1701 qs97 q140 q1702) rfl rfl rfl ⟨rfl, kd_X2_get⟩ ⟨Nat.le_of_ble_eq_true rfl, Nat.le_of_ble_eq_true rfl⟩) rfl (rest := [.int u7, .int x6_4, .int (((B 1001 (x5_1 + (1:Int32)).toNatClampNeg) + x2) - ((B 1001 (x5_1 + (1:Int32)).toNatClampNeg) + x2) / (4:Int32) * (4:Int32)), .int x1, .ref (K.2.1 1000), .int x3]) (st1 := [.int u9, .int u7, .int x6_4, .int (((B 1001 (x5_1 + (1:Int32)).toNatClampNeg) + x2) - ((B 1001 (x5_1 + (1:Int32)).toNatClampNeg) + x2) / (4:Int32) * (4:Int32)), .int x1, .ref (K.2.1 1000), .int x3]) rfl rfl rfl dX2_wrongBy_63 ⟨Nat.le_of_ble_eq_true rfl, Nat.le_of_ble_eq_true rfl⟩ (fun H locs hw => ?_)
      obtain ⟨u11, B12, L13, g14, h⟩ := qb3_s h
      refine d_V (As := [.int x1, .int (((B 1001 (x5_1 + (1:Int32)).toNatClampNeg) + x2) - ((B 1001 (x5_1 + (1:Int32)).toNatClampNeg) + x2) / (4:Int32) * (4:Int32)), .int x6_4, .int u7, .int u9]) (v0 := some (.int u11)) (w0 := (A, B12, L13, rs)) hG E hw hl (m_X2_isGuilty l hG hM  g14) (qM0 hM) rfl (cwV 5 hts (lw_V q1763 q1765 qs108 q140 q1766) rfl rfl rfl ⟨rfl, kd_X2_isGuilty⟩ ⟨Nat.le_of_ble_eq_true rfl, Nat.le_of_ble_eq_true rfl⟩) rfl (rest := [.int x3]) (st1 := [.int u11, .int x3]) rfl rfl rfl dX2_wrongBy_66 ⟨Nat.le_of_ble_eq_true rfl, Nat.le_of_ble_eq_true rfl⟩ (fun H locs hw => ?_)
      refine lv_aload_n hx hb dX2_wrongBy_69 rfl (lv_at hl 2 rfl) ?_
      refine r_getM (v := .ref (K.2.1 1001)) E hw hM 0 (by decide) q1353 rfl dX2_wrongBy_70 ?_
      refine lv_iload hx hb dX2_wrongBy_73 (lv_at hl 1 rfl) ?_
      refine lv_iconst (v := (2:Int32)) hx hb dX2_wrongBy_75 (by decide) ?_
      refine lv_iadd hx hb dX2_wrongBy_76 ?_
      obtain ⟨z15, h⟩ := qif_s h
      refine r_iald (j := (x5_1 + (2:Int32)).toNatClampNeg) E hw (qi_1001 hM).at (qok_in z15) rfl dX2_wrongBy_77 ?_
      refine lv_iconst (v := (1:Int32)) hx hb dX2_wrongBy_78 (by decide) ?_
      refine lv_icmp_ne (tgt := 86) hx hb dX2_wrongBy_79 (by decide) (fun c => ?_) (fun c => ?_)
      · have h := qi_f c h
        refine lv_iconst (v := (0:Int32)) hx hb dX2_wrongBy_86 (by decide) ?_
        exact w_X2_wrongBy_87 hG hM E hr ih _ _ _ _ _ _ _ _   h hw (lv_sub hl [2, 3, 4, 6] rfl)
      · have h := qi_t c h
        refine lv_iconst (v := (1:Int32)) hx hb dX2_wrongBy_82 (by decide) ?_
        refine lv_goto (tgt := 87) hx hb dX2_wrongBy_83 (by decide) ?_
        exact w_X2_wrongBy_87 hG hM E hr ih _ _ _ _ _ _ _ _   h hw (lv_sub hl [2, 3, 4, 6] rfl)

def f_X2_wrongBy (x1 : Int32) (x2 : Int32) (B : QA) (L : QL) : Option (Int32 × QA × QL) :=
  f_X2_wrongBy_5 FU x1 x2 (0:Int32) (0:Int32) B L
set_option maxHeartbeats 4000000 in
theorem w_X2_wrongBy_0 {p : Program} {l : Launch} {e : Env} {s : State} {m : MethodId} {args : Array Value} {below : List Frame} {meth : Method} {c : Code} {K : QK} {G : State → Prop} {A : QA} {rs : QX × QM} {ro : Int32} {Bo : QA} {Lo : QL} (hG : QG G) (hM : QMl K) (E : EV K G p s m args meth c cX2_wrongBy "VaneCourtModel" 7) (hr : meth.sig.returnType = (some .int)) : ∀ (x1 : Int32) (x2 : Int32) (B : QA) (L : QL) {H : Heap} {locs : List Loc} {ls : Array Slot}, f_X2_wrongBy x1 x2 B L = some (ro, Bo, Lo) → WP K (A, B, L, rs) H locs → lv_has ls 7 [(0, .ref (K.2.1 1000)), (1, .int x1), (2, .int x2)] → W p l e (qrm 5 140 0 0) s m args below meth c H locs 0 0 (MQ below (QE K (QR (some (.int ro)) (A, Bo, Lo, rs))) args s 0 0 (qA K)) (F0 m 0 ls []) := by
  have hx := E.1
  have hb := E.2.1
  have hown := E.2.2.1
  have hts := E.2.2.2.2.1
  intro x1 x2 B L H locs ls  h hw hl
  rw [f_X2_wrongBy] at h
  refine lv_iconst (v := (0:Int32)) hx hb dX2_wrongBy_0 (by decide) ?_
  refine lv_istore_n (lv' := [(3, .int (0:Int32)), (0, .ref (K.2.1 1000)), (1, .int x1), (2, .int x2)]) hx hb dX2_wrongBy_1 rfl hl (by decide) rfl (fun ls hl => ?_)
  refine lv_iconst (v := (0:Int32)) hx hb dX2_wrongBy_2 (by decide) ?_
  refine lv_istore (lv' := [(4, .int (0:Int32)), (3, .int (0:Int32)), (0, .ref (K.2.1 1000)), (1, .int x1), (2, .int x2)]) hx hb dX2_wrongBy_3 hl (by decide) rfl (fun ls hl => ?_)
  exact w_X2_wrongBy_5 hG hM E hr  _ _ _ _ _ _ _   h hw (lv_sub hl [2, 3, 4, 1, 0] rfl)

theorem m_X2_wrongBy (l : Launch) {K : QK} {G : State → Prop} (hG : QG G) (hM : QMl K) {A : QA} {rs : QX × QM} {x1 : Int32} {x2 : Int32} {B : QA} {L : QL} {ro : Int32} {Bo : QA} {Lo : QL} (h : f_X2_wrongBy x1 x2 B L = some (ro, Bo, Lo)) : MC l K G yX2_wrongBy (ws_ yX2_wrongBy cX2_wrongBy 7 (some .int)) 5 140 0 0 [.ref (K.2.1 1000), .int x1, .int x2] (A, B, L, rs) (QR (some (.int ro)) (A, Bo, Lo, rs)) := by
  refine MC.of (by decide) (Nat.le_of_ble_eq_true rfl) (lv := [(0, .ref (K.2.1 1000)), (1, .int x1), (2, .int x2)]) rfl (fun p e s m below meth c ls E hr hl hw => ?_)
  exact w_X2_wrongBy_0 hG hM E hr _ _ _ _  h hw hl

def f_X2_turned_4 : Nat → Int32 → Int32 → QA → QL → Option (Int32 × QA × QL)
  | 0, _, _, _, _ => none
  | n + 1, x1, x2, B, L => if (4:Int32) ≤ x2 then (
  some (x1, B, L)) else (
  qb3 (f_X2_wrongBy (B 1001 2) x2 B L) fun u1 B2 L3 =>
  if u1 = (0:Int32) then (
  qlet (x1 ||| ((1:Int32) <<< (x2 &&& 31))) fun x1_9 =>
  qlet (x2 + (1:Int32)) fun x2_11 =>
  f_X2_turned_4 n x1_9 x2_11 B2 L3) else (
  qlet (x1 ||| (0:Int32)) fun x1_5 =>
  qlet (x2 + (1:Int32)) fun x2_7 =>
  f_X2_turned_4 n x1_5 x2_7 B2 L3))
set_option maxHeartbeats 4000000 in
theorem w_X2_turned_4 {p : Program} {l : Launch} {e : Env} {s : State} {m : MethodId} {args : Array Value} {below : List Frame} {meth : Method} {c : Code} {K : QK} {G : State → Prop} {A : QA} {rs : QX × QM} {ro : Int32} {Bo : QA} {Lo : QL} (hG : QG G) (hM : QMl K) (E : EV K G p s m args meth c cX2_turned "VaneCourtModel" 3) (hr : meth.sig.returnType = (some .int)) : ∀ (n : Nat) (x1 : Int32) (x2 : Int32) (B : QA) (L : QL) {H : Heap} {locs : List Loc} {ls : Array Slot}, f_X2_turned_4 n x1 x2 B L = some (ro, Bo, Lo) → WP K (A, B, L, rs) H locs → lv_has ls 3 [(0, .ref (K.2.1 1000)), (1, .int x1), (2, .int x2)] → W p l e (qrm 6 166 0 0) s m args below meth c H locs 0 0 (MQ below (QE K (QR (some (.int ro)) (A, Bo, Lo, rs))) args s 0 0 (qA K)) (F0 m 4 ls []) := by
  have hx := E.1
  have hb := E.2.1
  have hown := E.2.2.1
  have hts := E.2.2.2.2.1
  intro n
  induction n with
  | zero =>
    intro x1 x2 B L H locs ls  h hw hl
    cases h
  | succ n ih =>
    intro x1 x2 B L H locs ls  h hw hl
    rw [f_X2_turned_4] at h
    refine lv_iload_n hx hb dX2_turned_4 rfl (lv_at hl 2 rfl) ?_
    refine lv_iconst (v := (4:Int32)) hx hb dX2_turned_5 (by decide) ?_
    refine lv_icmp_ge (tgt := 39) hx hb dX2_turned_6 (by decide) (fun c => ?_) (fun c => ?_)
    · have h := qi_t c h
      refine lv_iload_n hx hb dX2_turned_39 rfl (lv_at hl 1 rfl) ?_
      have h := Option.some.inj h
      obtain ⟨h1, h2⟩ := Prod.mk.inj h
      obtain ⟨h2, h3⟩ := Prod.mk.inj h2
      exact d_iret E hr rfl hw h1 (by rw [h2, h3]) dX2_turned_40
    · have h := qi_f c h
      refine lv_iload_n hx hb dX2_turned_9 rfl (lv_at hl 1 rfl) ?_
      refine lv_aload_n hx hb dX2_turned_10 rfl (lv_at hl 0 rfl) ?_
      refine lv_aload_n hx hb dX2_turned_11 rfl (lv_at hl 0 rfl) ?_
      refine r_getM (v := .ref (K.2.1 1001)) E hw hM 0 (by decide) q1353 rfl dX2_turned_12 ?_
      refine lv_iconst (v := (2:Int32)) hx hb dX2_turned_15 (by decide) ?_
      refine r_iald (j := 2) E hw (qi_1001 hM).at (q_lit (k := 2) (n := 3642) rfl rfl) (q_clamp (k := 2) rfl) dX2_turned_16 ?_
      refine lv_iload_n hx hb dX2_turned_17 rfl (lv_at hl 2 rfl) ?_
      obtain ⟨u1, B2, L3, g4, h⟩ := qb3_s h
      refine d_V (As := [.int (B 1001 2), .int x2]) (v0 := some (.int u1)) (w0 := (A, B2, L3, rs)) hG E hw hl (m_X2_wrongBy l hG hM  g4) (qM0 hM) rfl (cwV 2 hts (lw_V q1950 q1952 qs131 q140 q1953) rfl rfl rfl ⟨rfl, kd_X2_wrongBy⟩ ⟨Nat.le_of_ble_eq_true rfl, Nat.le_of_ble_eq_true rfl⟩) rfl (rest := [.int x1]) (st1 := [.int u1, .int x1]) rfl rfl rfl dX2_turned_18 ⟨Nat.le_of_ble_eq_true rfl, Nat.le_of_ble_eq_true rfl⟩ (fun H locs hw => ?_)
      refine lv_if_ne (tgt := 30) hx hb dX2_turned_21 (by decide) (fun c => ?_) (fun c => ?_)
      · have h := qi_f c h
        refine lv_iconst (v := (0:Int32)) hx hb dX2_turned_30 (by decide) ?_
        refine lv_ior hx hb dX2_turned_31 ?_
        obtain ⟨x1_5, e6, h⟩ := qlet_s h
        refine r_nm e6 ?_
        refine lv_istore_n (lv' := [(1, .int x1_5), (0, .ref (K.2.1 1000)), (2, .int x2)]) hx hb dX2_turned_32 rfl hl (by decide) rfl (fun ls hl => ?_)
        obtain ⟨x2_7, e8, h⟩ := qlet_s h
        refine lv_iinc (v := x2_7) (lv' := [(2, .int x2_7), (1, .int x1_5), (0, .ref (K.2.1 1000))]) (k := 2) hx hb dX2_turned_33 hl rfl (by rw [e8]; rfl) (by decide) rfl (fun ls hl => ?_)
        refine lv_goto (tgt := 4) hx hb dX2_turned_36 (by decide) ?_
        exact ih _ _ _ _  h hw (lv_sub hl [2, 1, 0] rfl)
      · have h := qi_t c h
        refine lv_iconst (v := (1:Int32)) hx hb dX2_turned_24 (by decide) ?_
        refine lv_iload_n hx hb dX2_turned_25 rfl (lv_at hl 2 rfl) ?_
        refine lv_ishl hx hb dX2_turned_26 ?_
        refine lv_goto (tgt := 31) hx hb dX2_turned_27 (by decide) ?_
        refine lv_ior hx hb dX2_turned_31 ?_
        obtain ⟨x1_9, e10, h⟩ := qlet_s h
        refine r_nm e10 ?_
        refine lv_istore_n (lv' := [(1, .int x1_9), (0, .ref (K.2.1 1000)), (2, .int x2)]) hx hb dX2_turned_32 rfl hl (by decide) rfl (fun ls hl => ?_)
        obtain ⟨x2_11, e12, h⟩ := qlet_s h
        refine lv_iinc (v := x2_11) (lv' := [(2, .int x2_11), (1, .int x1_9), (0, .ref (K.2.1 1000))]) (k := 2) hx hb dX2_turned_33 hl rfl (by rw [e12]; rfl) (by decide) rfl (fun ls hl => ?_)
        refine lv_goto (tgt := 4) hx hb dX2_turned_36 (by decide) ?_
        exact ih _ _ _ _  h hw (lv_sub hl [2, 1, 0] rfl)

def f_X2_turned (B : QA) (L : QL) : Option (Int32 × QA × QL) :=
  f_X2_turned_4 FU (0:Int32) (0:Int32) B L
set_option maxHeartbeats 4000000 in
theorem w_X2_turned_0 {p : Program} {l : Launch} {e : Env} {s : State} {m : MethodId} {args : Array Value} {below : List Frame} {meth : Method} {c : Code} {K : QK} {G : State → Prop} {A : QA} {rs : QX × QM} {ro : Int32} {Bo : QA} {Lo : QL} (hG : QG G) (hM : QMl K) (E : EV K G p s m args meth c cX2_turned "VaneCourtModel" 3) (hr : meth.sig.returnType = (some .int)) : ∀ (B : QA) (L : QL) {H : Heap} {locs : List Loc} {ls : Array Slot}, f_X2_turned B L = some (ro, Bo, Lo) → WP K (A, B, L, rs) H locs → lv_has ls 3 [(0, .ref (K.2.1 1000))] → W p l e (qrm 6 166 0 0) s m args below meth c H locs 0 0 (MQ below (QE K (QR (some (.int ro)) (A, Bo, Lo, rs))) args s 0 0 (qA K)) (F0 m 0 ls []) := by
  have hx := E.1
  have hb := E.2.1
  have hown := E.2.2.1
  have hts := E.2.2.2.2.1
  intro B L H locs ls  h hw hl
  rw [f_X2_turned] at h
  refine lv_iconst (v := (0:Int32)) hx hb dX2_turned_0 (by decide) ?_
  refine lv_istore_n (lv' := [(1, .int (0:Int32)), (0, .ref (K.2.1 1000))]) hx hb dX2_turned_1 rfl hl (by decide) rfl (fun ls hl => ?_)
  refine lv_iconst (v := (0:Int32)) hx hb dX2_turned_2 (by decide) ?_
  refine lv_istore_n (lv' := [(2, .int (0:Int32)), (1, .int (0:Int32)), (0, .ref (K.2.1 1000))]) hx hb dX2_turned_3 rfl hl (by decide) rfl (fun ls hl => ?_)
  exact w_X2_turned_4 hG hM E hr  _ _ _ _ _   h hw (lv_sub hl [2, 1, 0] rfl)

theorem m_X2_turned (l : Launch) {K : QK} {G : State → Prop} (hG : QG G) (hM : QMl K) {A : QA} {rs : QX × QM} {B : QA} {L : QL} {ro : Int32} {Bo : QA} {Lo : QL} (h : f_X2_turned B L = some (ro, Bo, Lo)) : MC l K G yX2_turned (ws_ yX2_turned cX2_turned 3 (some .int)) 6 166 0 0 [.ref (K.2.1 1000)] (A, B, L, rs) (QR (some (.int ro)) (A, Bo, Lo, rs)) := by
  refine MC.of (by decide) (Nat.le_of_ble_eq_true rfl) (lv := [(0, .ref (K.2.1 1000))]) rfl (fun p e s m below meth c ls E hr hl hw => ?_)
  exact w_X2_turned_0 hG hM E hr _ _  h hw hl

def f_X2_fewestWrong_6 : Nat → Int32 → Int32 → QA → QL → Option (Int32 × QA × QL)
  | 0, _, _, _, _ => none
  | n + 1, x1, x2, B, L => if (4:Int32) ≤ x2 then (
  some (x1, B, L)) else (
  qb3 (f_X2_wrongBy (B 1001 2) x2 B L) fun u1 B2 L3 =>
  if x1 ≤ u1 then (
  qlet (x2 + (1:Int32)) fun x2_5 =>
  f_X2_fewestWrong_6 n x1 x2_5 B2 L3) else (
  qb3 (f_X2_wrongBy (B2 1001 2) x2 B2 L3) fun u7 B8 L9 =>
  qlet (x2 + (1:Int32)) fun x2_11 =>
  f_X2_fewestWrong_6 n u7 x2_11 B8 L9))
set_option maxHeartbeats 4000000 in
theorem w_X2_fewestWrong_6 {p : Program} {l : Launch} {e : Env} {s : State} {m : MethodId} {args : Array Value} {below : List Frame} {meth : Method} {c : Code} {K : QK} {G : State → Prop} {A : QA} {rs : QX × QM} {ro : Int32} {Bo : QA} {Lo : QL} (hG : QG G) (hM : QMl K) (E : EV K G p s m args meth c cX2_fewestWrong "VaneCourtModel" 3) (hr : meth.sig.returnType = (some .int)) : ∀ (n : Nat) (x1 : Int32) (x2 : Int32) (B : QA) (L : QL) {H : Heap} {locs : List Loc} {ls : Array Slot}, f_X2_fewestWrong_6 n x1 x2 B L = some (ro, Bo, Lo) → WP K (A, B, L, rs) H locs → lv_has ls 3 [(0, .ref (K.2.1 1000)), (1, .int x1), (2, .int x2)] → W p l e (qrm 6 166 0 0) s m args below meth c H locs 0 0 (MQ below (QE K (QR (some (.int ro)) (A, Bo, Lo, rs))) args s 0 0 (qA K)) (F0 m 6 ls []) := by
  have hx := E.1
  have hb := E.2.1
  have hown := E.2.2.1
  have hts := E.2.2.2.2.1
  intro n
  induction n with
  | zero =>
    intro x1 x2 B L H locs ls  h hw hl
    cases h
  | succ n ih =>
    intro x1 x2 B L H locs ls  h hw hl
    rw [f_X2_fewestWrong_6] at h
    refine lv_iload_n hx hb dX2_fewestWrong_6 rfl (lv_at hl 2 rfl) ?_
    refine lv_iconst (v := (4:Int32)) hx hb dX2_fewestWrong_7 (by decide) ?_
    refine lv_icmp_ge (tgt := 48) hx hb dX2_fewestWrong_8 (by decide) (fun c => ?_) (fun c => ?_)
    · have h := qi_t c h
      refine lv_iload_n hx hb dX2_fewestWrong_48 rfl (lv_at hl 1 rfl) ?_
      have h := Option.some.inj h
      obtain ⟨h1, h2⟩ := Prod.mk.inj h
      obtain ⟨h2, h3⟩ := Prod.mk.inj h2
      exact d_iret E hr rfl hw h1 (by rw [h2, h3]) dX2_fewestWrong_49
    · have h := qi_f c h
      refine lv_aload_n hx hb dX2_fewestWrong_11 rfl (lv_at hl 0 rfl) ?_
      refine lv_aload_n hx hb dX2_fewestWrong_12 rfl (lv_at hl 0 rfl) ?_
      refine r_getM (v := .ref (K.2.1 1001)) E hw hM 0 (by decide) q1353 rfl dX2_fewestWrong_13 ?_
      refine lv_iconst (v := (2:Int32)) hx hb dX2_fewestWrong_16 (by decide) ?_
      refine r_iald (j := 2) E hw (qi_1001 hM).at (q_lit (k := 2) (n := 3642) rfl rfl) (q_clamp (k := 2) rfl) dX2_fewestWrong_17 ?_
      refine lv_iload_n hx hb dX2_fewestWrong_18 rfl (lv_at hl 2 rfl) ?_
      obtain ⟨u1, B2, L3, g4, h⟩ := qb3_s h
      refine d_V (As := [.int (B 1001 2), .int x2]) (v0 := some (.int u1)) (w0 := (A, B2, L3, rs)) hG E hw hl (m_X2_wrongBy l hG hM  g4) (qM0 hM) rfl (cwV 2 hts (lw_V q1950 q1952 qs131 q140 q1953) rfl rfl rfl ⟨rfl, kd_X2_wrongBy⟩ ⟨Nat.le_of_ble_eq_true rfl, Nat.le_of_ble_eq_true rfl⟩) rfl (rest := []) (st1 := [.int u1]) rfl rfl rfl dX2_fewestWrong_19 ⟨Nat.le_of_ble_eq_true rfl, Nat.le_of_ble_eq_true rfl⟩ (fun H locs hw => ?_)
      refine lv_iload_n hx hb dX2_fewestWrong_22 rfl (lv_at hl 1 rfl) ?_
      refine lv_icmp_ge (tgt := 40) hx hb dX2_fewestWrong_23 (by decide) (fun c => ?_) (fun c => ?_)
      · have h := qi_t c h
        refine lv_iload_n hx hb dX2_fewestWrong_40 rfl (lv_at hl 1 rfl) ?_
        refine lv_istore_n (lv' := [(1, .int x1), (0, .ref (K.2.1 1000)), (2, .int x2)]) hx hb dX2_fewestWrong_41 rfl hl (by decide) rfl (fun ls hl => ?_)
        obtain ⟨x2_5, e6, h⟩ := qlet_s h
        refine lv_iinc (v := x2_5) (lv' := [(2, .int x2_5), (1, .int x1), (0, .ref (K.2.1 1000))]) (k := 2) hx hb dX2_fewestWrong_42 hl rfl (by rw [e6]; rfl) (by decide) rfl (fun ls hl => ?_)
        refine lv_goto (tgt := 6) hx hb dX2_fewestWrong_45 (by decide) ?_
        exact ih _ _ _ _  h hw (lv_sub hl [2, 1, 0] rfl)
      · have h := qi_f c h
        refine lv_aload_n hx hb dX2_fewestWrong_26 rfl (lv_at hl 0 rfl) ?_
        refine lv_aload_n hx hb dX2_fewestWrong_27 rfl (lv_at hl 0 rfl) ?_
        refine r_getM (v := .ref (K.2.1 1001)) E hw hM 0 (by decide) q1353 rfl dX2_fewestWrong_28 ?_
        refine lv_iconst (v := (2:Int32)) hx hb dX2_fewestWrong_31 (by decide) ?_
        refine r_iald (j := 2) E hw (qi_1001 hM).at (q_lit (k := 2) (n := 3642) rfl rfl) (q_clamp (k := 2) rfl) dX2_fewestWrong_32 ?_
        refine lv_iload_n hx hb dX2_fewestWrong_33 rfl (lv_at hl 2 rfl) ?_
        obtain ⟨u7, B8, L9, g10, h⟩ := qb3_s h
        refine d_V (As := [.int (B2 1001 2), .int x2]) (v0 := some (.int u7)) (w0 := (A, B8, L9, rs)) hG E hw hl (m_X2_wrongBy l hG hM  g10) (qM0 hM) rfl (cwV 2 hts (lw_V q1950 q1952 qs131 q140 q1953) rfl rfl rfl ⟨rfl, kd_X2_wrongBy⟩ ⟨Nat.le_of_ble_eq_true rfl, Nat.le_of_ble_eq_true rfl⟩) rfl (rest := []) (st1 := [.int u7]) rfl rfl rfl dX2_fewestWrong_34 ⟨Nat.le_of_ble_eq_true rfl, Nat.le_of_ble_eq_true rfl⟩ (fun H locs hw => ?_)
        refine lv_goto (tgt := 41) hx hb dX2_fewestWrong_37 (by decide) ?_
        refine lv_istore_n (lv' := [(1, .int u7), (0, .ref (K.2.1 1000)), (2, .int x2)]) hx hb dX2_fewestWrong_41 rfl hl (by decide) rfl (fun ls hl => ?_)
        obtain ⟨x2_11, e12, h⟩ := qlet_s h
        refine lv_iinc (v := x2_11) (lv' := [(2, .int x2_11), (1, .int u7), (0, .ref (K.2.1 1000))]) (k := 2) hx hb dX2_fewestWrong_42 hl rfl (by rw [e12]; rfl) (by decide) rfl (fun ls hl => ?_)
        refine lv_goto (tgt := 6) hx hb dX2_fewestWrong_45 (by decide) ?_
        exact ih _ _ _ _  h hw (lv_sub hl [2, 1, 0] rfl)

def f_X2_fewestWrong (B : QA) (L : QL) : Option (Int32 × QA × QL) :=
  f_X2_fewestWrong_6 FU (1000000000:Int32) (0:Int32) B L
set_option maxHeartbeats 4000000 in
theorem w_X2_fewestWrong_0 {p : Program} {l : Launch} {e : Env} {s : State} {m : MethodId} {args : Array Value} {below : List Frame} {meth : Method} {c : Code} {K : QK} {G : State → Prop} {A : QA} {rs : QX × QM} {ro : Int32} {Bo : QA} {Lo : QL} (hG : QG G) (hM : QMl K) (E : EV K G p s m args meth c cX2_fewestWrong "VaneCourtModel" 3) (hr : meth.sig.returnType = (some .int)) : ∀ (B : QA) (L : QL) {H : Heap} {locs : List Loc} {ls : Array Slot}, f_X2_fewestWrong B L = some (ro, Bo, Lo) → WP K (A, B, L, rs) H locs → lv_has ls 3 [(0, .ref (K.2.1 1000))] → W p l e (qrm 6 166 0 0) s m args below meth c H locs 0 0 (MQ below (QE K (QR (some (.int ro)) (A, Bo, Lo, rs))) args s 0 0 (qA K)) (F0 m 0 ls []) := by
  have hx := E.1
  have hb := E.2.1
  have hown := E.2.2.1
  have hts := E.2.2.2.2.1
  intro B L H locs ls  h hw hl
  rw [f_X2_fewestWrong] at h
  refine lv_ldcw (v := (1000000000:Int32)) hx hb hown (hts _ q1958) dX2_fewestWrong_0 ?_
  refine lv_istore_n (lv' := [(1, .int (1000000000:Int32)), (0, .ref (K.2.1 1000))]) hx hb dX2_fewestWrong_3 rfl hl (by decide) rfl (fun ls hl => ?_)
  refine lv_iconst (v := (0:Int32)) hx hb dX2_fewestWrong_4 (by decide) ?_
  refine lv_istore_n (lv' := [(2, .int (0:Int32)), (1, .int (1000000000:Int32)), (0, .ref (K.2.1 1000))]) hx hb dX2_fewestWrong_5 rfl hl (by decide) rfl (fun ls hl => ?_)
  exact w_X2_fewestWrong_6 hG hM E hr  _ _ _ _ _   h hw (lv_sub hl [2, 1, 0] rfl)

theorem m_X2_fewestWrong (l : Launch) {K : QK} {G : State → Prop} (hG : QG G) (hM : QMl K) {A : QA} {rs : QX × QM} {B : QA} {L : QL} {ro : Int32} {Bo : QA} {Lo : QL} (h : f_X2_fewestWrong B L = some (ro, Bo, Lo)) : MC l K G yX2_fewestWrong (ws_ yX2_fewestWrong cX2_fewestWrong 3 (some .int)) 6 166 0 0 [.ref (K.2.1 1000)] (A, B, L, rs) (QR (some (.int ro)) (A, Bo, Lo, rs)) := by
  refine MC.of (by decide) (Nat.le_of_ble_eq_true rfl) (lv := [(0, .ref (K.2.1 1000))]) rfl (fun p e s m below meth c ls E hr hl hw => ?_)
  exact w_X2_fewestWrong_0 hG hM E hr _ _  h hw hl

def f_X2_whose_4 : Nat → Int32 → Int32 → QA → QL → Option (Int32 × QA × QL)
  | 0, _, _, _, _ => none
  | n + 1, x1, x2, B, L => if (B 1001 1) ≤ x2 then (
  some (x1, B, L)) else (
  qb3 (f_X2_wrongBy x2 (0:Int32) B L) fun u1 B2 L3 =>
  if u1 = (0:Int32) then (
  qlet (x1 ||| ((1:Int32) <<< (x2 &&& 31))) fun x1_9 =>
  qlet (x2 + (1:Int32)) fun x2_11 =>
  f_X2_whose_4 n x1_9 x2_11 B2 L3) else (
  qlet (x1 ||| (0:Int32)) fun x1_5 =>
  qlet (x2 + (1:Int32)) fun x2_7 =>
  f_X2_whose_4 n x1_5 x2_7 B2 L3))
set_option maxHeartbeats 4000000 in
theorem w_X2_whose_4 {p : Program} {l : Launch} {e : Env} {s : State} {m : MethodId} {args : Array Value} {below : List Frame} {meth : Method} {c : Code} {K : QK} {G : State → Prop} {A : QA} {rs : QX × QM} {ro : Int32} {Bo : QA} {Lo : QL} (hG : QG G) (hM : QMl K) (E : EV K G p s m args meth c cX2_whose "VaneCourtModel" 3) (hr : meth.sig.returnType = (some .int)) : ∀ (n : Nat) (x1 : Int32) (x2 : Int32) (B : QA) (L : QL) {H : Heap} {locs : List Loc} {ls : Array Slot}, f_X2_whose_4 n x1 x2 B L = some (ro, Bo, Lo) → WP K (A, B, L, rs) H locs → lv_has ls 3 [(0, .ref (K.2.1 1000)), (1, .int x1), (2, .int x2)] → W p l e (qrm 6 166 0 0) s m args below meth c H locs 0 0 (MQ below (QE K (QR (some (.int ro)) (A, Bo, Lo, rs))) args s 0 0 (qA K)) (F0 m 4 ls []) := by
  have hx := E.1
  have hb := E.2.1
  have hown := E.2.2.1
  have hts := E.2.2.2.2.1
  intro n
  induction n with
  | zero =>
    intro x1 x2 B L H locs ls  h hw hl
    cases h
  | succ n ih =>
    intro x1 x2 B L H locs ls  h hw hl
    rw [f_X2_whose_4] at h
    refine lv_iload_n hx hb dX2_whose_4 rfl (lv_at hl 2 rfl) ?_
    refine lv_aload_n hx hb dX2_whose_5 rfl (lv_at hl 0 rfl) ?_
    refine r_getM (v := .ref (K.2.1 1001)) E hw hM 0 (by decide) q1353 rfl dX2_whose_6 ?_
    refine lv_iconst (v := (1:Int32)) hx hb dX2_whose_9 (by decide) ?_
    refine r_iald (j := 1) E hw (qi_1001 hM).at (q_lit (k := 1) (n := 3642) rfl rfl) (q_clamp (k := 1) rfl) dX2_whose_10 ?_
    refine lv_icmp_ge (tgt := 39) hx hb dX2_whose_11 (by decide) (fun c => ?_) (fun c => ?_)
    · have h := qi_t c h
      refine lv_iload_n hx hb dX2_whose_39 rfl (lv_at hl 1 rfl) ?_
      have h := Option.some.inj h
      obtain ⟨h1, h2⟩ := Prod.mk.inj h
      obtain ⟨h2, h3⟩ := Prod.mk.inj h2
      exact d_iret E hr rfl hw h1 (by rw [h2, h3]) dX2_whose_40
    · have h := qi_f c h
      refine lv_iload_n hx hb dX2_whose_14 rfl (lv_at hl 1 rfl) ?_
      refine lv_aload_n hx hb dX2_whose_15 rfl (lv_at hl 0 rfl) ?_
      refine lv_iload_n hx hb dX2_whose_16 rfl (lv_at hl 2 rfl) ?_
      refine lv_iconst (v := (0:Int32)) hx hb dX2_whose_17 (by decide) ?_
      obtain ⟨u1, B2, L3, g4, h⟩ := qb3_s h
      refine d_V (As := [.int x2, .int (0:Int32)]) (v0 := some (.int u1)) (w0 := (A, B2, L3, rs)) hG E hw hl (m_X2_wrongBy l hG hM  g4) (qM0 hM) rfl (cwV 2 hts (lw_V q1950 q1952 qs131 q140 q1953) rfl rfl rfl ⟨rfl, kd_X2_wrongBy⟩ ⟨Nat.le_of_ble_eq_true rfl, Nat.le_of_ble_eq_true rfl⟩) rfl (rest := [.int x1]) (st1 := [.int u1, .int x1]) rfl rfl rfl dX2_whose_18 ⟨Nat.le_of_ble_eq_true rfl, Nat.le_of_ble_eq_true rfl⟩ (fun H locs hw => ?_)
      refine lv_if_ne (tgt := 30) hx hb dX2_whose_21 (by decide) (fun c => ?_) (fun c => ?_)
      · have h := qi_f c h
        refine lv_iconst (v := (0:Int32)) hx hb dX2_whose_30 (by decide) ?_
        refine lv_ior hx hb dX2_whose_31 ?_
        obtain ⟨x1_5, e6, h⟩ := qlet_s h
        refine r_nm e6 ?_
        refine lv_istore_n (lv' := [(1, .int x1_5), (0, .ref (K.2.1 1000)), (2, .int x2)]) hx hb dX2_whose_32 rfl hl (by decide) rfl (fun ls hl => ?_)
        obtain ⟨x2_7, e8, h⟩ := qlet_s h
        refine lv_iinc (v := x2_7) (lv' := [(2, .int x2_7), (1, .int x1_5), (0, .ref (K.2.1 1000))]) (k := 2) hx hb dX2_whose_33 hl rfl (by rw [e8]; rfl) (by decide) rfl (fun ls hl => ?_)
        refine lv_goto (tgt := 4) hx hb dX2_whose_36 (by decide) ?_
        exact ih _ _ _ _  h hw (lv_sub hl [2, 1, 0] rfl)
      · have h := qi_t c h
        refine lv_iconst (v := (1:Int32)) hx hb dX2_whose_24 (by decide) ?_
        refine lv_iload_n hx hb dX2_whose_25 rfl (lv_at hl 2 rfl) ?_
        refine lv_ishl hx hb dX2_whose_26 ?_
        refine lv_goto (tgt := 31) hx hb dX2_whose_27 (by decide) ?_
        refine lv_ior hx hb dX2_whose_31 ?_
        obtain ⟨x1_9, e10, h⟩ := qlet_s h
        refine r_nm e10 ?_
        refine lv_istore_n (lv' := [(1, .int x1_9), (0, .ref (K.2.1 1000)), (2, .int x2)]) hx hb dX2_whose_32 rfl hl (by decide) rfl (fun ls hl => ?_)
        obtain ⟨x2_11, e12, h⟩ := qlet_s h
        refine lv_iinc (v := x2_11) (lv' := [(2, .int x2_11), (1, .int x1_9), (0, .ref (K.2.1 1000))]) (k := 2) hx hb dX2_whose_33 hl rfl (by rw [e12]; rfl) (by decide) rfl (fun ls hl => ?_)
        refine lv_goto (tgt := 4) hx hb dX2_whose_36 (by decide) ?_
        exact ih _ _ _ _  h hw (lv_sub hl [2, 1, 0] rfl)

def f_X2_whose (B : QA) (L : QL) : Option (Int32 × QA × QL) :=
  f_X2_whose_4 FU (0:Int32) (0:Int32) B L
set_option maxHeartbeats 4000000 in
theorem w_X2_whose_0 {p : Program} {l : Launch} {e : Env} {s : State} {m : MethodId} {args : Array Value} {below : List Frame} {meth : Method} {c : Code} {K : QK} {G : State → Prop} {A : QA} {rs : QX × QM} {ro : Int32} {Bo : QA} {Lo : QL} (hG : QG G) (hM : QMl K) (E : EV K G p s m args meth c cX2_whose "VaneCourtModel" 3) (hr : meth.sig.returnType = (some .int)) : ∀ (B : QA) (L : QL) {H : Heap} {locs : List Loc} {ls : Array Slot}, f_X2_whose B L = some (ro, Bo, Lo) → WP K (A, B, L, rs) H locs → lv_has ls 3 [(0, .ref (K.2.1 1000))] → W p l e (qrm 6 166 0 0) s m args below meth c H locs 0 0 (MQ below (QE K (QR (some (.int ro)) (A, Bo, Lo, rs))) args s 0 0 (qA K)) (F0 m 0 ls []) := by
  have hx := E.1
  have hb := E.2.1
  have hown := E.2.2.1
  have hts := E.2.2.2.2.1
  intro B L H locs ls  h hw hl
  rw [f_X2_whose] at h
  refine lv_iconst (v := (0:Int32)) hx hb dX2_whose_0 (by decide) ?_
  refine lv_istore_n (lv' := [(1, .int (0:Int32)), (0, .ref (K.2.1 1000))]) hx hb dX2_whose_1 rfl hl (by decide) rfl (fun ls hl => ?_)
  refine lv_iconst (v := (0:Int32)) hx hb dX2_whose_2 (by decide) ?_
  refine lv_istore_n (lv' := [(2, .int (0:Int32)), (1, .int (0:Int32)), (0, .ref (K.2.1 1000))]) hx hb dX2_whose_3 rfl hl (by decide) rfl (fun ls hl => ?_)
  exact w_X2_whose_4 hG hM E hr  _ _ _ _ _   h hw (lv_sub hl [2, 1, 0] rfl)

theorem m_X2_whose (l : Launch) {K : QK} {G : State → Prop} (hG : QG G) (hM : QMl K) {A : QA} {rs : QX × QM} {B : QA} {L : QL} {ro : Int32} {Bo : QA} {Lo : QL} (h : f_X2_whose B L = some (ro, Bo, Lo)) : MC l K G yX2_whose (ws_ yX2_whose cX2_whose 3 (some .int)) 6 166 0 0 [.ref (K.2.1 1000)] (A, B, L, rs) (QR (some (.int ro)) (A, Bo, Lo, rs)) := by
  refine MC.of (by decide) (Nat.le_of_ble_eq_true rfl) (lv := [(0, .ref (K.2.1 1000))]) rfl (fun p e s m below meth c ls E hr hl hw => ?_)
  exact w_X2_whose_0 hG hM E hr _ _  h hw hl

def f_X2_learn_79 (s1 : Int32) (s2 : Int32) (B : QA) : Option (Int32 × QA) :=
  qif (qok s1 3642) <|
  qlet (qu B 1001 s1.toNatClampNeg s2) fun B7 =>
  qlet (qu B7 1001 5 ((B7 1001 5) + (1:Int32))) fun B9 =>
  some ((B9 1001 5), B9)
set_option maxHeartbeats 4000000 in
theorem w_X2_learn_79 {p : Program} {l : Launch} {e : Env} {s : State} {m : MethodId} {args : Array Value} {below : List Frame} {meth : Method} {c : Code} {K : QK} {G : State → Prop} {A : QA} {rs : QX × QM} {L : QL} {ro : Int32} {Bo : QA} (hG : QG G) (hM : QMl K) (E : EV K G p s m args meth c cX2_learn "VaneCourtModel" 3) (hr : meth.sig.returnType = (some .int)) : ∀ (s1 : Int32) (s2 : Int32) (B : QA) {H : Heap} {locs : List Loc} {ls : Array Slot}, f_X2_learn_79 s1 s2 B = some (ro, Bo) → WP K (A, B, L, rs) H locs → lv_has ls 3 [(0, .ref (K.2.1 1000))] → W p l e (qrm 3 83 0 0) s m args below meth c H locs 0 0 (MQ below (QE K (QR (some (.int ro)) (A, Bo, L, rs))) args s 0 0 (qA K)) (F0 m 79 ls [.int s2, .int s1, .ref (K.2.1 1001)]) := by
  have hx := E.1
  have hb := E.2.1
  have hown := E.2.2.1
  have hts := E.2.2.2.2.1
  intro s1 s2 B H locs ls  h hw hl
  rw [f_X2_learn_79] at h
  obtain ⟨z6, h⟩ := qif_s h
  obtain ⟨B7, e8, h⟩ := qlet_s h
  refine r_iastB (j := s1.toNatClampNeg) E hw (qi_1001 hM) (qok_in z6) rfl dX2_learn_79 (fun H locs hw => ?_)
  rw [← e8] at hw
  refine lv_aload_n hx hb dX2_learn_80 rfl (lv_at hl 0 rfl) ?_
  refine r_getM (v := .ref (K.2.1 1001)) E hw hM 0 (by decide) q1353 rfl dX2_learn_81 ?_
  refine lv_iconst (v := (5:Int32)) hx hb dX2_learn_84 (by decide) ?_
  refine lv_dup2_11 hx hb dX2_learn_85 rfl rfl ?_
  refine r_iald (j := 5) E hw (qi_1001 hM).at (q_lit (k := 5) (n := 3642) rfl rfl) (q_clamp (k := 5) rfl) dX2_learn_86 ?_
  refine lv_iconst (v := (1:Int32)) hx hb dX2_learn_87 (by decide) ?_
  refine lv_iadd hx hb dX2_learn_88 ?_
  obtain ⟨B9, e10, h⟩ := qlet_s h
  refine r_iastB (j := 5) E hw (qi_1001 hM) (q_lit (k := 5) (n := 3642) rfl rfl) (q_clamp (k := 5) rfl) dX2_learn_89 (fun H locs hw => ?_)
  rw [← e10] at hw
  refine lv_aload_n hx hb dX2_learn_90 rfl (lv_at hl 0 rfl) ?_
  refine r_getM (v := .ref (K.2.1 1001)) E hw hM 0 (by decide) q1353 rfl dX2_learn_91 ?_
  refine lv_iconst (v := (5:Int32)) hx hb dX2_learn_94 (by decide) ?_
  refine r_iald (j := 5) E hw (qi_1001 hM).at (q_lit (k := 5) (n := 3642) rfl rfl) (q_clamp (k := 5) rfl) dX2_learn_95 ?_
  have h := Option.some.inj h
  obtain ⟨h1, h2⟩ := Prod.mk.inj h
  exact d_iret E hr rfl hw h1 (by rw [h2]) dX2_learn_96

def f_X2_learn (x1 : Int32) (x2 : Int32) (B : QA) : Option (Int32 × QA) :=
  if x1 = (-1:Int32) then (
  qlet (qu B 1001 5 (0:Int32)) fun B11 =>
  some ((0:Int32), B11)) else (
  qb1 (f_X2_isCase x1 B) fun u1 =>
  if u1 = (0:Int32) then (
  some ((-2:Int32), B)) else (
  if (B 1001 5) = (8:Int32) then (
  some ((-2:Int32), B)) else (
  qif (qok ((100:Int32) + ((2:Int32) * (B 1001 5))) 3642) <|
  qlet (qu B 1001 ((100:Int32) + ((2:Int32) * (B 1001 5))).toNatClampNeg x1) fun B4 =>
  if x2 = (0:Int32) then (
  f_X2_learn_79 (((100:Int32) + ((2:Int32) * (B4 1001 5))) + (1:Int32)) (0:Int32) B4) else (
  f_X2_learn_79 (((100:Int32) + ((2:Int32) * (B4 1001 5))) + (1:Int32)) (1:Int32) B4))))
set_option maxHeartbeats 4000000 in
theorem w_X2_learn_0 {p : Program} {l : Launch} {e : Env} {s : State} {m : MethodId} {args : Array Value} {below : List Frame} {meth : Method} {c : Code} {K : QK} {G : State → Prop} {A : QA} {rs : QX × QM} {L : QL} {ro : Int32} {Bo : QA} (hG : QG G) (hM : QMl K) (E : EV K G p s m args meth c cX2_learn "VaneCourtModel" 3) (hr : meth.sig.returnType = (some .int)) : ∀ (x1 : Int32) (x2 : Int32) (B : QA) {H : Heap} {locs : List Loc} {ls : Array Slot}, f_X2_learn x1 x2 B = some (ro, Bo) → WP K (A, B, L, rs) H locs → lv_has ls 3 [(0, .ref (K.2.1 1000)), (1, .int x1), (2, .int x2)] → W p l e (qrm 3 83 0 0) s m args below meth c H locs 0 0 (MQ below (QE K (QR (some (.int ro)) (A, Bo, L, rs))) args s 0 0 (qA K)) (F0 m 0 ls []) := by
  have hx := E.1
  have hb := E.2.1
  have hown := E.2.2.1
  have hts := E.2.2.2.2.1
  intro x1 x2 B H locs ls  h hw hl
  rw [f_X2_learn] at h
  refine lv_iload_n hx hb dX2_learn_0 rfl (lv_at hl 1 rfl) ?_
  refine lv_iconst (v := (-1:Int32)) hx hb dX2_learn_1 (by decide) ?_
  refine lv_icmp_ne (tgt := 14) hx hb dX2_learn_2 (by decide) (fun c => ?_) (fun c => ?_)
  · have h := qi_f c h
    refine lv_aload_n hx hb dX2_learn_14 rfl (lv_at hl 0 rfl) ?_
    refine lv_iload_n hx hb dX2_learn_15 rfl (lv_at hl 1 rfl) ?_
    obtain ⟨u1, g2, h⟩ := qb1_s h
    refine d_V (As := [.int x1]) (v0 := some (.int u1)) (w0 := (A, B, L, rs)) hG E hw hl (m_X2_isCase l hG hM  g2) (qM0 hM) rfl (cwV 1 hts (lw_V q1695 q1697 qs96 q140 q1698) rfl rfl rfl ⟨rfl, kd_X2_isCase⟩ ⟨Nat.le_of_ble_eq_true rfl, Nat.le_of_ble_eq_true rfl⟩) rfl (rest := []) (st1 := [.int u1]) rfl rfl rfl dX2_learn_16 ⟨Nat.le_of_ble_eq_true rfl, Nat.le_of_ble_eq_true rfl⟩ (fun H locs hw => ?_)
    refine lv_if_eq (tgt := 33) hx hb dX2_learn_19 (by decide) (fun c => ?_) (fun c => ?_)
    · have h := qi_t c h
      refine lv_bipush (v := (-2:Int32)) hx hb dX2_learn_33 (by decide) ?_
      have h := Option.some.inj h
      obtain ⟨h1, h2⟩ := Prod.mk.inj h
      exact d_iret E hr rfl hw h1 (by rw [h2]) dX2_learn_35
    · have h := qi_f c h
      refine lv_aload_n hx hb dX2_learn_22 rfl (lv_at hl 0 rfl) ?_
      refine r_getM (v := .ref (K.2.1 1001)) E hw hM 0 (by decide) q1353 rfl dX2_learn_23 ?_
      refine lv_iconst (v := (5:Int32)) hx hb dX2_learn_26 (by decide) ?_
      refine r_iald (j := 5) E hw (qi_1001 hM).at (q_lit (k := 5) (n := 3642) rfl rfl) (q_clamp (k := 5) rfl) dX2_learn_27 ?_
      refine lv_bipush (v := (8:Int32)) hx hb dX2_learn_28 (by decide) ?_
      refine lv_icmp_ne (tgt := 36) hx hb dX2_learn_30 (by decide) (fun c => ?_) (fun c => ?_)
      · have h := qi_f c h
        refine lv_aload_n hx hb dX2_learn_36 rfl (lv_at hl 0 rfl) ?_
        refine r_getM (v := .ref (K.2.1 1001)) E hw hM 0 (by decide) q1353 rfl dX2_learn_37 ?_
        refine lv_bipush (v := (100:Int32)) hx hb dX2_learn_40 (by decide) ?_
        refine lv_iconst (v := (2:Int32)) hx hb dX2_learn_42 (by decide) ?_
        refine lv_aload_n hx hb dX2_learn_43 rfl (lv_at hl 0 rfl) ?_
        refine r_getM (v := .ref (K.2.1 1001)) E hw hM 0 (by decide) q1353 rfl dX2_learn_44 ?_
        refine lv_iconst (v := (5:Int32)) hx hb dX2_learn_47 (by decide) ?_
        refine r_iald (j := 5) E hw (qi_1001 hM).at (q_lit (k := 5) (n := 3642) rfl rfl) (q_clamp (k := 5) rfl) dX2_learn_48 ?_
        refine lv_imul hx hb dX2_learn_49 ?_
        refine lv_iadd hx hb dX2_learn_50 ?_
        refine lv_iload_n hx hb dX2_learn_51 rfl (lv_at hl 1 rfl) ?_
        obtain ⟨z3, h⟩ := qif_s h
        obtain ⟨B4, e5, h⟩ := qlet_s h
        refine r_iastB (j := ((100:Int32) + ((2:Int32) * (B 1001 5))).toNatClampNeg) E hw (qi_1001 hM) (qok_in z3) rfl dX2_learn_52 (fun H locs hw => ?_)
        rw [← e5] at hw
        refine lv_aload_n hx hb dX2_learn_53 rfl (lv_at hl 0 rfl) ?_
        refine r_getM (v := .ref (K.2.1 1001)) E hw hM 0 (by decide) q1353 rfl dX2_learn_54 ?_
        refine lv_bipush (v := (100:Int32)) hx hb dX2_learn_57 (by decide) ?_
        refine lv_iconst (v := (2:Int32)) hx hb dX2_learn_59 (by decide) ?_
        refine lv_aload_n hx hb dX2_learn_60 rfl (lv_at hl 0 rfl) ?_
        refine r_getM (v := .ref (K.2.1 1001)) E hw hM 0 (by decide) q1353 rfl dX2_learn_61 ?_
        refine lv_iconst (v := (5:Int32)) hx hb dX2_learn_64 (by decide) ?_
        refine r_iald (j := 5) E hw (qi_1001 hM).at (q_lit (k := 5) (n := 3642) rfl rfl) (q_clamp (k := 5) rfl) dX2_learn_65 ?_
        refine lv_imul hx hb dX2_learn_66 ?_
        refine lv_iadd hx hb dX2_learn_67 ?_
        refine lv_iconst (v := (1:Int32)) hx hb dX2_learn_68 (by decide) ?_
        refine lv_iadd hx hb dX2_learn_69 ?_
        refine lv_iload_n hx hb dX2_learn_70 rfl (lv_at hl 2 rfl) ?_
        refine lv_if_eq (tgt := 78) hx hb dX2_learn_71 (by decide) (fun c => ?_) (fun c => ?_)
        · have h := qi_t c h
          refine lv_iconst (v := (0:Int32)) hx hb dX2_learn_78 (by decide) ?_
          exact w_X2_learn_79 hG hM E hr  _ _ _   h hw (lv_sub hl [0] rfl)
        · have h := qi_f c h
          refine lv_iconst (v := (1:Int32)) hx hb dX2_learn_74 (by decide) ?_
          refine lv_goto (tgt := 79) hx hb dX2_learn_75 (by decide) ?_
          exact w_X2_learn_79 hG hM E hr  _ _ _   h hw (lv_sub hl [0] rfl)
      · have h := qi_t c h
        refine lv_bipush (v := (-2:Int32)) hx hb dX2_learn_33 (by decide) ?_
        have h := Option.some.inj h
        obtain ⟨h1, h2⟩ := Prod.mk.inj h
        exact d_iret E hr rfl hw h1 (by rw [h2]) dX2_learn_35
  · have h := qi_t c h
    refine lv_aload_n hx hb dX2_learn_5 rfl (lv_at hl 0 rfl) ?_
    refine r_getM (v := .ref (K.2.1 1001)) E hw hM 0 (by decide) q1353 rfl dX2_learn_6 ?_
    refine lv_iconst (v := (5:Int32)) hx hb dX2_learn_9 (by decide) ?_
    refine lv_iconst (v := (0:Int32)) hx hb dX2_learn_10 (by decide) ?_
    obtain ⟨B11, e12, h⟩ := qlet_s h
    refine r_iastB (j := 5) E hw (qi_1001 hM) (q_lit (k := 5) (n := 3642) rfl rfl) (q_clamp (k := 5) rfl) dX2_learn_11 (fun H locs hw => ?_)
    rw [← e12] at hw
    refine lv_iconst (v := (0:Int32)) hx hb dX2_learn_12 (by decide) ?_
    have h := Option.some.inj h
    obtain ⟨h1, h2⟩ := Prod.mk.inj h
    exact d_iret E hr rfl hw h1 (by rw [h2]) dX2_learn_13

theorem m_X2_learn (l : Launch) {K : QK} {G : State → Prop} (hG : QG G) (hM : QMl K) {A : QA} {rs : QX × QM} {L : QL} {x1 : Int32} {x2 : Int32} {B : QA} {ro : Int32} {Bo : QA} (h : f_X2_learn x1 x2 B = some (ro, Bo)) : MC l K G yX2_learn (ws_ yX2_learn cX2_learn 3 (some .int)) 3 83 0 0 [.ref (K.2.1 1000), .int x1, .int x2] (A, B, L, rs) (QR (some (.int ro)) (A, Bo, L, rs)) := by
  refine MC.of (by decide) (Nat.le_of_ble_eq_true rfl) (lv := [(0, .ref (K.2.1 1000)), (1, .int x1), (2, .int x2)]) rfl (fun p e s m below meth c ls E hr hl hw => ?_)
  exact w_X2_learn_0 hG hM E hr _ _ _  h hw hl

def f_X2_isBy (x1 : Int32) (x2 : Int32) (B : QA) : Option (Int32) :=
  qb1 (f_X2_get x2 (3:Int32) B) fun u1 =>
  if (u1 &&& x1) = x1 then (
  some ((1:Int32))) else (
  some ((0:Int32)))
set_option maxHeartbeats 4000000 in
theorem w_X2_isBy_0 {p : Program} {l : Launch} {e : Env} {s : State} {m : MethodId} {args : Array Value} {below : List Frame} {meth : Method} {c : Code} {K : QK} {G : State → Prop} {A : QA} {rs : QX × QM} {L : QL} {ro : Int32} (hG : QG G) (hM : QMl K) (E : EV K G p s m args meth c cX2_isBy "VaneCourtModel" 3) (hr : meth.sig.returnType = (some .boolean)) : ∀ (x1 : Int32) (x2 : Int32) (B : QA) {H : Heap} {locs : List Loc} {ls : Array Slot}, f_X2_isBy x1 x2 B = some ro → WP K (A, B, L, rs) H locs → lv_has ls 3 [(0, .ref (K.2.1 1000)), (1, .int x1), (2, .int x2)] → W p l e (qrm 2 62 0 0) s m args below meth c H locs 0 0 (MQ below (QE K (QR (some (.int ro)) (A, B, L, rs))) args s 0 0 (qA K)) (F0 m 0 ls []) := by
  have hx := E.1
  have hb := E.2.1
  have hown := E.2.2.1
  have hts := E.2.2.2.2.1
  intro x1 x2 B H locs ls  h hw hl
  rw [f_X2_isBy] at h
  refine lv_aload_n hx hb dX2_isBy_0 rfl (lv_at hl 0 rfl) ?_
  refine lv_iload_n hx hb dX2_isBy_1 rfl (lv_at hl 2 rfl) ?_
  refine lv_iconst (v := (3:Int32)) hx hb dX2_isBy_2 (by decide) ?_
  obtain ⟨u1, g2, h⟩ := qb1_s h
  refine d_V (As := [.int x2, .int (3:Int32)]) (v0 := some (.int u1)) (w0 := (A, B, L, rs)) hG E hw hl (m_X2_get l hG hM  g2) (qM0 hM) rfl (cwV 2 hts (lw_V q1699 q1701 qs97 q140 q1702) rfl rfl rfl ⟨rfl, kd_X2_get⟩ ⟨Nat.le_of_ble_eq_true rfl, Nat.le_of_ble_eq_true rfl⟩) rfl (rest := []) (st1 := [.int u1]) rfl rfl rfl dX2_isBy_3 ⟨Nat.le_of_ble_eq_true rfl, Nat.le_of_ble_eq_true rfl⟩ (fun H locs hw => ?_)
  refine lv_iload_n hx hb dX2_isBy_6 rfl (lv_at hl 1 rfl) ?_
  refine lv_iand hx hb dX2_isBy_7 ?_
  refine lv_iload_n hx hb dX2_isBy_8 rfl (lv_at hl 1 rfl) ?_
  refine lv_icmp_ne (tgt := 16) hx hb dX2_isBy_9 (by decide) (fun c => ?_) (fun c => ?_)
  · have h := qi_f c h
    refine lv_iconst (v := (0:Int32)) hx hb dX2_isBy_16 (by decide) ?_
    have h := Option.some.inj h
    have h1 := h
    exact d_iret E hr rfl hw h1 rfl dX2_isBy_17
  · have h := qi_t c h
    refine lv_iconst (v := (1:Int32)) hx hb dX2_isBy_12 (by decide) ?_
    refine lv_goto (tgt := 17) hx hb dX2_isBy_13 (by decide) ?_
    have h := Option.some.inj h
    have h1 := h
    exact d_iret E hr rfl hw h1 rfl dX2_isBy_17

theorem m_X2_isBy (l : Launch) {K : QK} {G : State → Prop} (hG : QG G) (hM : QMl K) {A : QA} {rs : QX × QM} {L : QL} {x1 : Int32} {x2 : Int32} {B : QA} {ro : Int32} (h : f_X2_isBy x1 x2 B = some ro) : MC l K G yX2_isBy (ws_ yX2_isBy cX2_isBy 3 (some .boolean)) 2 62 0 0 [.ref (K.2.1 1000), .int x1, .int x2] (A, B, L, rs) (QR (some (.int ro)) (A, B, L, rs)) := by
  refine MC.of (by decide) (Nat.le_of_ble_eq_true rfl) (lv := [(0, .ref (K.2.1 1000)), (1, .int x1), (2, .int x2)]) rfl (fun p e s m below meth c ls E hr hl hw => ?_)
  exact w_X2_isBy_0 hG hM E hr _ _ _  h hw hl

def f_X2_isCode_50 (k2 : (Int32 → Int32 → QA → Option (Int32))) (x1 : Int32) (x2 : Int32) (s0 : Int32) (s1 : Int32) (B : QA) : Option (Int32) :=
  if s0 = s1 then (
  qlet (x2 + (1:Int32)) fun x2_5 =>
  k2 x1 x2_5 B) else (
  some ((0:Int32)))
set_option maxHeartbeats 4000000 in
theorem w_X2_isCode_50 {p : Program} {l : Launch} {e : Env} {s : State} {m : MethodId} {args : Array Value} {below : List Frame} {meth : Method} {c : Code} {K : QK} {G : State → Prop} {A : QA} {rs : QX × QM} {L : QL} {ro : Int32} (hG : QG G) (hM : QMl K) (E : EV K G p s m args meth c cX2_isCode "VaneCourtModel" 3) (hr : meth.sig.returnType = (some .boolean)) {k2 : (Int32 → Int32 → QA → Option (Int32))} (hk2 : ∀ (x1 : Int32) (x2 : Int32) (B : QA) {H : Heap} {locs : List Loc} {ls : Array Slot}, k2 x1 x2 B = some ro → WP K (A, B, L, rs) H locs → lv_has ls 3 [(0, .ref (K.2.1 1000)), (1, .int x1), (2, .int x2)] → W p l e (qrm 3 84 0 0) s m args below meth c H locs 0 0 (MQ below (QE K (QR (some (.int ro)) (A, B, L, rs))) args s 0 0 (qA K)) (F0 m 2 ls [])) : ∀ (x1 : Int32) (x2 : Int32) (s0 : Int32) (s1 : Int32) (B : QA) {H : Heap} {locs : List Loc} {ls : Array Slot}, f_X2_isCode_50 k2 x1 x2 s0 s1 B = some ro → WP K (A, B, L, rs) H locs → lv_has ls 3 [(0, .ref (K.2.1 1000)), (1, .int x1), (2, .int x2)] → W p l e (qrm 3 84 0 0) s m args below meth c H locs 0 0 (MQ below (QE K (QR (some (.int ro)) (A, B, L, rs))) args s 0 0 (qA K)) (F0 m 50 ls [.int s1, .int s0]) := by
  have hx := E.1
  have hb := E.2.1
  have hown := E.2.2.1
  have hts := E.2.2.2.2.1
  intro x1 x2 s0 s1 B H locs ls  h hw hl
  rw [f_X2_isCode_50] at h
  refine lv_icmp_eq (tgt := 55) hx hb dX2_isCode_50 (by decide) (fun c => ?_) (fun c => ?_)
  · have h := qi_t c h
    obtain ⟨x2_5, e6, h⟩ := qlet_s h
    refine lv_iinc (v := x2_5) (lv' := [(2, .int x2_5), (0, .ref (K.2.1 1000)), (1, .int x1)]) (k := 2) hx hb dX2_isCode_55 hl rfl (by rw [e6]; rfl) (by decide) rfl (fun ls hl => ?_)
    refine lv_goto (tgt := 2) hx hb dX2_isCode_58 (by decide) ?_
    exact hk2 _ _ _  h hw (lv_sub hl [1, 2, 0] rfl)
  · have h := qi_f c h
    refine lv_iconst (v := (0:Int32)) hx hb dX2_isCode_53 (by decide) ?_
    have h := Option.some.inj h
    have h1 := h
    exact d_iret E hr rfl hw h1 rfl dX2_isCode_54

def f_X2_isCode_2 : Nat → Int32 → Int32 → QA → Option (Int32)
  | 0, _, _, _ => none
  | n + 1, x1, x2, B => if (B 1001 5) ≤ x2 then (
  some ((1:Int32))) else (
  qif (qok ((100:Int32) + ((2:Int32) * x2)) 3642) <|
  qb1 (f_X2_isBy x1 (B 1001 ((100:Int32) + ((2:Int32) * x2)).toNatClampNeg) B) fun u2 =>
  qif (qok (((100:Int32) + ((2:Int32) * x2)) + (1:Int32)) 3642) <|
  if (B 1001 (((100:Int32) + ((2:Int32) * x2)) + (1:Int32)).toNatClampNeg) = (1:Int32) then (
  f_X2_isCode_50 (fun x1' x2' B' => f_X2_isCode_2 n x1' x2' B') x1 x2 u2 (1:Int32) B) else (
  f_X2_isCode_50 (fun x1' x2' B' => f_X2_isCode_2 n x1' x2' B') x1 x2 u2 (0:Int32) B))
set_option maxHeartbeats 4000000 in
theorem w_X2_isCode_2 {p : Program} {l : Launch} {e : Env} {s : State} {m : MethodId} {args : Array Value} {below : List Frame} {meth : Method} {c : Code} {K : QK} {G : State → Prop} {A : QA} {rs : QX × QM} {L : QL} {ro : Int32} (hG : QG G) (hM : QMl K) (E : EV K G p s m args meth c cX2_isCode "VaneCourtModel" 3) (hr : meth.sig.returnType = (some .boolean)) : ∀ (n : Nat) (x1 : Int32) (x2 : Int32) (B : QA) {H : Heap} {locs : List Loc} {ls : Array Slot}, f_X2_isCode_2 n x1 x2 B = some ro → WP K (A, B, L, rs) H locs → lv_has ls 3 [(0, .ref (K.2.1 1000)), (1, .int x1), (2, .int x2)] → W p l e (qrm 3 84 0 0) s m args below meth c H locs 0 0 (MQ below (QE K (QR (some (.int ro)) (A, B, L, rs))) args s 0 0 (qA K)) (F0 m 2 ls []) := by
  have hx := E.1
  have hb := E.2.1
  have hown := E.2.2.1
  have hts := E.2.2.2.2.1
  intro n
  induction n with
  | zero =>
    intro x1 x2 B H locs ls  h hw hl
    cases h
  | succ n ih =>
    intro x1 x2 B H locs ls  h hw hl
    rw [f_X2_isCode_2] at h
    refine lv_iload_n hx hb dX2_isCode_2 rfl (lv_at hl 2 rfl) ?_
    refine lv_aload_n hx hb dX2_isCode_3 rfl (lv_at hl 0 rfl) ?_
    refine r_getM (v := .ref (K.2.1 1001)) E hw hM 0 (by decide) q1353 rfl dX2_isCode_4 ?_
    refine lv_iconst (v := (5:Int32)) hx hb dX2_isCode_7 (by decide) ?_
    refine r_iald (j := 5) E hw (qi_1001 hM).at (q_lit (k := 5) (n := 3642) rfl rfl) (q_clamp (k := 5) rfl) dX2_isCode_8 ?_
    refine lv_icmp_ge (tgt := 61) hx hb dX2_isCode_9 (by decide) (fun c => ?_) (fun c => ?_)
    · have h := qi_t c h
      refine lv_iconst (v := (1:Int32)) hx hb dX2_isCode_61 (by decide) ?_
      have h := Option.some.inj h
      have h1 := h
      exact d_iret E hr rfl hw h1 rfl dX2_isCode_62
    · have h := qi_f c h
      refine lv_aload_n hx hb dX2_isCode_12 rfl (lv_at hl 0 rfl) ?_
      refine lv_iload_n hx hb dX2_isCode_13 rfl (lv_at hl 1 rfl) ?_
      refine lv_aload_n hx hb dX2_isCode_14 rfl (lv_at hl 0 rfl) ?_
      refine r_getM (v := .ref (K.2.1 1001)) E hw hM 0 (by decide) q1353 rfl dX2_isCode_15 ?_
      refine lv_bipush (v := (100:Int32)) hx hb dX2_isCode_18 (by decide) ?_
      refine lv_iconst (v := (2:Int32)) hx hb dX2_isCode_20 (by decide) ?_
      refine lv_iload_n hx hb dX2_isCode_21 rfl (lv_at hl 2 rfl) ?_
      refine lv_imul hx hb dX2_isCode_22 ?_
      refine lv_iadd hx hb dX2_isCode_23 ?_
      obtain ⟨z1, h⟩ := qif_s h
      refine r_iald (j := ((100:Int32) + ((2:Int32) * x2)).toNatClampNeg) E hw (qi_1001 hM).at (qok_in z1) rfl dX2_isCode_24 ?_
      obtain ⟨u2, g3, h⟩ := qb1_s h
      refine d_V (As := [.int x1, .int (B 1001 ((100:Int32) + ((2:Int32) * x2)).toNatClampNeg)]) (v0 := some (.int u2)) (w0 := (A, B, L, rs)) hG E hw hl (m_X2_isBy l hG hM  g3) (qM0 hM) rfl (cwV 2 hts (lw_V q1979 q1981 qs134 q140 q1982) rfl rfl rfl ⟨rfl, kd_X2_isBy⟩ ⟨Nat.le_of_ble_eq_true rfl, Nat.le_of_ble_eq_true rfl⟩) rfl (rest := []) (st1 := [.int u2]) rfl rfl rfl dX2_isCode_25 ⟨Nat.le_of_ble_eq_true rfl, Nat.le_of_ble_eq_true rfl⟩ (fun H locs hw => ?_)
      refine lv_aload_n hx hb dX2_isCode_28 rfl (lv_at hl 0 rfl) ?_
      refine r_getM (v := .ref (K.2.1 1001)) E hw hM 0 (by decide) q1353 rfl dX2_isCode_29 ?_
      refine lv_bipush (v := (100:Int32)) hx hb dX2_isCode_32 (by decide) ?_
      refine lv_iconst (v := (2:Int32)) hx hb dX2_isCode_34 (by decide) ?_
      refine lv_iload_n hx hb dX2_isCode_35 rfl (lv_at hl 2 rfl) ?_
      refine lv_imul hx hb dX2_isCode_36 ?_
      refine lv_iadd hx hb dX2_isCode_37 ?_
      refine lv_iconst (v := (1:Int32)) hx hb dX2_isCode_38 (by decide) ?_
      refine lv_iadd hx hb dX2_isCode_39 ?_
      obtain ⟨z4, h⟩ := qif_s h
      refine r_iald (j := (((100:Int32) + ((2:Int32) * x2)) + (1:Int32)).toNatClampNeg) E hw (qi_1001 hM).at (qok_in z4) rfl dX2_isCode_40 ?_
      refine lv_iconst (v := (1:Int32)) hx hb dX2_isCode_41 (by decide) ?_
      refine lv_icmp_ne (tgt := 49) hx hb dX2_isCode_42 (by decide) (fun c => ?_) (fun c => ?_)
      · have h := qi_f c h
        refine lv_iconst (v := (0:Int32)) hx hb dX2_isCode_49 (by decide) ?_
        exact w_X2_isCode_50 hG hM E hr ih _ _ _ _ _   h hw (lv_sub hl [0, 1, 2] rfl)
      · have h := qi_t c h
        refine lv_iconst (v := (1:Int32)) hx hb dX2_isCode_45 (by decide) ?_
        refine lv_goto (tgt := 50) hx hb dX2_isCode_46 (by decide) ?_
        exact w_X2_isCode_50 hG hM E hr ih _ _ _ _ _   h hw (lv_sub hl [0, 1, 2] rfl)

def f_X2_isCode (x1 : Int32) (B : QA) : Option (Int32) :=
  f_X2_isCode_2 FU x1 (0:Int32) B
set_option maxHeartbeats 4000000 in
theorem w_X2_isCode_0 {p : Program} {l : Launch} {e : Env} {s : State} {m : MethodId} {args : Array Value} {below : List Frame} {meth : Method} {c : Code} {K : QK} {G : State → Prop} {A : QA} {rs : QX × QM} {L : QL} {ro : Int32} (hG : QG G) (hM : QMl K) (E : EV K G p s m args meth c cX2_isCode "VaneCourtModel" 3) (hr : meth.sig.returnType = (some .boolean)) : ∀ (x1 : Int32) (B : QA) {H : Heap} {locs : List Loc} {ls : Array Slot}, f_X2_isCode x1 B = some ro → WP K (A, B, L, rs) H locs → lv_has ls 3 [(0, .ref (K.2.1 1000)), (1, .int x1)] → W p l e (qrm 3 84 0 0) s m args below meth c H locs 0 0 (MQ below (QE K (QR (some (.int ro)) (A, B, L, rs))) args s 0 0 (qA K)) (F0 m 0 ls []) := by
  have hx := E.1
  have hb := E.2.1
  have hown := E.2.2.1
  have hts := E.2.2.2.2.1
  intro x1 B H locs ls  h hw hl
  rw [f_X2_isCode] at h
  refine lv_iconst (v := (0:Int32)) hx hb dX2_isCode_0 (by decide) ?_
  refine lv_istore_n (lv' := [(2, .int (0:Int32)), (0, .ref (K.2.1 1000)), (1, .int x1)]) hx hb dX2_isCode_1 rfl hl (by decide) rfl (fun ls hl => ?_)
  exact w_X2_isCode_2 hG hM E hr  _ _ _ _   h hw (lv_sub hl [1, 2, 0] rfl)

theorem m_X2_isCode (l : Launch) {K : QK} {G : State → Prop} (hG : QG G) (hM : QMl K) {A : QA} {rs : QX × QM} {L : QL} {x1 : Int32} {B : QA} {ro : Int32} (h : f_X2_isCode x1 B = some ro) : MC l K G yX2_isCode (ws_ yX2_isCode cX2_isCode 3 (some .boolean)) 3 84 0 0 [.ref (K.2.1 1000), .int x1] (A, B, L, rs) (QR (some (.int ro)) (A, B, L, rs)) := by
  refine MC.of (by decide) (Nat.le_of_ble_eq_true rfl) (lv := [(0, .ref (K.2.1 1000)), (1, .int x1)]) rfl (fun p e s m below meth c ls E hr hl hw => ?_)
  exact w_X2_isCode_0 hG hM E hr _ _  h hw hl

def f_X2_codesBy_4 : Nat → Int32 → Int32 → Int32 → QA → Option (Int32)
  | 0, _, _, _, _ => none
  | n + 1, x1, x2, x3, B => if (256:Int32) ≤ x3 then (
  some (x2)) else (
  qb1 (f_X2_isCode x3 B) fun u1 =>
  if u1 = (0:Int32) then (
  qlet (x2 + (0:Int32)) fun x2_3 =>
  qlet (x3 + (1:Int32)) fun x3_5 =>
  f_X2_codesBy_4 n x1 x2_3 x3_5 B) else (
  if x1 = (-1:Int32) then (
  qlet (x2 + (1:Int32)) fun x2_7 =>
  qlet (x3 + (1:Int32)) fun x3_9 =>
  f_X2_codesBy_4 n x1 x2_7 x3_9 B) else (
  qb1 (f_X2_isBy x3 x1 B) fun u11 =>
  if u11 = (0:Int32) then (
  qlet (x2 + (0:Int32)) fun x2_13 =>
  qlet (x3 + (1:Int32)) fun x3_15 =>
  f_X2_codesBy_4 n x1 x2_13 x3_15 B) else (
  qlet (x2 + (1:Int32)) fun x2_17 =>
  qlet (x3 + (1:Int32)) fun x3_19 =>
  f_X2_codesBy_4 n x1 x2_17 x3_19 B))))
set_option maxHeartbeats 4000000 in
theorem w_X2_codesBy_4 {p : Program} {l : Launch} {e : Env} {s : State} {m : MethodId} {args : Array Value} {below : List Frame} {meth : Method} {c : Code} {K : QK} {G : State → Prop} {A : QA} {rs : QX × QM} {L : QL} {ro : Int32} (hG : QG G) (hM : QMl K) (E : EV K G p s m args meth c cX2_codesBy "VaneCourtModel" 4) (hr : meth.sig.returnType = (some .int)) : ∀ (n : Nat) (x1 : Int32) (x2 : Int32) (x3 : Int32) (B : QA) {H : Heap} {locs : List Loc} {ls : Array Slot}, f_X2_codesBy_4 n x1 x2 x3 B = some ro → WP K (A, B, L, rs) H locs → lv_has ls 4 [(0, .ref (K.2.1 1000)), (1, .int x1), (2, .int x2), (3, .int x3)] → W p l e (qrm 4 106 0 0) s m args below meth c H locs 0 0 (MQ below (QE K (QR (some (.int ro)) (A, B, L, rs))) args s 0 0 (qA K)) (F0 m 4 ls []) := by
  have hx := E.1
  have hb := E.2.1
  have hown := E.2.2.1
  have hts := E.2.2.2.2.1
  intro n
  induction n with
  | zero =>
    intro x1 x2 x3 B H locs ls  h hw hl
    cases h
  | succ n ih =>
    intro x1 x2 x3 B H locs ls  h hw hl
    rw [f_X2_codesBy_4] at h
    refine lv_iload_n hx hb dX2_codesBy_4 rfl (lv_at hl 3 rfl) ?_
    refine lv_sipush (v := (256:Int32)) hx hb dX2_codesBy_5 (by decide) ?_
    refine lv_icmp_ge (tgt := 47) hx hb dX2_codesBy_8 (by decide) (fun c => ?_) (fun c => ?_)
    · have h := qi_t c h
      refine lv_iload_n hx hb dX2_codesBy_47 rfl (lv_at hl 2 rfl) ?_
      have h := Option.some.inj h
      have h1 := h
      exact d_iret E hr rfl hw h1 rfl dX2_codesBy_48
    · have h := qi_f c h
      refine lv_iload_n hx hb dX2_codesBy_11 rfl (lv_at hl 2 rfl) ?_
      refine lv_aload_n hx hb dX2_codesBy_12 rfl (lv_at hl 0 rfl) ?_
      refine lv_iload_n hx hb dX2_codesBy_13 rfl (lv_at hl 3 rfl) ?_
      obtain ⟨u1, g2, h⟩ := qb1_s h
      refine d_V (As := [.int x3]) (v0 := some (.int u1)) (w0 := (A, B, L, rs)) hG E hw hl (m_X2_isCode l hG hM  g2) (qM0 hM) rfl (cwV 1 hts (lw_V q1975 q1977 qs133 q140 q1978) rfl rfl rfl ⟨rfl, kd_X2_isCode⟩ ⟨Nat.le_of_ble_eq_true rfl, Nat.le_of_ble_eq_true rfl⟩) rfl (rest := [.int x2]) (st1 := [.int u1, .int x2]) rfl rfl rfl dX2_codesBy_14 ⟨Nat.le_of_ble_eq_true rfl, Nat.le_of_ble_eq_true rfl⟩ (fun H locs hw => ?_)
      refine lv_if_eq (tgt := 38) hx hb dX2_codesBy_17 (by decide) (fun c => ?_) (fun c => ?_)
      · have h := qi_t c h
        refine lv_iconst (v := (0:Int32)) hx hb dX2_codesBy_38 (by decide) ?_
        refine lv_iadd hx hb dX2_codesBy_39 ?_
        obtain ⟨x2_3, e4, h⟩ := qlet_s h
        refine r_nm e4 ?_
        refine lv_istore_n (lv' := [(2, .int x2_3), (0, .ref (K.2.1 1000)), (1, .int x1), (3, .int x3)]) hx hb dX2_codesBy_40 rfl hl (by decide) rfl (fun ls hl => ?_)
        obtain ⟨x3_5, e6, h⟩ := qlet_s h
        refine lv_iinc (v := x3_5) (lv' := [(3, .int x3_5), (2, .int x2_3), (0, .ref (K.2.1 1000)), (1, .int x1)]) (k := 3) hx hb dX2_codesBy_41 hl rfl (by rw [e6]; rfl) (by decide) rfl (fun ls hl => ?_)
        refine lv_goto (tgt := 4) hx hb dX2_codesBy_44 (by decide) ?_
        exact ih _ _ _ _  h hw (lv_sub hl [2, 3, 1, 0] rfl)
      · have h := qi_f c h
        refine lv_iload_n hx hb dX2_codesBy_20 rfl (lv_at hl 1 rfl) ?_
        refine lv_iconst (v := (-1:Int32)) hx hb dX2_codesBy_21 (by decide) ?_
        refine lv_icmp_eq (tgt := 34) hx hb dX2_codesBy_22 (by decide) (fun c => ?_) (fun c => ?_)
        · have h := qi_t c h
          refine lv_iconst (v := (1:Int32)) hx hb dX2_codesBy_34 (by decide) ?_
          refine lv_goto (tgt := 39) hx hb dX2_codesBy_35 (by decide) ?_
          refine lv_iadd hx hb dX2_codesBy_39 ?_
          obtain ⟨x2_7, e8, h⟩ := qlet_s h
          refine r_nm e8 ?_
          refine lv_istore_n (lv' := [(2, .int x2_7), (0, .ref (K.2.1 1000)), (1, .int x1), (3, .int x3)]) hx hb dX2_codesBy_40 rfl hl (by decide) rfl (fun ls hl => ?_)
          obtain ⟨x3_9, e10, h⟩ := qlet_s h
          refine lv_iinc (v := x3_9) (lv' := [(3, .int x3_9), (2, .int x2_7), (0, .ref (K.2.1 1000)), (1, .int x1)]) (k := 3) hx hb dX2_codesBy_41 hl rfl (by rw [e10]; rfl) (by decide) rfl (fun ls hl => ?_)
          refine lv_goto (tgt := 4) hx hb dX2_codesBy_44 (by decide) ?_
          exact ih _ _ _ _  h hw (lv_sub hl [2, 3, 1, 0] rfl)
        · have h := qi_f c h
          refine lv_aload_n hx hb dX2_codesBy_25 rfl (lv_at hl 0 rfl) ?_
          refine lv_iload_n hx hb dX2_codesBy_26 rfl (lv_at hl 3 rfl) ?_
          refine lv_iload_n hx hb dX2_codesBy_27 rfl (lv_at hl 1 rfl) ?_
          obtain ⟨u11, g12, h⟩ := qb1_s h
          refine d_V (As := [.int x3, .int x1]) (v0 := some (.int u11)) (w0 := (A, B, L, rs)) hG E hw hl (m_X2_isBy l hG hM  g12) (qM0 hM) rfl (cwV 2 hts (lw_V q1979 q1981 qs134 q140 q1982) rfl rfl rfl ⟨rfl, kd_X2_isBy⟩ ⟨Nat.le_of_ble_eq_true rfl, Nat.le_of_ble_eq_true rfl⟩) rfl (rest := [.int x2]) (st1 := [.int u11, .int x2]) rfl rfl rfl dX2_codesBy_28 ⟨Nat.le_of_ble_eq_true rfl, Nat.le_of_ble_eq_true rfl⟩ (fun H locs hw => ?_)
          refine lv_if_eq (tgt := 38) hx hb dX2_codesBy_31 (by decide) (fun c => ?_) (fun c => ?_)
          · have h := qi_t c h
            refine lv_iconst (v := (0:Int32)) hx hb dX2_codesBy_38 (by decide) ?_
            refine lv_iadd hx hb dX2_codesBy_39 ?_
            obtain ⟨x2_13, e14, h⟩ := qlet_s h
            refine r_nm e14 ?_
            refine lv_istore_n (lv' := [(2, .int x2_13), (0, .ref (K.2.1 1000)), (1, .int x1), (3, .int x3)]) hx hb dX2_codesBy_40 rfl hl (by decide) rfl (fun ls hl => ?_)
            obtain ⟨x3_15, e16, h⟩ := qlet_s h
            refine lv_iinc (v := x3_15) (lv' := [(3, .int x3_15), (2, .int x2_13), (0, .ref (K.2.1 1000)), (1, .int x1)]) (k := 3) hx hb dX2_codesBy_41 hl rfl (by rw [e16]; rfl) (by decide) rfl (fun ls hl => ?_)
            refine lv_goto (tgt := 4) hx hb dX2_codesBy_44 (by decide) ?_
            exact ih _ _ _ _  h hw (lv_sub hl [2, 3, 1, 0] rfl)
          · have h := qi_f c h
            refine lv_iconst (v := (1:Int32)) hx hb dX2_codesBy_34 (by decide) ?_
            refine lv_goto (tgt := 39) hx hb dX2_codesBy_35 (by decide) ?_
            refine lv_iadd hx hb dX2_codesBy_39 ?_
            obtain ⟨x2_17, e18, h⟩ := qlet_s h
            refine r_nm e18 ?_
            refine lv_istore_n (lv' := [(2, .int x2_17), (0, .ref (K.2.1 1000)), (1, .int x1), (3, .int x3)]) hx hb dX2_codesBy_40 rfl hl (by decide) rfl (fun ls hl => ?_)
            obtain ⟨x3_19, e20, h⟩ := qlet_s h
            refine lv_iinc (v := x3_19) (lv' := [(3, .int x3_19), (2, .int x2_17), (0, .ref (K.2.1 1000)), (1, .int x1)]) (k := 3) hx hb dX2_codesBy_41 hl rfl (by rw [e20]; rfl) (by decide) rfl (fun ls hl => ?_)
            refine lv_goto (tgt := 4) hx hb dX2_codesBy_44 (by decide) ?_
            exact ih _ _ _ _  h hw (lv_sub hl [2, 3, 1, 0] rfl)

def f_X2_codesBy (x1 : Int32) (B : QA) : Option (Int32) :=
  f_X2_codesBy_4 FU x1 (0:Int32) (0:Int32) B
set_option maxHeartbeats 4000000 in
theorem w_X2_codesBy_0 {p : Program} {l : Launch} {e : Env} {s : State} {m : MethodId} {args : Array Value} {below : List Frame} {meth : Method} {c : Code} {K : QK} {G : State → Prop} {A : QA} {rs : QX × QM} {L : QL} {ro : Int32} (hG : QG G) (hM : QMl K) (E : EV K G p s m args meth c cX2_codesBy "VaneCourtModel" 4) (hr : meth.sig.returnType = (some .int)) : ∀ (x1 : Int32) (B : QA) {H : Heap} {locs : List Loc} {ls : Array Slot}, f_X2_codesBy x1 B = some ro → WP K (A, B, L, rs) H locs → lv_has ls 4 [(0, .ref (K.2.1 1000)), (1, .int x1)] → W p l e (qrm 4 106 0 0) s m args below meth c H locs 0 0 (MQ below (QE K (QR (some (.int ro)) (A, B, L, rs))) args s 0 0 (qA K)) (F0 m 0 ls []) := by
  have hx := E.1
  have hb := E.2.1
  have hown := E.2.2.1
  have hts := E.2.2.2.2.1
  intro x1 B H locs ls  h hw hl
  rw [f_X2_codesBy] at h
  refine lv_iconst (v := (0:Int32)) hx hb dX2_codesBy_0 (by decide) ?_
  refine lv_istore_n (lv' := [(2, .int (0:Int32)), (0, .ref (K.2.1 1000)), (1, .int x1)]) hx hb dX2_codesBy_1 rfl hl (by decide) rfl (fun ls hl => ?_)
  refine lv_iconst (v := (0:Int32)) hx hb dX2_codesBy_2 (by decide) ?_
  refine lv_istore_n (lv' := [(3, .int (0:Int32)), (2, .int (0:Int32)), (0, .ref (K.2.1 1000)), (1, .int x1)]) hx hb dX2_codesBy_3 rfl hl (by decide) rfl (fun ls hl => ?_)
  exact w_X2_codesBy_4 hG hM E hr  _ _ _ _ _   h hw (lv_sub hl [2, 3, 1, 0] rfl)

theorem m_X2_codesBy (l : Launch) {K : QK} {G : State → Prop} (hG : QG G) (hM : QMl K) {A : QA} {rs : QX × QM} {L : QL} {x1 : Int32} {B : QA} {ro : Int32} (h : f_X2_codesBy x1 B = some ro) : MC l K G yX2_codesBy (ws_ yX2_codesBy cX2_codesBy 4 (some .int)) 4 106 0 0 [.ref (K.2.1 1000), .int x1] (A, B, L, rs) (QR (some (.int ro)) (A, B, L, rs)) := by
  refine MC.of (by decide) (Nat.le_of_ble_eq_true rfl) (lv := [(0, .ref (K.2.1 1000)), (1, .int x1)]) rfl (fun p e s m below meth c ls E hr hl hw => ?_)
  exact w_X2_codesBy_0 hG hM E hr _ _  h hw hl

def f_X2_codes_15 : Nat → Int32 → Int32 → Int32 → QA → Option (Int32)
  | 0, _, _, _, _ => none
  | n + 1, x1, x2, x3, B => if (256:Int32) ≤ x3 then (
  some ((-1:Int32))) else (
  qb1 (f_X2_isCode x3 B) fun u1 =>
  if u1 = (0:Int32) then (
  qlet (x3 + (1:Int32)) fun x3_7 =>
  f_X2_codes_15 n x1 x2 x3_7 B) else (
  if x2 = x1 then (
  some (x3)) else (
  qlet (x2 + (1:Int32)) fun x2_3 =>
  qlet (x3 + (1:Int32)) fun x3_5 =>
  f_X2_codes_15 n x1 x2_3 x3_5 B)))
set_option maxHeartbeats 4000000 in
theorem w_X2_codes_15 {p : Program} {l : Launch} {e : Env} {s : State} {m : MethodId} {args : Array Value} {below : List Frame} {meth : Method} {c : Code} {K : QK} {G : State → Prop} {A : QA} {rs : QX × QM} {L : QL} {ro : Int32} (hG : QG G) (hM : QMl K) (E : EV K G p s m args meth c cX2_codes "VaneCourtModel" 4) (hr : meth.sig.returnType = (some .int)) : ∀ (n : Nat) (x1 : Int32) (x2 : Int32) (x3 : Int32) (B : QA) {H : Heap} {locs : List Loc} {ls : Array Slot}, f_X2_codes_15 n x1 x2 x3 B = some ro → WP K (A, B, L, rs) H locs → lv_has ls 4 [(0, .ref (K.2.1 1000)), (1, .int x1), (2, .int x2), (3, .int x3)] → W p l e (qrm 5 129 0 0) s m args below meth c H locs 0 0 (MQ below (QE K (QR (some (.int ro)) (A, B, L, rs))) args s 0 0 (qA K)) (F0 m 15 ls []) := by
  have hx := E.1
  have hb := E.2.1
  have hown := E.2.2.1
  have hts := E.2.2.2.2.1
  intro n
  induction n with
  | zero =>
    intro x1 x2 x3 B H locs ls  h hw hl
    cases h
  | succ n ih =>
    intro x1 x2 x3 B H locs ls  h hw hl
    rw [f_X2_codes_15] at h
    refine lv_iload_n hx hb dX2_codes_15 rfl (lv_at hl 3 rfl) ?_
    refine lv_sipush (v := (256:Int32)) hx hb dX2_codes_16 (by decide) ?_
    refine lv_icmp_ge (tgt := 49) hx hb dX2_codes_19 (by decide) (fun c => ?_) (fun c => ?_)
    · have h := qi_t c h
      refine lv_iconst (v := (-1:Int32)) hx hb dX2_codes_49 (by decide) ?_
      have h := Option.some.inj h
      have h1 := h
      exact d_iret E hr rfl hw h1 rfl dX2_codes_50
    · have h := qi_f c h
      refine lv_aload_n hx hb dX2_codes_22 rfl (lv_at hl 0 rfl) ?_
      refine lv_iload_n hx hb dX2_codes_23 rfl (lv_at hl 3 rfl) ?_
      obtain ⟨u1, g2, h⟩ := qb1_s h
      refine d_V (As := [.int x3]) (v0 := some (.int u1)) (w0 := (A, B, L, rs)) hG E hw hl (m_X2_isCode l hG hM  g2) (qM0 hM) rfl (cwV 1 hts (lw_V q1975 q1977 qs133 q140 q1978) rfl rfl rfl ⟨rfl, kd_X2_isCode⟩ ⟨Nat.le_of_ble_eq_true rfl, Nat.le_of_ble_eq_true rfl⟩) rfl (rest := []) (st1 := [.int u1]) rfl rfl rfl dX2_codes_24 ⟨Nat.le_of_ble_eq_true rfl, Nat.le_of_ble_eq_true rfl⟩ (fun H locs hw => ?_)
      refine lv_if_ne (tgt := 33) hx hb dX2_codes_27 (by decide) (fun c => ?_) (fun c => ?_)
      · have h := qi_f c h
        refine lv_iload_n hx hb dX2_codes_33 rfl (lv_at hl 2 rfl) ?_
        refine lv_iload_n hx hb dX2_codes_34 rfl (lv_at hl 1 rfl) ?_
        refine lv_icmp_ne (tgt := 40) hx hb dX2_codes_35 (by decide) (fun c => ?_) (fun c => ?_)
        · have h := qi_f c h
          obtain ⟨x2_3, e4, h⟩ := qlet_s h
          refine lv_iinc (v := x2_3) (lv' := [(2, .int x2_3), (0, .ref (K.2.1 1000)), (1, .int x1), (3, .int x3)]) (k := 2) hx hb dX2_codes_40 hl rfl (by rw [e4]; rfl) (by decide) rfl (fun ls hl => ?_)
          obtain ⟨x3_5, e6, h⟩ := qlet_s h
          refine lv_iinc (v := x3_5) (lv' := [(3, .int x3_5), (2, .int x2_3), (0, .ref (K.2.1 1000)), (1, .int x1)]) (k := 3) hx hb dX2_codes_43 hl rfl (by rw [e6]; rfl) (by decide) rfl (fun ls hl => ?_)
          refine lv_goto (tgt := 15) hx hb dX2_codes_46 (by decide) ?_
          exact ih _ _ _ _  h hw (lv_sub hl [2, 3, 1, 0] rfl)
        · have h := qi_t c h
          refine lv_iload_n hx hb dX2_codes_38 rfl (lv_at hl 3 rfl) ?_
          have h := Option.some.inj h
          have h1 := h
          exact d_iret E hr rfl hw h1 rfl dX2_codes_39
      · have h := qi_t c h
        refine lv_goto (tgt := 43) hx hb dX2_codes_30 (by decide) ?_
        obtain ⟨x3_7, e8, h⟩ := qlet_s h
        refine lv_iinc (v := x3_7) (lv' := [(3, .int x3_7), (0, .ref (K.2.1 1000)), (1, .int x1), (2, .int x2)]) (k := 3) hx hb dX2_codes_43 hl rfl (by rw [e8]; rfl) (by decide) rfl (fun ls hl => ?_)
        refine lv_goto (tgt := 15) hx hb dX2_codes_46 (by decide) ?_
        exact ih _ _ _ _  h hw (lv_sub hl [1, 2, 3, 0] rfl)

def f_X2_codes (x1 : Int32) (B : QA) : Option (Int32) :=
  if x1 = (-1:Int32) then (
  qb1 (f_X2_codesBy (-1:Int32) B) fun u9 =>
  some (u9)) else (
  f_X2_codes_15 FU x1 (0:Int32) (0:Int32) B)
set_option maxHeartbeats 4000000 in
theorem w_X2_codes_0 {p : Program} {l : Launch} {e : Env} {s : State} {m : MethodId} {args : Array Value} {below : List Frame} {meth : Method} {c : Code} {K : QK} {G : State → Prop} {A : QA} {rs : QX × QM} {L : QL} {ro : Int32} (hG : QG G) (hM : QMl K) (E : EV K G p s m args meth c cX2_codes "VaneCourtModel" 4) (hr : meth.sig.returnType = (some .int)) : ∀ (x1 : Int32) (B : QA) {H : Heap} {locs : List Loc} {ls : Array Slot}, f_X2_codes x1 B = some ro → WP K (A, B, L, rs) H locs → lv_has ls 4 [(0, .ref (K.2.1 1000)), (1, .int x1)] → W p l e (qrm 5 129 0 0) s m args below meth c H locs 0 0 (MQ below (QE K (QR (some (.int ro)) (A, B, L, rs))) args s 0 0 (qA K)) (F0 m 0 ls []) := by
  have hx := E.1
  have hb := E.2.1
  have hown := E.2.2.1
  have hts := E.2.2.2.2.1
  intro x1 B H locs ls  h hw hl
  rw [f_X2_codes] at h
  refine lv_iload_n hx hb dX2_codes_0 rfl (lv_at hl 1 rfl) ?_
  refine lv_iconst (v := (-1:Int32)) hx hb dX2_codes_1 (by decide) ?_
  refine lv_icmp_ne (tgt := 11) hx hb dX2_codes_2 (by decide) (fun c => ?_) (fun c => ?_)
  · have h := qi_f c h
    refine lv_iconst (v := (0:Int32)) hx hb dX2_codes_11 (by decide) ?_
    refine lv_istore_n (lv' := [(2, .int (0:Int32)), (0, .ref (K.2.1 1000)), (1, .int x1)]) hx hb dX2_codes_12 rfl hl (by decide) rfl (fun ls hl => ?_)
    refine lv_iconst (v := (0:Int32)) hx hb dX2_codes_13 (by decide) ?_
    refine lv_istore_n (lv' := [(3, .int (0:Int32)), (2, .int (0:Int32)), (0, .ref (K.2.1 1000)), (1, .int x1)]) hx hb dX2_codes_14 rfl hl (by decide) rfl (fun ls hl => ?_)
    exact w_X2_codes_15 hG hM E hr  _ _ _ _ _   h hw (lv_sub hl [2, 3, 1, 0] rfl)
  · have h := qi_t c h
    refine lv_aload_n hx hb dX2_codes_5 rfl (lv_at hl 0 rfl) ?_
    refine lv_iconst (v := (-1:Int32)) hx hb dX2_codes_6 (by decide) ?_
    obtain ⟨u9, g10, h⟩ := qb1_s h
    refine d_V (As := [.int (-1:Int32)]) (v0 := some (.int u9)) (w0 := (A, B, L, rs)) hG E hw hl (m_X2_codesBy l hG hM  g10) (qM0 hM) rfl (cwV 1 hts (lw_V q1971 q1973 qs132 q140 q1974) rfl rfl rfl ⟨rfl, kd_X2_codesBy⟩ ⟨Nat.le_of_ble_eq_true rfl, Nat.le_of_ble_eq_true rfl⟩) rfl (rest := []) (st1 := [.int u9]) rfl rfl rfl dX2_codes_7 ⟨Nat.le_of_ble_eq_true rfl, Nat.le_of_ble_eq_true rfl⟩ (fun H locs hw => ?_)
    have h := Option.some.inj h
    have h1 := h
    exact d_iret E hr rfl hw h1 rfl dX2_codes_10

theorem m_X2_codes (l : Launch) {K : QK} {G : State → Prop} (hG : QG G) (hM : QMl K) {A : QA} {rs : QX × QM} {L : QL} {x1 : Int32} {B : QA} {ro : Int32} (h : f_X2_codes x1 B = some ro) : MC l K G yX2_codes (ws_ yX2_codes cX2_codes 4 (some .int)) 5 129 0 0 [.ref (K.2.1 1000), .int x1] (A, B, L, rs) (QR (some (.int ro)) (A, B, L, rs)) := by
  refine MC.of (by decide) (Nat.le_of_ble_eq_true rfl) (lv := [(0, .ref (K.2.1 1000)), (1, .int x1)]) rfl (fun p e s m below meth c ls E hr hl hw => ?_)
  exact w_X2_codes_0 hG hM E hr _ _  h hw hl

def f_X2_sure (x1 : Int32) (B : QA) : Option (Int32) :=
  qb1 (f_X2_isCase x1 B) fun u1 =>
  if u1 = (0:Int32) then (
  some ((-1:Int32))) else (
  qb1 (f_X2_codesBy (-1:Int32) B) fun u3 =>
  qb1 (f_X2_codesBy x1 B) fun u5 =>
  if u3 = (0:Int32) then (
  some ((-1:Int32))) else (
  if u5 = u3 then (
  some ((1:Int32))) else (
  if u5 = (0:Int32) then (
  some ((0:Int32))) else (
  some ((-1:Int32))))))
set_option maxHeartbeats 4000000 in
theorem w_X2_sure_0 {p : Program} {l : Launch} {e : Env} {s : State} {m : MethodId} {args : Array Value} {below : List Frame} {meth : Method} {c : Code} {K : QK} {G : State → Prop} {A : QA} {rs : QX × QM} {L : QL} {ro : Int32} (hG : QG G) (hM : QMl K) (E : EV K G p s m args meth c cX2_sure "VaneCourtModel" 4) (hr : meth.sig.returnType = (some .int)) : ∀ (x1 : Int32) (B : QA) {H : Heap} {locs : List Loc} {ls : Array Slot}, f_X2_sure x1 B = some ro → WP K (A, B, L, rs) H locs → lv_has ls 4 [(0, .ref (K.2.1 1000)), (1, .int x1)] → W p l e (qrm 5 129 0 0) s m args below meth c H locs 0 0 (MQ below (QE K (QR (some (.int ro)) (A, B, L, rs))) args s 0 0 (qA K)) (F0 m 0 ls []) := by
  have hx := E.1
  have hb := E.2.1
  have hown := E.2.2.1
  have hts := E.2.2.2.2.1
  intro x1 B H locs ls  h hw hl
  rw [f_X2_sure] at h
  refine lv_aload_n hx hb dX2_sure_0 rfl (lv_at hl 0 rfl) ?_
  refine lv_iload_n hx hb dX2_sure_1 rfl (lv_at hl 1 rfl) ?_
  obtain ⟨u1, g2, h⟩ := qb1_s h
  refine d_V (As := [.int x1]) (v0 := some (.int u1)) (w0 := (A, B, L, rs)) hG E hw hl (m_X2_isCase l hG hM  g2) (qM0 hM) rfl (cwV 1 hts (lw_V q1695 q1697 qs96 q140 q1698) rfl rfl rfl ⟨rfl, kd_X2_isCase⟩ ⟨Nat.le_of_ble_eq_true rfl, Nat.le_of_ble_eq_true rfl⟩) rfl (rest := []) (st1 := [.int u1]) rfl rfl rfl dX2_sure_2 ⟨Nat.le_of_ble_eq_true rfl, Nat.le_of_ble_eq_true rfl⟩ (fun H locs hw => ?_)
  refine lv_if_ne (tgt := 10) hx hb dX2_sure_5 (by decide) (fun c => ?_) (fun c => ?_)
  · have h := qi_f c h
    refine lv_aload_n hx hb dX2_sure_10 rfl (lv_at hl 0 rfl) ?_
    refine lv_iconst (v := (-1:Int32)) hx hb dX2_sure_11 (by decide) ?_
    obtain ⟨u3, g4, h⟩ := qb1_s h
    refine d_V (As := [.int (-1:Int32)]) (v0 := some (.int u3)) (w0 := (A, B, L, rs)) hG E hw hl (m_X2_codesBy l hG hM  g4) (qM0 hM) rfl (cwV 1 hts (lw_V q1971 q1973 qs132 q140 q1974) rfl rfl rfl ⟨rfl, kd_X2_codesBy⟩ ⟨Nat.le_of_ble_eq_true rfl, Nat.le_of_ble_eq_true rfl⟩) rfl (rest := []) (st1 := [.int u3]) rfl rfl rfl dX2_sure_12 ⟨Nat.le_of_ble_eq_true rfl, Nat.le_of_ble_eq_true rfl⟩ (fun H locs hw => ?_)
    refine lv_istore_n (lv' := [(2, .int u3), (0, .ref (K.2.1 1000)), (1, .int x1)]) hx hb dX2_sure_15 rfl hl (by decide) rfl (fun ls hl => ?_)
    refine lv_aload_n hx hb dX2_sure_16 rfl (lv_at hl 1 rfl) ?_
    refine lv_iload_n hx hb dX2_sure_17 rfl (lv_at hl 2 rfl) ?_
    obtain ⟨u5, g6, h⟩ := qb1_s h
    refine d_V (As := [.int x1]) (v0 := some (.int u5)) (w0 := (A, B, L, rs)) hG E hw hl (m_X2_codesBy l hG hM  g6) (qM0 hM) rfl (cwV 1 hts (lw_V q1971 q1973 qs132 q140 q1974) rfl rfl rfl ⟨rfl, kd_X2_codesBy⟩ ⟨Nat.le_of_ble_eq_true rfl, Nat.le_of_ble_eq_true rfl⟩) rfl (rest := []) (st1 := [.int u5]) rfl rfl rfl dX2_sure_18 ⟨Nat.le_of_ble_eq_true rfl, Nat.le_of_ble_eq_true rfl⟩ (fun H locs hw => ?_)
    refine lv_istore_n (lv' := [(3, .int u5), (2, .int u3), (0, .ref (K.2.1 1000)), (1, .int x1)]) hx hb dX2_sure_21 rfl hl (by decide) rfl (fun ls hl => ?_)
    refine lv_iload_n hx hb dX2_sure_22 rfl (lv_at hl 1 rfl) ?_
    refine lv_if_ne (tgt := 30) hx hb dX2_sure_23 (by decide) (fun c => ?_) (fun c => ?_)
    · have h := qi_f c h
      refine lv_iload_n hx hb dX2_sure_30 rfl (lv_at hl 0 rfl) ?_
      refine lv_iload_n hx hb dX2_sure_31 rfl (lv_at hl 1 rfl) ?_
      refine lv_icmp_ne (tgt := 39) hx hb dX2_sure_32 (by decide) (fun c => ?_) (fun c => ?_)
      · have h := qi_f c h
        refine lv_iload_n hx hb dX2_sure_39 rfl (lv_at hl 0 rfl) ?_
        refine lv_if_ne (tgt := 47) hx hb dX2_sure_40 (by decide) (fun c => ?_) (fun c => ?_)
        · have h := qi_f c h
          refine lv_iconst (v := (-1:Int32)) hx hb dX2_sure_47 (by decide) ?_
          have h := Option.some.inj h
          have h1 := h
          exact d_iret E hr rfl hw h1 rfl dX2_sure_48
        · have h := qi_t c h
          refine lv_iconst (v := (0:Int32)) hx hb dX2_sure_43 (by decide) ?_
          refine lv_goto (tgt := 48) hx hb dX2_sure_44 (by decide) ?_
          have h := Option.some.inj h
          have h1 := h
          exact d_iret E hr rfl hw h1 rfl dX2_sure_48
      · have h := qi_t c h
        refine lv_iconst (v := (1:Int32)) hx hb dX2_sure_35 (by decide) ?_
        refine lv_goto (tgt := 48) hx hb dX2_sure_36 (by decide) ?_
        have h := Option.some.inj h
        have h1 := h
        exact d_iret E hr rfl hw h1 rfl dX2_sure_48
    · have h := qi_t c h
      refine lv_iconst (v := (-1:Int32)) hx hb dX2_sure_26 (by decide) ?_
      refine lv_goto (tgt := 48) hx hb dX2_sure_27 (by decide) ?_
      have h := Option.some.inj h
      have h1 := h
      exact d_iret E hr rfl hw h1 rfl dX2_sure_48
  · have h := qi_t c h
    refine lv_iconst (v := (-1:Int32)) hx hb dX2_sure_8 (by decide) ?_
    have h := Option.some.inj h
    have h1 := h
    exact d_iret E hr rfl hw h1 rfl dX2_sure_9

theorem m_X2_sure (l : Launch) {K : QK} {G : State → Prop} (hG : QG G) (hM : QMl K) {A : QA} {rs : QX × QM} {L : QL} {x1 : Int32} {B : QA} {ro : Int32} (h : f_X2_sure x1 B = some ro) : MC l K G yX2_sure (ws_ yX2_sure cX2_sure 4 (some .int)) 5 129 0 0 [.ref (K.2.1 1000), .int x1] (A, B, L, rs) (QR (some (.int ro)) (A, B, L, rs)) := by
  refine MC.of (by decide) (Nat.le_of_ble_eq_true rfl) (lv := [(0, .ref (K.2.1 1000)), (1, .int x1)]) rfl (fun p e s m below meth c ls E hr hl hw => ?_)
  exact w_X2_sure_0 hG hM E hr _ _  h hw hl

def f_X2_toBring_57 (k15 : (Int32 → Int32 → Int32 → Int32 → QA → Option (Int32))) (x1 : Int32) (x2 : Int32) (x3 : Int32) (x4 : Int32) (x5 : Int32) (s0 : Int32) (B : QA) : Option (Int32) :=
  if x5 = (0:Int32) then (
  qlet (x4 + (1:Int32)) fun x4_5 =>
  k15 x1 x2 x3 x4_5 B) else (
  if x5 = x1 then (
  qlet (x4 + (1:Int32)) fun x4_7 =>
  k15 x1 x2 x3 x4_7 B) else (
  if s0 < x3 then (
  qlet (x4 + (1:Int32)) fun x4_9 =>
  k15 x1 x4 s0 x4_9 B) else (
  qlet (x4 + (1:Int32)) fun x4_11 =>
  k15 x1 x2 x3 x4_11 B)))
set_option maxHeartbeats 4000000 in
theorem w_X2_toBring_57 {p : Program} {l : Launch} {e : Env} {s : State} {m : MethodId} {args : Array Value} {below : List Frame} {meth : Method} {c : Code} {K : QK} {G : State → Prop} {A : QA} {rs : QX × QM} {L : QL} {ro : Int32} (hG : QG G) (hM : QMl K) (E : EV K G p s m args meth c cX2_toBring "VaneCourtModel" 7) (hr : meth.sig.returnType = (some .int)) {k15 : (Int32 → Int32 → Int32 → Int32 → QA → Option (Int32))} (hk15 : ∀ (x1 : Int32) (x2 : Int32) (x3 : Int32) (x4 : Int32) (B : QA) {H : Heap} {locs : List Loc} {ls : Array Slot}, k15 x1 x2 x3 x4 B = some ro → WP K (A, B, L, rs) H locs → lv_has ls 7 [(0, .ref (K.2.1 1000)), (1, .int x1), (2, .int x2), (3, .int x3), (4, .int x4)] → W p l e (qrm 5 129 0 0) s m args below meth c H locs 0 0 (MQ below (QE K (QR (some (.int ro)) (A, B, L, rs))) args s 0 0 (qA K)) (F0 m 15 ls [])) : ∀ (x1 : Int32) (x2 : Int32) (x3 : Int32) (x4 : Int32) (x5 : Int32) (s0 : Int32) (B : QA) {H : Heap} {locs : List Loc} {ls : Array Slot}, f_X2_toBring_57 k15 x1 x2 x3 x4 x5 s0 B = some ro → WP K (A, B, L, rs) H locs → lv_has ls 7 [(0, .ref (K.2.1 1000)), (1, .int x1), (2, .int x2), (3, .int x3), (4, .int x4), (5, .int x5)] → W p l e (qrm 5 129 0 0) s m args below meth c H locs 0 0 (MQ below (QE K (QR (some (.int ro)) (A, B, L, rs))) args s 0 0 (qA K)) (F0 m 57 ls [.int s0]) := by
  have hx := E.1
  have hb := E.2.1
  have hown := E.2.2.1
  have hts := E.2.2.2.2.1
  intro x1 x2 x3 x4 x5 s0 B H locs ls  h hw hl
  rw [f_X2_toBring_57] at h
  refine lv_istore (lv' := [(6, .int s0), (0, .ref (K.2.1 1000)), (1, .int x1), (2, .int x2), (3, .int x3), (4, .int x4), (5, .int x5)]) hx hb dX2_toBring_57 hl (by decide) rfl (fun ls hl => ?_)
  refine lv_iload hx hb dX2_toBring_59 (lv_at hl 6 rfl) ?_
  refine lv_if_eq (tgt := 85) hx hb dX2_toBring_61 (by decide) (fun c => ?_) (fun c => ?_)
  · have h := qi_t c h
    obtain ⟨x4_5, e6, h⟩ := qlet_s h
    refine lv_iinc (v := x4_5) (lv' := [(4, .int x4_5), (6, .int s0), (0, .ref (K.2.1 1000)), (1, .int x1), (2, .int x2), (3, .int x3), (5, .int x5)]) (k := 5) hx hb dX2_toBring_85 hl rfl (by rw [e6]; rfl) (by decide) rfl (fun ls hl => ?_)
    refine lv_goto (tgt := 15) hx hb dX2_toBring_88 (by decide) ?_
    exact hk15 _ _ _ _ _  h hw (lv_sub hl [2, 3, 4, 5, 0] rfl)
  · have h := qi_f c h
    refine lv_iload hx hb dX2_toBring_64 (lv_at hl 6 rfl) ?_
    refine lv_iload_n hx hb dX2_toBring_66 rfl (lv_at hl 2 rfl) ?_
    refine lv_icmp_eq (tgt := 85) hx hb dX2_toBring_67 (by decide) (fun c => ?_) (fun c => ?_)
    · have h := qi_t c h
      obtain ⟨x4_7, e8, h⟩ := qlet_s h
      refine lv_iinc (v := x4_7) (lv' := [(4, .int x4_7), (6, .int s0), (0, .ref (K.2.1 1000)), (1, .int x1), (2, .int x2), (3, .int x3), (5, .int x5)]) (k := 5) hx hb dX2_toBring_85 hl rfl (by rw [e8]; rfl) (by decide) rfl (fun ls hl => ?_)
      refine lv_goto (tgt := 15) hx hb dX2_toBring_88 (by decide) ?_
      exact hk15 _ _ _ _ _  h hw (lv_sub hl [2, 3, 4, 5, 0] rfl)
    · have h := qi_f c h
      refine lv_iload hx hb dX2_toBring_70 (lv_at hl 0 rfl) ?_
      refine lv_iload_n hx hb dX2_toBring_72 rfl (lv_at hl 4 rfl) ?_
      refine lv_icmp_lt (tgt := 79) hx hb dX2_toBring_73 (by decide) (fun c => ?_) (fun c => ?_)
      · have h := qi_t c h
        refine lv_iload hx hb dX2_toBring_79 (lv_at hl 0 rfl) ?_
        refine lv_istore_n (lv' := [(3, .int s0), (6, .int s0), (0, .ref (K.2.1 1000)), (1, .int x1), (2, .int x2), (4, .int x4), (5, .int x5)]) hx hb dX2_toBring_81 rfl hl (by decide) rfl (fun ls hl => ?_)
        refine lv_iload hx hb dX2_toBring_82 (lv_at hl 5 rfl) ?_
        refine lv_istore_n (lv' := [(2, .int x4), (3, .int s0), (6, .int s0), (0, .ref (K.2.1 1000)), (1, .int x1), (4, .int x4), (5, .int x5)]) hx hb dX2_toBring_84 rfl hl (by decide) rfl (fun ls hl => ?_)
        obtain ⟨x4_9, e10, h⟩ := qlet_s h
        refine lv_iinc (v := x4_9) (lv' := [(4, .int x4_9), (2, .int x4), (3, .int s0), (6, .int s0), (0, .ref (K.2.1 1000)), (1, .int x1), (5, .int x5)]) (k := 5) hx hb dX2_toBring_85 hl rfl (by rw [e10]; rfl) (by decide) rfl (fun ls hl => ?_)
        refine lv_goto (tgt := 15) hx hb dX2_toBring_88 (by decide) ?_
        exact hk15 _ _ _ _ _  h hw (lv_sub hl [4, 5, 1, 2, 0] rfl)
      · have h := qi_f c h
        refine lv_goto (tgt := 85) hx hb dX2_toBring_76 (by decide) ?_
        obtain ⟨x4_11, e12, h⟩ := qlet_s h
        refine lv_iinc (v := x4_11) (lv' := [(4, .int x4_11), (6, .int s0), (0, .ref (K.2.1 1000)), (1, .int x1), (2, .int x2), (3, .int x3), (5, .int x5)]) (k := 5) hx hb dX2_toBring_85 hl rfl (by rw [e12]; rfl) (by decide) rfl (fun ls hl => ?_)
        refine lv_goto (tgt := 15) hx hb dX2_toBring_88 (by decide) ?_
        exact hk15 _ _ _ _ _  h hw (lv_sub hl [2, 3, 4, 5, 0] rfl)

def f_X2_toBring_15 : Nat → Int32 → Int32 → Int32 → Int32 → QA → Option (Int32)
  | 0, _, _, _, _, _ => none
  | n + 1, x1, x2, x3, x4, B => if (B 1001 0) ≤ x4 then (
  some (x2)) else (
  qb1 (f_X2_codesBy x4 B) fun u3 =>
  if ((2:Int32) * u3) ≤ x1 then (
  f_X2_toBring_57 (fun x1' x2' x3' x4' B' => f_X2_toBring_15 n x1' x2' x3' x4' B') x1 x2 x3 x4 u3 (x1 - ((2:Int32) * u3)) B) else (
  f_X2_toBring_57 (fun x1' x2' x3' x4' B' => f_X2_toBring_15 n x1' x2' x3' x4' B') x1 x2 x3 x4 u3 (((2:Int32) * u3) - x1) B))
set_option maxHeartbeats 4000000 in
theorem w_X2_toBring_15 {p : Program} {l : Launch} {e : Env} {s : State} {m : MethodId} {args : Array Value} {below : List Frame} {meth : Method} {c : Code} {K : QK} {G : State → Prop} {A : QA} {rs : QX × QM} {L : QL} {ro : Int32} (hG : QG G) (hM : QMl K) (E : EV K G p s m args meth c cX2_toBring "VaneCourtModel" 7) (hr : meth.sig.returnType = (some .int)) : ∀ (n : Nat) (x1 : Int32) (x2 : Int32) (x3 : Int32) (x4 : Int32) (B : QA) {H : Heap} {locs : List Loc} {ls : Array Slot}, f_X2_toBring_15 n x1 x2 x3 x4 B = some ro → WP K (A, B, L, rs) H locs → lv_has ls 7 [(0, .ref (K.2.1 1000)), (1, .int x1), (2, .int x2), (3, .int x3), (4, .int x4)] → W p l e (qrm 5 129 0 0) s m args below meth c H locs 0 0 (MQ below (QE K (QR (some (.int ro)) (A, B, L, rs))) args s 0 0 (qA K)) (F0 m 15 ls []) := by
  have hx := E.1
  have hb := E.2.1
  have hown := E.2.2.1
  have hts := E.2.2.2.2.1
  intro n
  induction n with
  | zero =>
    intro x1 x2 x3 x4 B H locs ls  h hw hl
    cases h
  | succ n ih =>
    intro x1 x2 x3 x4 B H locs ls  h hw hl
    rw [f_X2_toBring_15] at h
    refine lv_iload hx hb dX2_toBring_15 (lv_at hl 4 rfl) ?_
    refine lv_aload_n hx hb dX2_toBring_17 rfl (lv_at hl 0 rfl) ?_
    refine r_getM (v := .ref (K.2.1 1001)) E hw hM 0 (by decide) q1353 rfl dX2_toBring_18 ?_
    refine lv_iconst (v := (0:Int32)) hx hb dX2_toBring_21 (by decide) ?_
    refine r_iald (j := 0) E hw (qi_1001 hM).at (q_lit (k := 0) (n := 3642) rfl rfl) (q_clamp (k := 0) rfl) dX2_toBring_22 ?_
    refine lv_icmp_ge (tgt := 91) hx hb dX2_toBring_23 (by decide) (fun c => ?_) (fun c => ?_)
    · have h := qi_t c h
      refine lv_iload_n hx hb dX2_toBring_91 rfl (lv_at hl 2 rfl) ?_
      have h := Option.some.inj h
      have h1 := h
      exact d_iret E hr rfl hw h1 rfl dX2_toBring_92
    · have h := qi_f c h
      refine lv_aload_n hx hb dX2_toBring_26 rfl (lv_at hl 0 rfl) ?_
      refine lv_iload hx hb dX2_toBring_27 (lv_at hl 4 rfl) ?_
      obtain ⟨u3, g4, h⟩ := qb1_s h
      refine d_V (As := [.int x4]) (v0 := some (.int u3)) (w0 := (A, B, L, rs)) hG E hw hl (m_X2_codesBy l hG hM  g4) (qM0 hM) rfl (cwV 1 hts (lw_V q1971 q1973 qs132 q140 q1974) rfl rfl rfl ⟨rfl, kd_X2_codesBy⟩ ⟨Nat.le_of_ble_eq_true rfl, Nat.le_of_ble_eq_true rfl⟩) rfl (rest := []) (st1 := [.int u3]) rfl rfl rfl dX2_toBring_29 ⟨Nat.le_of_ble_eq_true rfl, Nat.le_of_ble_eq_true rfl⟩ (fun H locs hw => ?_)
      refine lv_istore (lv' := [(5, .int u3), (0, .ref (K.2.1 1000)), (1, .int x1), (2, .int x2), (3, .int x3), (4, .int x4)]) hx hb dX2_toBring_32 hl (by decide) rfl (fun ls hl => ?_)
      refine lv_iconst (v := (2:Int32)) hx hb dX2_toBring_34 (by decide) ?_
      refine lv_iload hx hb dX2_toBring_35 (lv_at hl 0 rfl) ?_
      refine lv_imul hx hb dX2_toBring_37 ?_
      refine lv_iload_n hx hb dX2_toBring_38 rfl (lv_at hl 2 rfl) ?_
      refine lv_icmp_le (tgt := 51) hx hb dX2_toBring_39 (by decide) (fun c => ?_) (fun c => ?_)
      · have h := qi_t c h
        refine lv_iload_n hx hb dX2_toBring_51 rfl (lv_at hl 2 rfl) ?_
        refine lv_iconst (v := (2:Int32)) hx hb dX2_toBring_52 (by decide) ?_
        refine lv_iload hx hb dX2_toBring_53 (lv_at hl 0 rfl) ?_
        refine lv_imul hx hb dX2_toBring_55 ?_
        refine lv_isub hx hb dX2_toBring_56 ?_
        exact w_X2_toBring_57 hG hM E hr ih _ _ _ _ _ _ _   h hw (lv_sub hl [1, 2, 3, 4, 5, 0] rfl)
      · have h := qi_f c h
        refine lv_iconst (v := (2:Int32)) hx hb dX2_toBring_42 (by decide) ?_
        refine lv_iload hx hb dX2_toBring_43 (lv_at hl 0 rfl) ?_
        refine lv_imul hx hb dX2_toBring_45 ?_
        refine lv_iload_n hx hb dX2_toBring_46 rfl (lv_at hl 2 rfl) ?_
        refine lv_isub hx hb dX2_toBring_47 ?_
        refine lv_goto (tgt := 57) hx hb dX2_toBring_48 (by decide) ?_
        exact w_X2_toBring_57 hG hM E hr ih _ _ _ _ _ _ _   h hw (lv_sub hl [1, 2, 3, 4, 5, 0] rfl)

def f_X2_toBring (B : QA) : Option (Int32) :=
  qb1 (f_X2_codesBy (-1:Int32) B) fun u1 =>
  f_X2_toBring_15 FU u1 (-1:Int32) (1000000000:Int32) (0:Int32) B
set_option maxHeartbeats 4000000 in
theorem w_X2_toBring_0 {p : Program} {l : Launch} {e : Env} {s : State} {m : MethodId} {args : Array Value} {below : List Frame} {meth : Method} {c : Code} {K : QK} {G : State → Prop} {A : QA} {rs : QX × QM} {L : QL} {ro : Int32} (hG : QG G) (hM : QMl K) (E : EV K G p s m args meth c cX2_toBring "VaneCourtModel" 7) (hr : meth.sig.returnType = (some .int)) : ∀ (B : QA) {H : Heap} {locs : List Loc} {ls : Array Slot}, f_X2_toBring B = some ro → WP K (A, B, L, rs) H locs → lv_has ls 7 [(0, .ref (K.2.1 1000))] → W p l e (qrm 5 129 0 0) s m args below meth c H locs 0 0 (MQ below (QE K (QR (some (.int ro)) (A, B, L, rs))) args s 0 0 (qA K)) (F0 m 0 ls []) := by
  have hx := E.1
  have hb := E.2.1
  have hown := E.2.2.1
  have hts := E.2.2.2.2.1
  intro B H locs ls  h hw hl
  rw [f_X2_toBring] at h
  refine lv_aload_n hx hb dX2_toBring_0 rfl (lv_at hl 0 rfl) ?_
  refine lv_iconst (v := (-1:Int32)) hx hb dX2_toBring_1 (by decide) ?_
  obtain ⟨u1, g2, h⟩ := qb1_s h
  refine d_V (As := [.int (-1:Int32)]) (v0 := some (.int u1)) (w0 := (A, B, L, rs)) hG E hw hl (m_X2_codesBy l hG hM  g2) (qM0 hM) rfl (cwV 1 hts (lw_V q1971 q1973 qs132 q140 q1974) rfl rfl rfl ⟨rfl, kd_X2_codesBy⟩ ⟨Nat.le_of_ble_eq_true rfl, Nat.le_of_ble_eq_true rfl⟩) rfl (rest := []) (st1 := [.int u1]) rfl rfl rfl dX2_toBring_2 ⟨Nat.le_of_ble_eq_true rfl, Nat.le_of_ble_eq_true rfl⟩ (fun H locs hw => ?_)
  refine lv_istore_n (lv' := [(1, .int u1), (0, .ref (K.2.1 1000))]) hx hb dX2_toBring_5 rfl hl (by decide) rfl (fun ls hl => ?_)
  refine lv_iconst (v := (-1:Int32)) hx hb dX2_toBring_6 (by decide) ?_
  refine lv_istore_n (lv' := [(2, .int (-1:Int32)), (1, .int u1), (0, .ref (K.2.1 1000))]) hx hb dX2_toBring_7 rfl hl (by decide) rfl (fun ls hl => ?_)
  refine lv_ldcw (v := (1000000000:Int32)) hx hb hown (hts _ q1958) dX2_toBring_8 ?_
  refine lv_istore_n (lv' := [(3, .int (1000000000:Int32)), (2, .int (-1:Int32)), (1, .int u1), (0, .ref (K.2.1 1000))]) hx hb dX2_toBring_11 rfl hl (by decide) rfl (fun ls hl => ?_)
  refine lv_iconst (v := (0:Int32)) hx hb dX2_toBring_12 (by decide) ?_
  refine lv_istore (lv' := [(4, .int (0:Int32)), (3, .int (1000000000:Int32)), (2, .int (-1:Int32)), (1, .int u1), (0, .ref (K.2.1 1000))]) hx hb dX2_toBring_13 hl (by decide) rfl (fun ls hl => ?_)
  exact w_X2_toBring_15 hG hM E hr  _ _ _ _ _ _   h hw (lv_sub hl [4, 3, 2, 1, 0] rfl)

theorem m_X2_toBring (l : Launch) {K : QK} {G : State → Prop} (hG : QG G) (hM : QMl K) {A : QA} {rs : QX × QM} {L : QL} {B : QA} {ro : Int32} (h : f_X2_toBring B = some ro) : MC l K G yX2_toBring (ws_ yX2_toBring cX2_toBring 7 (some .int)) 5 129 0 0 [.ref (K.2.1 1000)] (A, B, L, rs) (QR (some (.int ro)) (A, B, L, rs)) := by
  refine MC.of (by decide) (Nat.le_of_ble_eq_true rfl) (lv := [(0, .ref (K.2.1 1000))]) rfl (fun p e s m below meth c ls E hr hl hw => ?_)
  exact w_X2_toBring_0 hG hM E hr _  h hw hl

def f_X2_counsel (x1 : Int32) (x2 : Int32) (B : QA) : Option (Int32 × QA) :=
  if x1 = (-1:Int32) then (
  qlet (qu B 1001 6 (0:Int32)) fun B13 =>
  some ((0:Int32), B13)) else (
  qb1 (f_X2_isIn x1 (1:Int32) (999:Int32)) fun u1 =>
  if u1 = (0:Int32) then (
  some ((-2:Int32), B)) else (
  qb1 (f_X2_isIn x2 (0:Int32) (99:Int32)) fun u3 =>
  if u3 = (0:Int32) then (
  some ((-2:Int32), B)) else (
  if (B 1001 6) = (8:Int32) then (
  some ((-2:Int32), B)) else (
  qif (qok ((116:Int32) + ((2:Int32) * (B 1001 6))) 3642) <|
  qlet (qu B 1001 ((116:Int32) + ((2:Int32) * (B 1001 6))).toNatClampNeg x1) fun B6 =>
  qif (qok (((116:Int32) + ((2:Int32) * (B6 1001 6))) + (1:Int32)) 3642) <|
  qlet (qu B6 1001 (((116:Int32) + ((2:Int32) * (B6 1001 6))) + (1:Int32)).toNatClampNeg x2) fun B9 =>
  qlet (qu B9 1001 6 ((B9 1001 6) + (1:Int32))) fun B11 =>
  some ((B11 1001 6), B11)))))
set_option maxHeartbeats 4000000 in
theorem w_X2_counsel_0 {p : Program} {l : Launch} {e : Env} {s : State} {m : MethodId} {args : Array Value} {below : List Frame} {meth : Method} {c : Code} {K : QK} {G : State → Prop} {A : QA} {rs : QX × QM} {L : QL} {ro : Int32} {Bo : QA} (hG : QG G) (hM : QMl K) (E : EV K G p s m args meth c cX2_counsel "VaneCourtModel" 3) (hr : meth.sig.returnType = (some .int)) : ∀ (x1 : Int32) (x2 : Int32) (B : QA) {H : Heap} {locs : List Loc} {ls : Array Slot}, f_X2_counsel x1 x2 B = some (ro, Bo) → WP K (A, B, L, rs) H locs → lv_has ls 3 [(0, .ref (K.2.1 1000)), (1, .int x1), (2, .int x2)] → W p l e (qrm 2 62 0 0) s m args below meth c H locs 0 0 (MQ below (QE K (QR (some (.int ro)) (A, Bo, L, rs))) args s 0 0 (qA K)) (F0 m 0 ls []) := by
  have hx := E.1
  have hb := E.2.1
  have hown := E.2.2.1
  have hts := E.2.2.2.2.1
  intro x1 x2 B H locs ls  h hw hl
  rw [f_X2_counsel] at h
  refine lv_iload_n hx hb dX2_counsel_0 rfl (lv_at hl 1 rfl) ?_
  refine lv_iconst (v := (-1:Int32)) hx hb dX2_counsel_1 (by decide) ?_
  refine lv_icmp_ne (tgt := 15) hx hb dX2_counsel_2 (by decide) (fun c => ?_) (fun c => ?_)
  · have h := qi_f c h
    refine lv_iload_n hx hb dX2_counsel_15 rfl (lv_at hl 1 rfl) ?_
    refine lv_iconst (v := (1:Int32)) hx hb dX2_counsel_16 (by decide) ?_
    refine lv_sipush (v := (999:Int32)) hx hb dX2_counsel_17 (by decide) ?_
    obtain ⟨u1, g2, h⟩ := qb1_s h
    refine d_S (As := [.int x1, .int (1:Int32), .int (999:Int32)]) (v0 := some (.int u1)) (w0 := (A, B, L, rs)) hG E hw hl (m_X2_isIn l hG hM  g2) (va_cwS 3 hts (lw_S q1480 q1481 q140 q1482) rfl rfl rfl kd_X2_isIn ⟨Nat.le_of_ble_eq_true rfl, Nat.le_of_ble_eq_true rfl⟩) rfl (rest := []) (st1 := [.int u1]) rfl rfl rfl dX2_counsel_20 ⟨Nat.le_of_ble_eq_true rfl, Nat.le_of_ble_eq_true rfl⟩ (fun H locs hw => ?_)
    refine lv_if_eq (tgt := 48) hx hb dX2_counsel_23 (by decide) (fun c => ?_) (fun c => ?_)
    · have h := qi_t c h
      refine lv_bipush (v := (-2:Int32)) hx hb dX2_counsel_48 (by decide) ?_
      have h := Option.some.inj h
      obtain ⟨h1, h2⟩ := Prod.mk.inj h
      exact d_iret E hr rfl hw h1 (by rw [h2]) dX2_counsel_50
    · have h := qi_f c h
      refine lv_iload_n hx hb dX2_counsel_26 rfl (lv_at hl 2 rfl) ?_
      refine lv_iconst (v := (0:Int32)) hx hb dX2_counsel_27 (by decide) ?_
      refine lv_bipush (v := (99:Int32)) hx hb dX2_counsel_28 (by decide) ?_
      obtain ⟨u3, g4, h⟩ := qb1_s h
      refine d_S (As := [.int x2, .int (0:Int32), .int (99:Int32)]) (v0 := some (.int u3)) (w0 := (A, B, L, rs)) hG E hw hl (m_X2_isIn l hG hM  g4) (va_cwS 3 hts (lw_S q1480 q1481 q140 q1482) rfl rfl rfl kd_X2_isIn ⟨Nat.le_of_ble_eq_true rfl, Nat.le_of_ble_eq_true rfl⟩) rfl (rest := []) (st1 := [.int u3]) rfl rfl rfl dX2_counsel_30 ⟨Nat.le_of_ble_eq_true rfl, Nat.le_of_ble_eq_true rfl⟩ (fun H locs hw => ?_)
      refine lv_if_eq (tgt := 48) hx hb dX2_counsel_33 (by decide) (fun c => ?_) (fun c => ?_)
      · have h := qi_t c h
        refine lv_bipush (v := (-2:Int32)) hx hb dX2_counsel_48 (by decide) ?_
        have h := Option.some.inj h
        obtain ⟨h1, h2⟩ := Prod.mk.inj h
        exact d_iret E hr rfl hw h1 (by rw [h2]) dX2_counsel_50
      · have h := qi_f c h
        refine lv_aload_n hx hb dX2_counsel_36 rfl (lv_at hl 0 rfl) ?_
        refine r_getM (v := .ref (K.2.1 1001)) E hw hM 0 (by decide) q1353 rfl dX2_counsel_37 ?_
        refine lv_bipush (v := (6:Int32)) hx hb dX2_counsel_40 (by decide) ?_
        refine r_iald (j := 6) E hw (qi_1001 hM).at (q_lit (k := 6) (n := 3642) rfl rfl) (q_clamp (k := 6) rfl) dX2_counsel_42 ?_
        refine lv_bipush (v := (8:Int32)) hx hb dX2_counsel_43 (by decide) ?_
        refine lv_icmp_ne (tgt := 51) hx hb dX2_counsel_45 (by decide) (fun c => ?_) (fun c => ?_)
        · have h := qi_f c h
          refine lv_aload_n hx hb dX2_counsel_51 rfl (lv_at hl 0 rfl) ?_
          refine r_getM (v := .ref (K.2.1 1001)) E hw hM 0 (by decide) q1353 rfl dX2_counsel_52 ?_
          refine lv_bipush (v := (116:Int32)) hx hb dX2_counsel_55 (by decide) ?_
          refine lv_iconst (v := (2:Int32)) hx hb dX2_counsel_57 (by decide) ?_
          refine lv_aload_n hx hb dX2_counsel_58 rfl (lv_at hl 0 rfl) ?_
          refine r_getM (v := .ref (K.2.1 1001)) E hw hM 0 (by decide) q1353 rfl dX2_counsel_59 ?_
          refine lv_bipush (v := (6:Int32)) hx hb dX2_counsel_62 (by decide) ?_
          refine r_iald (j := 6) E hw (qi_1001 hM).at (q_lit (k := 6) (n := 3642) rfl rfl) (q_clamp (k := 6) rfl) dX2_counsel_64 ?_
          refine lv_imul hx hb dX2_counsel_65 ?_
          refine lv_iadd hx hb dX2_counsel_66 ?_
          refine lv_iload_n hx hb dX2_counsel_67 rfl (lv_at hl 1 rfl) ?_
          obtain ⟨z5, h⟩ := qif_s h
          obtain ⟨B6, e7, h⟩ := qlet_s h
          refine r_iastB (j := ((116:Int32) + ((2:Int32) * (B 1001 6))).toNatClampNeg) E hw (qi_1001 hM) (qok_in z5) rfl dX2_counsel_68 (fun H locs hw => ?_)
          rw [← e7] at hw
          refine lv_aload_n hx hb dX2_counsel_69 rfl (lv_at hl 0 rfl) ?_
          refine r_getM (v := .ref (K.2.1 1001)) E hw hM 0 (by decide) q1353 rfl dX2_counsel_70 ?_
          refine lv_bipush (v := (116:Int32)) hx hb dX2_counsel_73 (by decide) ?_
          refine lv_iconst (v := (2:Int32)) hx hb dX2_counsel_75 (by decide) ?_
          refine lv_aload_n hx hb dX2_counsel_76 rfl (lv_at hl 0 rfl) ?_
          refine r_getM (v := .ref (K.2.1 1001)) E hw hM 0 (by decide) q1353 rfl dX2_counsel_77 ?_
          refine lv_bipush (v := (6:Int32)) hx hb dX2_counsel_80 (by decide) ?_
          refine r_iald (j := 6) E hw (qi_1001 hM).at (q_lit (k := 6) (n := 3642) rfl rfl) (q_clamp (k := 6) rfl) dX2_counsel_82 ?_
          refine lv_imul hx hb dX2_counsel_83 ?_
          refine lv_iadd hx hb dX2_counsel_84 ?_
          refine lv_iconst (v := (1:Int32)) hx hb dX2_counsel_85 (by decide) ?_
          refine lv_iadd hx hb dX2_counsel_86 ?_
          refine lv_iload_n hx hb dX2_counsel_87 rfl (lv_at hl 2 rfl) ?_
          obtain ⟨z8, h⟩ := qif_s h
          obtain ⟨B9, e10, h⟩ := qlet_s h
          refine r_iastB (j := (((116:Int32) + ((2:Int32) * (B6 1001 6))) + (1:Int32)).toNatClampNeg) E hw (qi_1001 hM) (qok_in z8) rfl dX2_counsel_88 (fun H locs hw => ?_)
          rw [← e10] at hw
          refine lv_aload_n hx hb dX2_counsel_89 rfl (lv_at hl 0 rfl) ?_
          refine r_getM (v := .ref (K.2.1 1001)) E hw hM 0 (by decide) q1353 rfl dX2_counsel_90 ?_
          refine lv_bipush (v := (6:Int32)) hx hb dX2_counsel_93 (by decide) ?_
          refine lv_dup2_11 hx hb dX2_counsel_95 rfl rfl ?_
          refine r_iald (j := 6) E hw (qi_1001 hM).at (q_lit (k := 6) (n := 3642) rfl rfl) (q_clamp (k := 6) rfl) dX2_counsel_96 ?_
          refine lv_iconst (v := (1:Int32)) hx hb dX2_counsel_97 (by decide) ?_
          refine lv_iadd hx hb dX2_counsel_98 ?_
          obtain ⟨B11, e12, h⟩ := qlet_s h
          refine r_iastB (j := 6) E hw (qi_1001 hM) (q_lit (k := 6) (n := 3642) rfl rfl) (q_clamp (k := 6) rfl) dX2_counsel_99 (fun H locs hw => ?_)
          rw [← e12] at hw
          refine lv_aload_n hx hb dX2_counsel_100 rfl (lv_at hl 0 rfl) ?_
          refine r_getM (v := .ref (K.2.1 1001)) E hw hM 0 (by decide) q1353 rfl dX2_counsel_101 ?_
          refine lv_bipush (v := (6:Int32)) hx hb dX2_counsel_104 (by decide) ?_
          refine r_iald (j := 6) E hw (qi_1001 hM).at (q_lit (k := 6) (n := 3642) rfl rfl) (q_clamp (k := 6) rfl) dX2_counsel_106 ?_
          have h := Option.some.inj h
          obtain ⟨h1, h2⟩ := Prod.mk.inj h
          exact d_iret E hr rfl hw h1 (by rw [h2]) dX2_counsel_107
        · have h := qi_t c h
          refine lv_bipush (v := (-2:Int32)) hx hb dX2_counsel_48 (by decide) ?_
          have h := Option.some.inj h
          obtain ⟨h1, h2⟩ := Prod.mk.inj h
          exact d_iret E hr rfl hw h1 (by rw [h2]) dX2_counsel_50
  · have h := qi_t c h
    refine lv_aload_n hx hb dX2_counsel_5 rfl (lv_at hl 0 rfl) ?_
    refine r_getM (v := .ref (K.2.1 1001)) E hw hM 0 (by decide) q1353 rfl dX2_counsel_6 ?_
    refine lv_bipush (v := (6:Int32)) hx hb dX2_counsel_9 (by decide) ?_
    refine lv_iconst (v := (0:Int32)) hx hb dX2_counsel_11 (by decide) ?_
    obtain ⟨B13, e14, h⟩ := qlet_s h
    refine r_iastB (j := 6) E hw (qi_1001 hM) (q_lit (k := 6) (n := 3642) rfl rfl) (q_clamp (k := 6) rfl) dX2_counsel_12 (fun H locs hw => ?_)
    rw [← e14] at hw
    refine lv_iconst (v := (0:Int32)) hx hb dX2_counsel_13 (by decide) ?_
    have h := Option.some.inj h
    obtain ⟨h1, h2⟩ := Prod.mk.inj h
    exact d_iret E hr rfl hw h1 (by rw [h2]) dX2_counsel_14

theorem m_X2_counsel (l : Launch) {K : QK} {G : State → Prop} (hG : QG G) (hM : QMl K) {A : QA} {rs : QX × QM} {L : QL} {x1 : Int32} {x2 : Int32} {B : QA} {ro : Int32} {Bo : QA} (h : f_X2_counsel x1 x2 B = some (ro, Bo)) : MC l K G yX2_counsel (ws_ yX2_counsel cX2_counsel 3 (some .int)) 2 62 0 0 [.ref (K.2.1 1000), .int x1, .int x2] (A, B, L, rs) (QR (some (.int ro)) (A, Bo, L, rs)) := by
  refine MC.of (by decide) (Nat.le_of_ble_eq_true rfl) (lv := [(0, .ref (K.2.1 1000)), (1, .int x1), (2, .int x2)]) rfl (fun p e s m below meth c ls E hr hl hw => ?_)
  exact w_X2_counsel_0 hG hM E hr _ _ _  h hw hl

def f_X2_together_5 : Nat → Int32 → Int32 → Int32 → Int32 → QA → Option (Int32)
  | 0, _, _, _, _, _ => none
  | n + 1, x1, x2, x3, x4, B => if (B 1001 6) ≤ x4 then (
  some (x3)) else (
  qb1 (f_X2_has x1 x4) fun u1 =>
  if u1 = (0:Int32) then (
  qlet (x3 + (0:Int32)) fun x3_3 =>
  qlet (x4 + (1:Int32)) fun x4_5 =>
  f_X2_together_5 n x1 x2 x3_3 x4_5 B) else (
  qif (qok (((116:Int32) + ((2:Int32) * x4)) + x2) 3642) <|
  qlet (x3 + (B 1001 (((116:Int32) + ((2:Int32) * x4)) + x2).toNatClampNeg)) fun x3_8 =>
  qlet (x4 + (1:Int32)) fun x4_10 =>
  f_X2_together_5 n x1 x2 x3_8 x4_10 B))
set_option maxHeartbeats 4000000 in
theorem w_X2_together_5 {p : Program} {l : Launch} {e : Env} {s : State} {m : MethodId} {args : Array Value} {below : List Frame} {meth : Method} {c : Code} {K : QK} {G : State → Prop} {A : QA} {rs : QX × QM} {L : QL} {ro : Int32} (hG : QG G) (hM : QMl K) (E : EV K G p s m args meth c cX2_together "VaneCourtModel" 5) (hr : meth.sig.returnType = (some .int)) : ∀ (n : Nat) (x1 : Int32) (x2 : Int32) (x3 : Int32) (x4 : Int32) (B : QA) {H : Heap} {locs : List Loc} {ls : Array Slot}, f_X2_together_5 n x1 x2 x3 x4 B = some ro → WP K (A, B, L, rs) H locs → lv_has ls 5 [(0, .ref (K.2.1 1000)), (1, .int x1), (2, .int x2), (3, .int x3), (4, .int x4)] → W p l e (qrm 2 61 0 0) s m args below meth c H locs 0 0 (MQ below (QE K (QR (some (.int ro)) (A, B, L, rs))) args s 0 0 (qA K)) (F0 m 5 ls []) := by
  have hx := E.1
  have hb := E.2.1
  have hown := E.2.2.1
  have hts := E.2.2.2.2.1
  intro n
  induction n with
  | zero =>
    intro x1 x2 x3 x4 B H locs ls  h hw hl
    cases h
  | succ n ih =>
    intro x1 x2 x3 x4 B H locs ls  h hw hl
    rw [f_X2_together_5] at h
    refine lv_iload hx hb dX2_together_5 (lv_at hl 4 rfl) ?_
    refine lv_aload_n hx hb dX2_together_7 rfl (lv_at hl 0 rfl) ?_
    refine r_getM (v := .ref (K.2.1 1001)) E hw hM 0 (by decide) q1353 rfl dX2_together_8 ?_
    refine lv_bipush (v := (6:Int32)) hx hb dX2_together_11 (by decide) ?_
    refine r_iald (j := 6) E hw (qi_1001 hM).at (q_lit (k := 6) (n := 3642) rfl rfl) (q_clamp (k := 6) rfl) dX2_together_13 ?_
    refine lv_icmp_ge (tgt := 53) hx hb dX2_together_14 (by decide) (fun c => ?_) (fun c => ?_)
    · have h := qi_t c h
      refine lv_iload_n hx hb dX2_together_53 rfl (lv_at hl 3 rfl) ?_
      have h := Option.some.inj h
      have h1 := h
      exact d_iret E hr rfl hw h1 rfl dX2_together_54
    · have h := qi_f c h
      refine lv_iload_n hx hb dX2_together_17 rfl (lv_at hl 3 rfl) ?_
      refine lv_iload_n hx hb dX2_together_18 rfl (lv_at hl 1 rfl) ?_
      refine lv_iload hx hb dX2_together_19 (lv_at hl 4 rfl) ?_
      obtain ⟨u1, g2, h⟩ := qb1_s h
      refine d_S (As := [.int x1, .int x4]) (v0 := some (.int u1)) (w0 := (A, B, L, rs)) hG E hw hl (m_X2_has l hG hM  g2) (va_cwS 2 hts (lw_S q1565 q1566 q140 q1567) rfl rfl rfl kd_X2_has ⟨Nat.le_of_ble_eq_true rfl, Nat.le_of_ble_eq_true rfl⟩) rfl (rest := [.int x3]) (st1 := [.int u1, .int x3]) rfl rfl rfl dX2_together_21 ⟨Nat.le_of_ble_eq_true rfl, Nat.le_of_ble_eq_true rfl⟩ (fun H locs hw => ?_)
      refine lv_if_eq (tgt := 44) hx hb dX2_together_24 (by decide) (fun c => ?_) (fun c => ?_)
      · have h := qi_t c h
        refine lv_iconst (v := (0:Int32)) hx hb dX2_together_44 (by decide) ?_
        refine lv_iadd hx hb dX2_together_45 ?_
        obtain ⟨x3_3, e4, h⟩ := qlet_s h
        refine r_nm e4 ?_
        refine lv_istore_n (lv' := [(3, .int x3_3), (0, .ref (K.2.1 1000)), (1, .int x1), (2, .int x2), (4, .int x4)]) hx hb dX2_together_46 rfl hl (by decide) rfl (fun ls hl => ?_)
        obtain ⟨x4_5, e6, h⟩ := qlet_s h
        refine lv_iinc (v := x4_5) (lv' := [(4, .int x4_5), (3, .int x3_3), (0, .ref (K.2.1 1000)), (1, .int x1), (2, .int x2)]) (k := 4) hx hb dX2_together_47 hl rfl (by rw [e6]; rfl) (by decide) rfl (fun ls hl => ?_)
        refine lv_goto (tgt := 5) hx hb dX2_together_50 (by decide) ?_
        exact ih _ _ _ _ _  h hw (lv_sub hl [2, 3, 4, 1, 0] rfl)
      · have h := qi_f c h
        refine lv_aload_n hx hb dX2_together_27 rfl (lv_at hl 0 rfl) ?_
        refine r_getM (v := .ref (K.2.1 1001)) E hw hM 0 (by decide) q1353 rfl dX2_together_28 ?_
        refine lv_bipush (v := (116:Int32)) hx hb dX2_together_31 (by decide) ?_
        refine lv_iconst (v := (2:Int32)) hx hb dX2_together_33 (by decide) ?_
        refine lv_iload hx hb dX2_together_34 (lv_at hl 4 rfl) ?_
        refine lv_imul hx hb dX2_together_36 ?_
        refine lv_iadd hx hb dX2_together_37 ?_
        refine lv_iload_n hx hb dX2_together_38 rfl (lv_at hl 2 rfl) ?_
        refine lv_iadd hx hb dX2_together_39 ?_
        obtain ⟨z7, h⟩ := qif_s h
        refine r_iald (j := (((116:Int32) + ((2:Int32) * x4)) + x2).toNatClampNeg) E hw (qi_1001 hM).at (qok_in z7) rfl dX2_together_40 ?_
        refine lv_goto (tgt := 45) hx hb dX2_together_41 (by decide) ?_
        refine lv_iadd hx hb dX2_together_45 ?_
        obtain ⟨x3_8, e9, h⟩ := qlet_s h
        refine r_nm e9 ?_
        refine lv_istore_n (lv' := [(3, .int x3_8), (0, .ref (K.2.1 1000)), (1, .int x1), (2, .int x2), (4, .int x4)]) hx hb dX2_together_46 rfl hl (by decide) rfl (fun ls hl => ?_)
        obtain ⟨x4_10, e11, h⟩ := qlet_s h
        refine lv_iinc (v := x4_10) (lv' := [(4, .int x4_10), (3, .int x3_8), (0, .ref (K.2.1 1000)), (1, .int x1), (2, .int x2)]) (k := 4) hx hb dX2_together_47 hl rfl (by rw [e11]; rfl) (by decide) rfl (fun ls hl => ?_)
        refine lv_goto (tgt := 5) hx hb dX2_together_50 (by decide) ?_
        exact ih _ _ _ _ _  h hw (lv_sub hl [2, 3, 4, 1, 0] rfl)

def f_X2_together (x1 : Int32) (x2 : Int32) (B : QA) : Option (Int32) :=
  f_X2_together_5 FU x1 x2 (0:Int32) (0:Int32) B
set_option maxHeartbeats 4000000 in
theorem w_X2_together_0 {p : Program} {l : Launch} {e : Env} {s : State} {m : MethodId} {args : Array Value} {below : List Frame} {meth : Method} {c : Code} {K : QK} {G : State → Prop} {A : QA} {rs : QX × QM} {L : QL} {ro : Int32} (hG : QG G) (hM : QMl K) (E : EV K G p s m args meth c cX2_together "VaneCourtModel" 5) (hr : meth.sig.returnType = (some .int)) : ∀ (x1 : Int32) (x2 : Int32) (B : QA) {H : Heap} {locs : List Loc} {ls : Array Slot}, f_X2_together x1 x2 B = some ro → WP K (A, B, L, rs) H locs → lv_has ls 5 [(0, .ref (K.2.1 1000)), (1, .int x1), (2, .int x2)] → W p l e (qrm 2 61 0 0) s m args below meth c H locs 0 0 (MQ below (QE K (QR (some (.int ro)) (A, B, L, rs))) args s 0 0 (qA K)) (F0 m 0 ls []) := by
  have hx := E.1
  have hb := E.2.1
  have hown := E.2.2.1
  have hts := E.2.2.2.2.1
  intro x1 x2 B H locs ls  h hw hl
  rw [f_X2_together] at h
  refine lv_iconst (v := (0:Int32)) hx hb dX2_together_0 (by decide) ?_
  refine lv_istore_n (lv' := [(3, .int (0:Int32)), (0, .ref (K.2.1 1000)), (1, .int x1), (2, .int x2)]) hx hb dX2_together_1 rfl hl (by decide) rfl (fun ls hl => ?_)
  refine lv_iconst (v := (0:Int32)) hx hb dX2_together_2 (by decide) ?_
  refine lv_istore (lv' := [(4, .int (0:Int32)), (3, .int (0:Int32)), (0, .ref (K.2.1 1000)), (1, .int x1), (2, .int x2)]) hx hb dX2_together_3 hl (by decide) rfl (fun ls hl => ?_)
  exact w_X2_together_5 hG hM E hr  _ _ _ _ _ _   h hw (lv_sub hl [2, 3, 4, 1, 0] rfl)

theorem m_X2_together (l : Launch) {K : QK} {G : State → Prop} (hG : QG G) (hM : QMl K) {A : QA} {rs : QX × QM} {L : QL} {x1 : Int32} {x2 : Int32} {B : QA} {ro : Int32} (h : f_X2_together x1 x2 B = some ro) : MC l K G yX2_together (ws_ yX2_together cX2_together 5 (some .int)) 2 61 0 0 [.ref (K.2.1 1000), .int x1, .int x2] (A, B, L, rs) (QR (some (.int ro)) (A, B, L, rs)) := by
  refine MC.of (by decide) (Nat.le_of_ble_eq_true rfl) (lv := [(0, .ref (K.2.1 1000)), (1, .int x1), (2, .int x2)]) rfl (fun p e s m below meth c ls E hr hl hw => ?_)
  exact w_X2_together_0 hG hM E hr _ _ _  h hw hl

def f_X2_hired_18 : Nat → Int32 → Int32 → Int32 → Int32 → QA → Option (Int32)
  | 0, _, _, _, _, _ => none
  | n + 1, x1, x2, x3, x4, B => if ((1:Int32) <<< ((B 1001 6) &&& 31)) ≤ x4 then (
  if x2 = (0:Int32) then (
  qb1 (f_X2_together x3 (1:Int32) B) fun u3 =>
  some (u3)) else (
  some (x3))) else (
  qb1 (f_X2_together x4 (0:Int32) B) fun u5 =>
  if u5 ≤ x1 then (
  qb1 (f_X2_together x4 (1:Int32) B) fun u7 =>
  qb1 (f_X2_together x3 (1:Int32) B) fun u9 =>
  qlet (u7 - u9) fun x5_11 =>
  if (0:Int32) < x5_11 then (
  qlet (x4 + (1:Int32)) fun x4_13 =>
  f_X2_hired_18 n x1 x2 x4 x4_13 B) else (
  if x5_11 = (0:Int32) then (
  qb1 (f_X2_together x4 (0:Int32) B) fun u17 =>
  qb1 (f_X2_together x3 (0:Int32) B) fun u19 =>
  if u19 ≤ u17 then (
  qlet (x4 + (1:Int32)) fun x4_21 =>
  f_X2_hired_18 n x1 x2 x3 x4_21 B) else (
  qlet (x4 + (1:Int32)) fun x4_23 =>
  f_X2_hired_18 n x1 x2 x4 x4_23 B)) else (
  qlet (x4 + (1:Int32)) fun x4_15 =>
  f_X2_hired_18 n x1 x2 x3 x4_15 B))) else (
  qlet (x4 + (1:Int32)) fun x4_25 =>
  f_X2_hired_18 n x1 x2 x3 x4_25 B))
set_option maxHeartbeats 4000000 in
theorem w_X2_hired_18 {p : Program} {l : Launch} {e : Env} {s : State} {m : MethodId} {args : Array Value} {below : List Frame} {meth : Method} {c : Code} {K : QK} {G : State → Prop} {A : QA} {rs : QX × QM} {L : QL} {ro : Int32} (hG : QG G) (hM : QMl K) (E : EV K G p s m args meth c cX2_hired "VaneCourtModel" 6) (hr : meth.sig.returnType = (some .int)) : ∀ (n : Nat) (x1 : Int32) (x2 : Int32) (x3 : Int32) (x4 : Int32) (B : QA) {H : Heap} {locs : List Loc} {ls : Array Slot}, f_X2_hired_18 n x1 x2 x3 x4 B = some ro → WP K (A, B, L, rs) H locs → lv_has ls 6 [(0, .ref (K.2.1 1000)), (1, .int x1), (2, .int x2), (3, .int x3), (4, .int x4)] → W p l e (qrm 3 85 0 0) s m args below meth c H locs 0 0 (MQ below (QE K (QR (some (.int ro)) (A, B, L, rs))) args s 0 0 (qA K)) (F0 m 18 ls []) := by
  have hx := E.1
  have hb := E.2.1
  have hown := E.2.2.1
  have hts := E.2.2.2.2.1
  intro n
  induction n with
  | zero =>
    intro x1 x2 x3 x4 B H locs ls  h hw hl
    cases h
  | succ n ih =>
    intro x1 x2 x3 x4 B H locs ls  h hw hl
    rw [f_X2_hired_18] at h
    refine lv_iload hx hb dX2_hired_18 (lv_at hl 4 rfl) ?_
    refine lv_iconst (v := (1:Int32)) hx hb dX2_hired_20 (by decide) ?_
    refine lv_aload_n hx hb dX2_hired_21 rfl (lv_at hl 0 rfl) ?_
    refine r_getM (v := .ref (K.2.1 1001)) E hw hM 0 (by decide) q1353 rfl dX2_hired_22 ?_
    refine lv_bipush (v := (6:Int32)) hx hb dX2_hired_25 (by decide) ?_
    refine r_iald (j := 6) E hw (qi_1001 hM).at (q_lit (k := 6) (n := 3642) rfl rfl) (q_clamp (k := 6) rfl) dX2_hired_27 ?_
    refine lv_ishl hx hb dX2_hired_28 ?_
    refine lv_icmp_ge (tgt := 97) hx hb dX2_hired_29 (by decide) (fun c => ?_) (fun c => ?_)
    · have h := qi_t c h
      refine lv_iload_n hx hb dX2_hired_97 rfl (lv_at hl 2 rfl) ?_
      refine lv_if_eq (tgt := 105) hx hb dX2_hired_98 (by decide) (fun c => ?_) (fun c => ?_)
      · have h := qi_t c h
        refine lv_aload_n hx hb dX2_hired_105 rfl (lv_at hl 0 rfl) ?_
        refine lv_iload_n hx hb dX2_hired_106 rfl (lv_at hl 3 rfl) ?_
        refine lv_iconst (v := (1:Int32)) hx hb dX2_hired_107 (by decide) ?_
        obtain ⟨u3, g4, h⟩ := qb1_s h
        refine d_V (As := [.int x3, .int (1:Int32)]) (v0 := some (.int u3)) (w0 := (A, B, L, rs)) hG E hw hl (m_X2_together l hG hM  g4) (qM0 hM) rfl (cwV 2 hts (lw_V q1999 q2001 qs135 q140 q2002) rfl rfl rfl ⟨rfl, kd_X2_together⟩ ⟨Nat.le_of_ble_eq_true rfl, Nat.le_of_ble_eq_true rfl⟩) rfl (rest := []) (st1 := [.int u3]) rfl rfl rfl dX2_hired_108 ⟨Nat.le_of_ble_eq_true rfl, Nat.le_of_ble_eq_true rfl⟩ (fun H locs hw => ?_)
        have h := Option.some.inj h
        have h1 := h
        exact d_iret E hr rfl hw h1 rfl dX2_hired_111
      · have h := qi_f c h
        refine lv_iload_n hx hb dX2_hired_101 rfl (lv_at hl 3 rfl) ?_
        refine lv_goto (tgt := 111) hx hb dX2_hired_102 (by decide) ?_
        have h := Option.some.inj h
        have h1 := h
        exact d_iret E hr rfl hw h1 rfl dX2_hired_111
    · have h := qi_f c h
      refine lv_aload_n hx hb dX2_hired_32 rfl (lv_at hl 0 rfl) ?_
      refine lv_iload hx hb dX2_hired_33 (lv_at hl 4 rfl) ?_
      refine lv_iconst (v := (0:Int32)) hx hb dX2_hired_35 (by decide) ?_
      obtain ⟨u5, g6, h⟩ := qb1_s h
      refine d_V (As := [.int x4, .int (0:Int32)]) (v0 := some (.int u5)) (w0 := (A, B, L, rs)) hG E hw hl (m_X2_together l hG hM  g6) (qM0 hM) rfl (cwV 2 hts (lw_V q1999 q2001 qs135 q140 q2002) rfl rfl rfl ⟨rfl, kd_X2_together⟩ ⟨Nat.le_of_ble_eq_true rfl, Nat.le_of_ble_eq_true rfl⟩) rfl (rest := []) (st1 := [.int u5]) rfl rfl rfl dX2_hired_36 ⟨Nat.le_of_ble_eq_true rfl, Nat.le_of_ble_eq_true rfl⟩ (fun H locs hw => ?_)
      refine lv_iload_n hx hb dX2_hired_39 rfl (lv_at hl 1 rfl) ?_
      refine lv_icmp_le (tgt := 46) hx hb dX2_hired_40 (by decide) (fun c => ?_) (fun c => ?_)
      · have h := qi_t c h
        refine lv_aload_n hx hb dX2_hired_46 rfl (lv_at hl 0 rfl) ?_
        refine lv_iload hx hb dX2_hired_47 (lv_at hl 4 rfl) ?_
        refine lv_iconst (v := (1:Int32)) hx hb dX2_hired_49 (by decide) ?_
        obtain ⟨u7, g8, h⟩ := qb1_s h
        refine d_V (As := [.int x4, .int (1:Int32)]) (v0 := some (.int u7)) (w0 := (A, B, L, rs)) hG E hw hl (m_X2_together l hG hM  g8) (qM0 hM) rfl (cwV 2 hts (lw_V q1999 q2001 qs135 q140 q2002) rfl rfl rfl ⟨rfl, kd_X2_together⟩ ⟨Nat.le_of_ble_eq_true rfl, Nat.le_of_ble_eq_true rfl⟩) rfl (rest := []) (st1 := [.int u7]) rfl rfl rfl dX2_hired_50 ⟨Nat.le_of_ble_eq_true rfl, Nat.le_of_ble_eq_true rfl⟩ (fun H locs hw => ?_)
        refine lv_aload_n hx hb dX2_hired_53 rfl (lv_at hl 0 rfl) ?_
        refine lv_iload_n hx hb dX2_hired_54 rfl (lv_at hl 3 rfl) ?_
        refine lv_iconst (v := (1:Int32)) hx hb dX2_hired_55 (by decide) ?_
        obtain ⟨u9, g10, h⟩ := qb1_s h
        refine d_V (As := [.int x3, .int (1:Int32)]) (v0 := some (.int u9)) (w0 := (A, B, L, rs)) hG E hw hl (m_X2_together l hG hM  g10) (qM0 hM) rfl (cwV 2 hts (lw_V q1999 q2001 qs135 q140 q2002) rfl rfl rfl ⟨rfl, kd_X2_together⟩ ⟨Nat.le_of_ble_eq_true rfl, Nat.le_of_ble_eq_true rfl⟩) rfl (rest := [.int u7]) (st1 := [.int u9, .int u7]) rfl rfl rfl dX2_hired_56 ⟨Nat.le_of_ble_eq_true rfl, Nat.le_of_ble_eq_true rfl⟩ (fun H locs hw => ?_)
        refine lv_isub hx hb dX2_hired_59 ?_
        obtain ⟨x5_11, e12, h⟩ := qlet_s h
        refine r_nm e12 ?_
        refine lv_istore (lv' := [(5, .int x5_11), (0, .ref (K.2.1 1000)), (1, .int x1), (2, .int x2), (3, .int x3), (4, .int x4)]) hx hb dX2_hired_60 hl (by decide) rfl (fun ls hl => ?_)
        refine lv_iload hx hb dX2_hired_62 (lv_at hl 0 rfl) ?_
        refine lv_if_gt (tgt := 88) hx hb dX2_hired_64 (by decide) (fun c => ?_) (fun c => ?_)
        · have h := qi_t c h
          refine lv_iload hx hb dX2_hired_88 (lv_at hl 5 rfl) ?_
          refine lv_istore_n (lv' := [(3, .int x4), (5, .int x5_11), (0, .ref (K.2.1 1000)), (1, .int x1), (2, .int x2), (4, .int x4)]) hx hb dX2_hired_90 rfl hl (by decide) rfl (fun ls hl => ?_)
          obtain ⟨x4_13, e14, h⟩ := qlet_s h
          refine lv_iinc (v := x4_13) (lv' := [(4, .int x4_13), (3, .int x4), (5, .int x5_11), (0, .ref (K.2.1 1000)), (1, .int x1), (2, .int x2)]) (k := 5) hx hb dX2_hired_91 hl rfl (by rw [e14]; rfl) (by decide) rfl (fun ls hl => ?_)
          refine lv_goto (tgt := 18) hx hb dX2_hired_94 (by decide) ?_
          exact ih _ _ _ _ _  h hw (lv_sub hl [3, 4, 5, 1, 0] rfl)
        · have h := qi_f c h
          refine lv_iload hx hb dX2_hired_67 (lv_at hl 0 rfl) ?_
          refine lv_if_ne (tgt := 91) hx hb dX2_hired_69 (by decide) (fun c => ?_) (fun c => ?_)
          · have h := qi_f c h
            obtain ⟨x4_15, e16, h⟩ := qlet_s h
            refine lv_iinc (v := x4_15) (lv' := [(4, .int x4_15), (5, .int x5_11), (0, .ref (K.2.1 1000)), (1, .int x1), (2, .int x2), (3, .int x3)]) (k := 5) hx hb dX2_hired_91 hl rfl (by rw [e16]; rfl) (by decide) rfl (fun ls hl => ?_)
            refine lv_goto (tgt := 18) hx hb dX2_hired_94 (by decide) ?_
            exact ih _ _ _ _ _  h hw (lv_sub hl [2, 3, 4, 5, 0] rfl)
          · have h := qi_t c h
            refine lv_aload_n hx hb dX2_hired_72 rfl (lv_at hl 1 rfl) ?_
            refine lv_iload hx hb dX2_hired_73 (lv_at hl 5 rfl) ?_
            refine lv_iconst (v := (0:Int32)) hx hb dX2_hired_75 (by decide) ?_
            obtain ⟨u17, g18, h⟩ := qb1_s h
            refine d_V (As := [.int x4, .int (0:Int32)]) (v0 := some (.int u17)) (w0 := (A, B, L, rs)) hG E hw hl (m_X2_together l hG hM  g18) (qM0 hM) rfl (cwV 2 hts (lw_V q1999 q2001 qs135 q140 q2002) rfl rfl rfl ⟨rfl, kd_X2_together⟩ ⟨Nat.le_of_ble_eq_true rfl, Nat.le_of_ble_eq_true rfl⟩) rfl (rest := []) (st1 := [.int u17]) rfl rfl rfl dX2_hired_76 ⟨Nat.le_of_ble_eq_true rfl, Nat.le_of_ble_eq_true rfl⟩ (fun H locs hw => ?_)
            refine lv_aload_n hx hb dX2_hired_79 rfl (lv_at hl 1 rfl) ?_
            refine lv_iload_n hx hb dX2_hired_80 rfl (lv_at hl 4 rfl) ?_
            refine lv_iconst (v := (0:Int32)) hx hb dX2_hired_81 (by decide) ?_
            obtain ⟨u19, g20, h⟩ := qb1_s h
            refine d_V (As := [.int x3, .int (0:Int32)]) (v0 := some (.int u19)) (w0 := (A, B, L, rs)) hG E hw hl (m_X2_together l hG hM  g20) (qM0 hM) rfl (cwV 2 hts (lw_V q1999 q2001 qs135 q140 q2002) rfl rfl rfl ⟨rfl, kd_X2_together⟩ ⟨Nat.le_of_ble_eq_true rfl, Nat.le_of_ble_eq_true rfl⟩) rfl (rest := [.int u17]) (st1 := [.int u19, .int u17]) rfl rfl rfl dX2_hired_82 ⟨Nat.le_of_ble_eq_true rfl, Nat.le_of_ble_eq_true rfl⟩ (fun H locs hw => ?_)
            refine lv_icmp_ge (tgt := 91) hx hb dX2_hired_85 (by decide) (fun c => ?_) (fun c => ?_)
            · have h := qi_t c h
              obtain ⟨x4_21, e22, h⟩ := qlet_s h
              refine lv_iinc (v := x4_21) (lv' := [(4, .int x4_21), (5, .int x5_11), (0, .ref (K.2.1 1000)), (1, .int x1), (2, .int x2), (3, .int x3)]) (k := 5) hx hb dX2_hired_91 hl rfl (by rw [e22]; rfl) (by decide) rfl (fun ls hl => ?_)
              refine lv_goto (tgt := 18) hx hb dX2_hired_94 (by decide) ?_
              exact ih _ _ _ _ _  h hw (lv_sub hl [2, 3, 4, 5, 0] rfl)
            · have h := qi_f c h
              refine lv_iload hx hb dX2_hired_88 (lv_at hl 5 rfl) ?_
              refine lv_istore_n (lv' := [(3, .int x4), (5, .int x5_11), (0, .ref (K.2.1 1000)), (1, .int x1), (2, .int x2), (4, .int x4)]) hx hb dX2_hired_90 rfl hl (by decide) rfl (fun ls hl => ?_)
              obtain ⟨x4_23, e24, h⟩ := qlet_s h
              refine lv_iinc (v := x4_23) (lv' := [(4, .int x4_23), (3, .int x4), (5, .int x5_11), (0, .ref (K.2.1 1000)), (1, .int x1), (2, .int x2)]) (k := 5) hx hb dX2_hired_91 hl rfl (by rw [e24]; rfl) (by decide) rfl (fun ls hl => ?_)
              refine lv_goto (tgt := 18) hx hb dX2_hired_94 (by decide) ?_
              exact ih _ _ _ _ _  h hw (lv_sub hl [3, 4, 5, 1, 0] rfl)
      · have h := qi_f c h
        refine lv_goto (tgt := 91) hx hb dX2_hired_43 (by decide) ?_
        obtain ⟨x4_25, e26, h⟩ := qlet_s h
        refine lv_iinc (v := x4_25) (lv' := [(4, .int x4_25), (0, .ref (K.2.1 1000)), (1, .int x1), (2, .int x2), (3, .int x3)]) (k := 4) hx hb dX2_hired_91 hl rfl (by rw [e26]; rfl) (by decide) rfl (fun ls hl => ?_)
        refine lv_goto (tgt := 18) hx hb dX2_hired_94 (by decide) ?_
        exact ih _ _ _ _ _  h hw (lv_sub hl [1, 2, 3, 4, 0] rfl)

def f_X2_hired (x1 : Int32) (x2 : Int32) (B : QA) : Option (Int32) :=
  qb1 (f_X2_isIn x1 (0:Int32) (9999:Int32)) fun u1 =>
  if u1 = (0:Int32) then (
  some ((-1:Int32))) else (
  f_X2_hired_18 FU x1 x2 (0:Int32) (1:Int32) B)
set_option maxHeartbeats 4000000 in
theorem w_X2_hired_0 {p : Program} {l : Launch} {e : Env} {s : State} {m : MethodId} {args : Array Value} {below : List Frame} {meth : Method} {c : Code} {K : QK} {G : State → Prop} {A : QA} {rs : QX × QM} {L : QL} {ro : Int32} (hG : QG G) (hM : QMl K) (E : EV K G p s m args meth c cX2_hired "VaneCourtModel" 6) (hr : meth.sig.returnType = (some .int)) : ∀ (x1 : Int32) (x2 : Int32) (B : QA) {H : Heap} {locs : List Loc} {ls : Array Slot}, f_X2_hired x1 x2 B = some ro → WP K (A, B, L, rs) H locs → lv_has ls 6 [(0, .ref (K.2.1 1000)), (1, .int x1), (2, .int x2)] → W p l e (qrm 3 85 0 0) s m args below meth c H locs 0 0 (MQ below (QE K (QR (some (.int ro)) (A, B, L, rs))) args s 0 0 (qA K)) (F0 m 0 ls []) := by
  have hx := E.1
  have hb := E.2.1
  have hown := E.2.2.1
  have hts := E.2.2.2.2.1
  intro x1 x2 B H locs ls  h hw hl
  rw [f_X2_hired] at h
  refine lv_iload_n hx hb dX2_hired_0 rfl (lv_at hl 1 rfl) ?_
  refine lv_iconst (v := (0:Int32)) hx hb dX2_hired_1 (by decide) ?_
  refine lv_sipush (v := (9999:Int32)) hx hb dX2_hired_2 (by decide) ?_
  obtain ⟨u1, g2, h⟩ := qb1_s h
  refine d_S (As := [.int x1, .int (0:Int32), .int (9999:Int32)]) (v0 := some (.int u1)) (w0 := (A, B, L, rs)) hG E hw hl (m_X2_isIn l hG hM  g2) (va_cwS 3 hts (lw_S q1480 q1481 q140 q1482) rfl rfl rfl kd_X2_isIn ⟨Nat.le_of_ble_eq_true rfl, Nat.le_of_ble_eq_true rfl⟩) rfl (rest := []) (st1 := [.int u1]) rfl rfl rfl dX2_hired_5 ⟨Nat.le_of_ble_eq_true rfl, Nat.le_of_ble_eq_true rfl⟩ (fun H locs hw => ?_)
  refine lv_if_ne (tgt := 13) hx hb dX2_hired_8 (by decide) (fun c => ?_) (fun c => ?_)
  · have h := qi_f c h
    refine lv_iconst (v := (0:Int32)) hx hb dX2_hired_13 (by decide) ?_
    refine lv_istore_n (lv' := [(3, .int (0:Int32)), (0, .ref (K.2.1 1000)), (1, .int x1), (2, .int x2)]) hx hb dX2_hired_14 rfl hl (by decide) rfl (fun ls hl => ?_)
    refine lv_iconst (v := (1:Int32)) hx hb dX2_hired_15 (by decide) ?_
    refine lv_istore (lv' := [(4, .int (1:Int32)), (3, .int (0:Int32)), (0, .ref (K.2.1 1000)), (1, .int x1), (2, .int x2)]) hx hb dX2_hired_16 hl (by decide) rfl (fun ls hl => ?_)
    exact w_X2_hired_18 hG hM E hr  _ _ _ _ _ _   h hw (lv_sub hl [2, 3, 4, 1, 0] rfl)
  · have h := qi_t c h
    refine lv_iconst (v := (-1:Int32)) hx hb dX2_hired_11 (by decide) ?_
    have h := Option.some.inj h
    have h1 := h
    exact d_iret E hr rfl hw h1 rfl dX2_hired_12

theorem m_X2_hired (l : Launch) {K : QK} {G : State → Prop} (hG : QG G) (hM : QMl K) {A : QA} {rs : QX × QM} {L : QL} {x1 : Int32} {x2 : Int32} {B : QA} {ro : Int32} (h : f_X2_hired x1 x2 B = some ro) : MC l K G yX2_hired (ws_ yX2_hired cX2_hired 6 (some .int)) 3 85 0 0 [.ref (K.2.1 1000), .int x1, .int x2] (A, B, L, rs) (QR (some (.int ro)) (A, B, L, rs)) := by
  refine MC.of (by decide) (Nat.le_of_ble_eq_true rfl) (lv := [(0, .ref (K.2.1 1000)), (1, .int x1), (2, .int x2)]) rfl (fun p e s m below meth c ls E hr hl hw => ?_)
  exact w_X2_hired_0 hG hM E hr _ _ _  h hw hl

def f_X2_calm_92 (k57 : (Int32 → Int32 → Int32 → Int32 → QA → QL → Option (Int32 × QA × QL))) (x2 : Int32) (x3 : Int32) (x5 : Int32) (s0 : Int32) (B : QA) (L : QL) : Option (Int32 × QA × QL) :=
  if s0 ≤ x3 then (
  qlet (x5 + (1:Int32)) fun x5_8 =>
  k57 x2 x3 s0 x5_8 B L) else (
  qlet (x5 + (1:Int32)) fun x5_10 =>
  k57 x2 s0 s0 x5_10 B L)
set_option maxHeartbeats 4000000 in
theorem w_X2_calm_92 {p : Program} {l : Launch} {e : Env} {s : State} {m : MethodId} {args : Array Value} {below : List Frame} {meth : Method} {c : Code} {K : QK} {G : State → Prop} {A : QA} {rs : QX × QM} {ro : Int32} {Bo : QA} {Lo : QL} (hG : QG G) (hM : QMl K) (E : EV K G p s m args meth c cX2_calm "VaneCourtModel" 6) (hr : meth.sig.returnType = (some .int)) {k57 : (Int32 → Int32 → Int32 → Int32 → QA → QL → Option (Int32 × QA × QL))} (hk57 : ∀ (x2 : Int32) (x3 : Int32) (x4 : Int32) (x5 : Int32) (B : QA) (L : QL) {H : Heap} {locs : List Loc} {ls : Array Slot}, k57 x2 x3 x4 x5 B L = some (ro, Bo, Lo) → WP K (A, B, L, rs) H locs → lv_has ls 6 [(0, .ref (K.2.1 1000)), (2, .int x2), (3, .int x3), (4, .int x4), (5, .int x5)] → W p l e (qrm 7 185 0 0) s m args below meth c H locs 0 0 (MQ below (QE K (QR (some (.int ro)) (A, Bo, Lo, rs))) args s 0 0 (qA K)) (F0 m 57 ls [])) : ∀ (x2 : Int32) (x3 : Int32) (x5 : Int32) (s0 : Int32) (B : QA) (L : QL) {H : Heap} {locs : List Loc} {ls : Array Slot}, f_X2_calm_92 k57 x2 x3 x5 s0 B L = some (ro, Bo, Lo) → WP K (A, B, L, rs) H locs → lv_has ls 6 [(0, .ref (K.2.1 1000)), (2, .int x2), (3, .int x3), (5, .int x5)] → W p l e (qrm 7 185 0 0) s m args below meth c H locs 0 0 (MQ below (QE K (QR (some (.int ro)) (A, Bo, Lo, rs))) args s 0 0 (qA K)) (F0 m 92 ls [.int s0]) := by
  have hx := E.1
  have hb := E.2.1
  have hown := E.2.2.1
  have hts := E.2.2.2.2.1
  intro x2 x3 x5 s0 B L H locs ls  h hw hl
  rw [f_X2_calm_92] at h
  refine lv_istore (lv' := [(4, .int s0), (0, .ref (K.2.1 1000)), (2, .int x2), (3, .int x3), (5, .int x5)]) hx hb dX2_calm_92 hl (by decide) rfl (fun ls hl => ?_)
  refine lv_iload hx hb dX2_calm_94 (lv_at hl 0 rfl) ?_
  refine lv_iload_n hx hb dX2_calm_96 rfl (lv_at hl 3 rfl) ?_
  refine lv_icmp_le (tgt := 105) hx hb dX2_calm_97 (by decide) (fun c => ?_) (fun c => ?_)
  · have h := qi_t c h
    refine lv_iload_n hx hb dX2_calm_105 rfl (lv_at hl 3 rfl) ?_
    refine lv_istore_n (lv' := [(3, .int x3), (4, .int s0), (0, .ref (K.2.1 1000)), (2, .int x2), (5, .int x5)]) hx hb dX2_calm_106 rfl hl (by decide) rfl (fun ls hl => ?_)
    obtain ⟨x5_8, e9, h⟩ := qlet_s h
    refine lv_iinc (v := x5_8) (lv' := [(5, .int x5_8), (3, .int x3), (4, .int s0), (0, .ref (K.2.1 1000)), (2, .int x2)]) (k := 4) hx hb dX2_calm_107 hl rfl (by rw [e9]; rfl) (by decide) rfl (fun ls hl => ?_)
    refine lv_goto (tgt := 57) hx hb dX2_calm_110 (by decide) ?_
    exact hk57 _ _ _ _ _ _  h hw (lv_sub hl [3, 4, 1, 2, 0] rfl)
  · have h := qi_f c h
    refine lv_iload hx hb dX2_calm_100 (lv_at hl 0 rfl) ?_
    refine lv_goto (tgt := 106) hx hb dX2_calm_102 (by decide) ?_
    refine lv_istore_n (lv' := [(3, .int s0), (4, .int s0), (0, .ref (K.2.1 1000)), (2, .int x2), (5, .int x5)]) hx hb dX2_calm_106 rfl hl (by decide) rfl (fun ls hl => ?_)
    obtain ⟨x5_10, e11, h⟩ := qlet_s h
    refine lv_iinc (v := x5_10) (lv' := [(5, .int x5_10), (3, .int s0), (4, .int s0), (0, .ref (K.2.1 1000)), (2, .int x2)]) (k := 4) hx hb dX2_calm_107 hl rfl (by rw [e11]; rfl) (by decide) rfl (fun ls hl => ?_)
    refine lv_goto (tgt := 57) hx hb dX2_calm_110 (by decide) ?_
    exact hk57 _ _ _ _ _ _  h hw (lv_sub hl [3, 4, 1, 2, 0] rfl)

def f_X2_calm_84 (k57 : (Int32 → Int32 → Int32 → Int32 → QA → QL → Option (Int32 × QA × QL))) (x2 : Int32) (x3 : Int32) (x4 : Int32) (x5 : Int32) (B : QA) (L : QL) : Option (Int32 × QA × QL) :=
  f_X2_calm_92 k57 x2 x3 x5 (x4 + (1:Int32)) B L
set_option maxHeartbeats 4000000 in
theorem w_X2_calm_84 {p : Program} {l : Launch} {e : Env} {s : State} {m : MethodId} {args : Array Value} {below : List Frame} {meth : Method} {c : Code} {K : QK} {G : State → Prop} {A : QA} {rs : QX × QM} {ro : Int32} {Bo : QA} {Lo : QL} (hG : QG G) (hM : QMl K) (E : EV K G p s m args meth c cX2_calm "VaneCourtModel" 6) (hr : meth.sig.returnType = (some .int)) {k57 : (Int32 → Int32 → Int32 → Int32 → QA → QL → Option (Int32 × QA × QL))} (hk57 : ∀ (x2 : Int32) (x3 : Int32) (x4 : Int32) (x5 : Int32) (B : QA) (L : QL) {H : Heap} {locs : List Loc} {ls : Array Slot}, k57 x2 x3 x4 x5 B L = some (ro, Bo, Lo) → WP K (A, B, L, rs) H locs → lv_has ls 6 [(0, .ref (K.2.1 1000)), (2, .int x2), (3, .int x3), (4, .int x4), (5, .int x5)] → W p l e (qrm 7 185 0 0) s m args below meth c H locs 0 0 (MQ below (QE K (QR (some (.int ro)) (A, Bo, Lo, rs))) args s 0 0 (qA K)) (F0 m 57 ls [])) : ∀ (x2 : Int32) (x3 : Int32) (x4 : Int32) (x5 : Int32) (B : QA) (L : QL) {H : Heap} {locs : List Loc} {ls : Array Slot}, f_X2_calm_84 k57 x2 x3 x4 x5 B L = some (ro, Bo, Lo) → WP K (A, B, L, rs) H locs → lv_has ls 6 [(0, .ref (K.2.1 1000)), (2, .int x2), (3, .int x3), (4, .int x4), (5, .int x5)] → W p l e (qrm 7 185 0 0) s m args below meth c H locs 0 0 (MQ below (QE K (QR (some (.int ro)) (A, Bo, Lo, rs))) args s 0 0 (qA K)) (F0 m 84 ls []) := by
  have hx := E.1
  have hb := E.2.1
  have hown := E.2.2.1
  have hts := E.2.2.2.2.1
  intro x2 x3 x4 x5 B L H locs ls  h hw hl
  rw [f_X2_calm_84] at h
  refine lv_iload hx hb dX2_calm_84 (lv_at hl 3 rfl) ?_
  refine lv_iconst (v := (1:Int32)) hx hb dX2_calm_86 (by decide) ?_
  refine lv_iadd hx hb dX2_calm_87 ?_
  refine lv_goto (tgt := 92) hx hb dX2_calm_88 (by decide) ?_
  exact w_X2_calm_92 hG hM E hr hk57 _ _ _ _ _ _   h hw (lv_sub hl [0, 1, 2, 4] rfl)

def f_X2_calm_57 : Nat → Int32 → Int32 → Int32 → Int32 → QA → QL → Option (Int32 × QA × QL)
  | 0, _, _, _, _, _, _ => none
  | n + 1, x2, x3, x4, x5, B, L => if x2 ≤ x5 then (
  some (x3, B, L)) else (
  qif (qok x5 100) <|
  if (B 1011 x5.toNatClampNeg) = (0:Int32) then (
  f_X2_calm_84 (fun x2' x3' x4' x5' B' L' => f_X2_calm_57 n x2' x3' x4' x5' B' L') x2 x3 x4 x5 B L) else (
  if (B 1012 x5.toNatClampNeg) = (1:Int32) then (
  f_X2_calm_84 (fun x2' x3' x4' x5' B' L' => f_X2_calm_57 n x2' x3' x4' x5' B' L') x2 x3 x4 x5 B L) else (
  f_X2_calm_92 (fun x2' x3' x4' x5' B' L' => f_X2_calm_57 n x2' x3' x4' x5' B' L') x2 x3 x5 (0:Int32) B L)))
set_option maxHeartbeats 4000000 in
theorem w_X2_calm_57 {p : Program} {l : Launch} {e : Env} {s : State} {m : MethodId} {args : Array Value} {below : List Frame} {meth : Method} {c : Code} {K : QK} {G : State → Prop} {A : QA} {rs : QX × QM} {ro : Int32} {Bo : QA} {Lo : QL} (hG : QG G) (hM : QMl K) (E : EV K G p s m args meth c cX2_calm "VaneCourtModel" 6) (hr : meth.sig.returnType = (some .int)) : ∀ (n : Nat) (x2 : Int32) (x3 : Int32) (x4 : Int32) (x5 : Int32) (B : QA) (L : QL) {H : Heap} {locs : List Loc} {ls : Array Slot}, f_X2_calm_57 n x2 x3 x4 x5 B L = some (ro, Bo, Lo) → WP K (A, B, L, rs) H locs → lv_has ls 6 [(0, .ref (K.2.1 1000)), (2, .int x2), (3, .int x3), (4, .int x4), (5, .int x5)] → W p l e (qrm 7 185 0 0) s m args below meth c H locs 0 0 (MQ below (QE K (QR (some (.int ro)) (A, Bo, Lo, rs))) args s 0 0 (qA K)) (F0 m 57 ls []) := by
  have hx := E.1
  have hb := E.2.1
  have hown := E.2.2.1
  have hts := E.2.2.2.2.1
  intro n
  induction n with
  | zero =>
    intro x2 x3 x4 x5 B L H locs ls  h hw hl
    cases h
  | succ n ih =>
    intro x2 x3 x4 x5 B L H locs ls  h hw hl
    rw [f_X2_calm_57] at h
    refine lv_iload hx hb dX2_calm_57 (lv_at hl 4 rfl) ?_
    refine lv_iload_n hx hb dX2_calm_59 rfl (lv_at hl 1 rfl) ?_
    refine lv_icmp_ge (tgt := 113) hx hb dX2_calm_60 (by decide) (fun c => ?_) (fun c => ?_)
    · have h := qi_t c h
      refine lv_iload_n hx hb dX2_calm_113 rfl (lv_at hl 2 rfl) ?_
      have h := Option.some.inj h
      obtain ⟨h1, h2⟩ := Prod.mk.inj h
      obtain ⟨h2, h3⟩ := Prod.mk.inj h2
      exact d_iret E hr rfl hw h1 (by rw [h2, h3]) dX2_calm_114
    · have h := qi_f c h
      refine lv_aload_n hx hb dX2_calm_63 rfl (lv_at hl 0 rfl) ?_
      refine r_getM (v := .ref (K.2.1 1011)) E hw hM 31 (by decide) q1384 rfl dX2_calm_64 ?_
      refine lv_iload hx hb dX2_calm_67 (lv_at hl 4 rfl) ?_
      obtain ⟨z7, h⟩ := qif_s h
      refine r_iald (j := x5.toNatClampNeg) E hw (qi_1011 hM).at (qok_in z7) rfl dX2_calm_69 ?_
      refine lv_if_eq (tgt := 84) hx hb dX2_calm_70 (by decide) (fun c => ?_) (fun c => ?_)
      · have h := qi_t c h
        exact w_X2_calm_84 hG hM E hr ih _ _ _ _ _ _   h hw (lv_sub hl [0, 1, 2, 3, 4] rfl)
      · have h := qi_f c h
        refine lv_aload_n hx hb dX2_calm_73 rfl (lv_at hl 0 rfl) ?_
        refine r_getM (v := .ref (K.2.1 1012)) E hw hM 32 (by decide) q1385 rfl dX2_calm_74 ?_
        refine lv_iload hx hb dX2_calm_77 (lv_at hl 4 rfl) ?_
        refine r_iald (j := x5.toNatClampNeg) E hw (qi_1012 hM).at (qok_in z7) rfl dX2_calm_79 ?_
        refine lv_iconst (v := (1:Int32)) hx hb dX2_calm_80 (by decide) ?_
        refine lv_icmp_ne (tgt := 91) hx hb dX2_calm_81 (by decide) (fun c => ?_) (fun c => ?_)
        · have h := qi_f c h
          refine lv_iconst (v := (0:Int32)) hx hb dX2_calm_91 (by decide) ?_
          exact w_X2_calm_92 hG hM E hr ih _ _ _ _ _ _   h hw (lv_sub hl [0, 1, 2, 4] rfl)
        · have h := qi_t c h
          exact w_X2_calm_84 hG hM E hr ih _ _ _ _ _ _   h hw (lv_sub hl [0, 1, 2, 3, 4] rfl)

def f_X2_calm_48 (s0 : Int32) (B : QA) (L : QL) : Option (Int32 × QA × QL) :=
  f_X2_calm_57 FU s0 (0:Int32) (0:Int32) (0:Int32) B L
set_option maxHeartbeats 4000000 in
theorem w_X2_calm_48 {p : Program} {l : Launch} {e : Env} {s : State} {m : MethodId} {args : Array Value} {below : List Frame} {meth : Method} {c : Code} {K : QK} {G : State → Prop} {A : QA} {rs : QX × QM} {ro : Int32} {Bo : QA} {Lo : QL} (hG : QG G) (hM : QMl K) (E : EV K G p s m args meth c cX2_calm "VaneCourtModel" 6) (hr : meth.sig.returnType = (some .int)) : ∀ (s0 : Int32) (B : QA) (L : QL) {H : Heap} {locs : List Loc} {ls : Array Slot}, f_X2_calm_48 s0 B L = some (ro, Bo, Lo) → WP K (A, B, L, rs) H locs → lv_has ls 6 [(0, .ref (K.2.1 1000))] → W p l e (qrm 7 185 0 0) s m args below meth c H locs 0 0 (MQ below (QE K (QR (some (.int ro)) (A, Bo, Lo, rs))) args s 0 0 (qA K)) (F0 m 48 ls [.int s0]) := by
  have hx := E.1
  have hb := E.2.1
  have hown := E.2.2.1
  have hts := E.2.2.2.2.1
  intro s0 B L H locs ls  h hw hl
  rw [f_X2_calm_48] at h
  refine lv_istore_n (lv' := [(2, .int s0), (0, .ref (K.2.1 1000))]) hx hb dX2_calm_48 rfl hl (by decide) rfl (fun ls hl => ?_)
  refine lv_iconst (v := (0:Int32)) hx hb dX2_calm_49 (by decide) ?_
  refine lv_istore_n (lv' := [(3, .int (0:Int32)), (2, .int s0), (0, .ref (K.2.1 1000))]) hx hb dX2_calm_50 rfl hl (by decide) rfl (fun ls hl => ?_)
  refine lv_iconst (v := (0:Int32)) hx hb dX2_calm_51 (by decide) ?_
  refine lv_istore (lv' := [(4, .int (0:Int32)), (3, .int (0:Int32)), (2, .int s0), (0, .ref (K.2.1 1000))]) hx hb dX2_calm_52 hl (by decide) rfl (fun ls hl => ?_)
  refine lv_iconst (v := (0:Int32)) hx hb dX2_calm_54 (by decide) ?_
  refine lv_istore (lv' := [(5, .int (0:Int32)), (4, .int (0:Int32)), (3, .int (0:Int32)), (2, .int s0), (0, .ref (K.2.1 1000))]) hx hb dX2_calm_55 hl (by decide) rfl (fun ls hl => ?_)
  exact w_X2_calm_57 hG hM E hr  _ _ _ _ _ _ _   h hw (lv_sub hl [4, 3, 2, 1, 0] rfl)

def f_X2_calm (x1 : Int32) (B : QA) (L : QL) : Option (Int32 × QA × QL) :=
  qb1 (f_X2_isIn x1 (1:Int32) (60:Int32)) fun u1 =>
  if u1 = (0:Int32) then (
  some ((-1:Int32), B, L)) else (
  qb3 (f_X2_layWinds x1 B L) fun u3 B4 L5 =>
  if ((9999:Int32) - (B4 1001 11)) ≤ x1 then (
  f_X2_calm_48 ((9999:Int32) - (B4 1001 11)) B4 L5) else (
  f_X2_calm_48 x1 B4 L5))
set_option maxHeartbeats 4000000 in
theorem w_X2_calm_0 {p : Program} {l : Launch} {e : Env} {s : State} {m : MethodId} {args : Array Value} {below : List Frame} {meth : Method} {c : Code} {K : QK} {G : State → Prop} {A : QA} {rs : QX × QM} {ro : Int32} {Bo : QA} {Lo : QL} (hG : QG G) (hM : QMl K) (E : EV K G p s m args meth c cX2_calm "VaneCourtModel" 6) (hr : meth.sig.returnType = (some .int)) : ∀ (x1 : Int32) (B : QA) (L : QL) {H : Heap} {locs : List Loc} {ls : Array Slot}, f_X2_calm x1 B L = some (ro, Bo, Lo) → WP K (A, B, L, rs) H locs → lv_has ls 6 [(0, .ref (K.2.1 1000)), (1, .int x1)] → W p l e (qrm 7 185 0 0) s m args below meth c H locs 0 0 (MQ below (QE K (QR (some (.int ro)) (A, Bo, Lo, rs))) args s 0 0 (qA K)) (F0 m 0 ls []) := by
  have hx := E.1
  have hb := E.2.1
  have hown := E.2.2.1
  have hts := E.2.2.2.2.1
  intro x1 B L H locs ls  h hw hl
  rw [f_X2_calm] at h
  refine lv_iload_n hx hb dX2_calm_0 rfl (lv_at hl 1 rfl) ?_
  refine lv_iconst (v := (1:Int32)) hx hb dX2_calm_1 (by decide) ?_
  refine lv_bipush (v := (60:Int32)) hx hb dX2_calm_2 (by decide) ?_
  obtain ⟨u1, g2, h⟩ := qb1_s h
  refine d_S (As := [.int x1, .int (1:Int32), .int (60:Int32)]) (v0 := some (.int u1)) (w0 := (A, B, L, rs)) hG E hw hl (m_X2_isIn l hG hM  g2) (va_cwS 3 hts (lw_S q1480 q1481 q140 q1482) rfl rfl rfl kd_X2_isIn ⟨Nat.le_of_ble_eq_true rfl, Nat.le_of_ble_eq_true rfl⟩) rfl (rest := []) (st1 := [.int u1]) rfl rfl rfl dX2_calm_4 ⟨Nat.le_of_ble_eq_true rfl, Nat.le_of_ble_eq_true rfl⟩ (fun H locs hw => ?_)
  refine lv_if_ne (tgt := 12) hx hb dX2_calm_7 (by decide) (fun c => ?_) (fun c => ?_)
  · have h := qi_f c h
    refine lv_aload_n hx hb dX2_calm_12 rfl (lv_at hl 0 rfl) ?_
    refine lv_iload_n hx hb dX2_calm_13 rfl (lv_at hl 1 rfl) ?_
    obtain ⟨u3, B4, L5, g6, h⟩ := qb3_s h
    refine d_V (As := [.int x1]) (v0 := some (.int u3)) (w0 := (A, B4, L5, rs)) hG E hw hl (m_X2_layWinds l hG hM  g6) (qM0 hM) rfl (cwV 1 hts (lw_V q1873 q1875 qs123 q140 q1876) rfl rfl rfl ⟨rfl, kd_X2_layWinds⟩ ⟨Nat.le_of_ble_eq_true rfl, Nat.le_of_ble_eq_true rfl⟩) rfl (rest := []) (st1 := [.int u3]) rfl rfl rfl dX2_calm_14 ⟨Nat.le_of_ble_eq_true rfl, Nat.le_of_ble_eq_true rfl⟩ (fun H locs hw => ?_)
    refine lv_pop hx hb dX2_calm_17 rfl ?_
    refine lv_iload_n hx hb dX2_calm_18 rfl (lv_at hl 1 rfl) ?_
    refine lv_sipush (v := (9999:Int32)) hx hb dX2_calm_19 (by decide) ?_
    refine lv_aload_n hx hb dX2_calm_22 rfl (lv_at hl 0 rfl) ?_
    refine r_getM (v := .ref (K.2.1 1001)) E hw hM 0 (by decide) q1353 rfl dX2_calm_23 ?_
    refine lv_bipush (v := (11:Int32)) hx hb dX2_calm_26 (by decide) ?_
    refine r_iald (j := 11) E hw (qi_1001 hM).at (q_lit (k := 11) (n := 3642) rfl rfl) (q_clamp (k := 11) rfl) dX2_calm_28 ?_
    refine lv_isub hx hb dX2_calm_29 ?_
    refine lv_icmp_ge (tgt := 37) hx hb dX2_calm_30 (by decide) (fun c => ?_) (fun c => ?_)
    · have h := qi_t c h
      refine lv_sipush (v := (9999:Int32)) hx hb dX2_calm_37 (by decide) ?_
      refine lv_aload_n hx hb dX2_calm_40 rfl (lv_at hl 0 rfl) ?_
      refine r_getM (v := .ref (K.2.1 1001)) E hw hM 0 (by decide) q1353 rfl dX2_calm_41 ?_
      refine lv_bipush (v := (11:Int32)) hx hb dX2_calm_44 (by decide) ?_
      refine r_iald (j := 11) E hw (qi_1001 hM).at (q_lit (k := 11) (n := 3642) rfl rfl) (q_clamp (k := 11) rfl) dX2_calm_46 ?_
      refine lv_isub hx hb dX2_calm_47 ?_
      exact w_X2_calm_48 hG hM E hr  _ _ _   h hw (lv_sub hl [0] rfl)
    · have h := qi_f c h
      refine lv_iload_n hx hb dX2_calm_33 rfl (lv_at hl 1 rfl) ?_
      refine lv_goto (tgt := 48) hx hb dX2_calm_34 (by decide) ?_
      exact w_X2_calm_48 hG hM E hr  _ _ _   h hw (lv_sub hl [0] rfl)
  · have h := qi_t c h
    refine lv_iconst (v := (-1:Int32)) hx hb dX2_calm_10 (by decide) ?_
    have h := Option.some.inj h
    obtain ⟨h1, h2⟩ := Prod.mk.inj h
    obtain ⟨h2, h3⟩ := Prod.mk.inj h2
    exact d_iret E hr rfl hw h1 (by rw [h2, h3]) dX2_calm_11

theorem m_X2_calm (l : Launch) {K : QK} {G : State → Prop} (hG : QG G) (hM : QMl K) {A : QA} {rs : QX × QM} {x1 : Int32} {B : QA} {L : QL} {ro : Int32} {Bo : QA} {Lo : QL} (h : f_X2_calm x1 B L = some (ro, Bo, Lo)) : MC l K G yX2_calm (ws_ yX2_calm cX2_calm 6 (some .int)) 7 185 0 0 [.ref (K.2.1 1000), .int x1] (A, B, L, rs) (QR (some (.int ro)) (A, Bo, Lo, rs)) := by
  refine MC.of (by decide) (Nat.le_of_ble_eq_true rfl) (lv := [(0, .ref (K.2.1 1000)), (1, .int x1)]) rfl (fun p e s m below meth c ls E hr hl hw => ?_)
  exact w_X2_calm_0 hG hM E hr _ _ _  h hw hl

def f_X2_standing_64 : Nat → Int32 → Int32 → Int32 → Int32 → QA → QL → Option (Int32 × QA × QL)
  | 0, _, _, _, _, _, _ => none
  | n + 1, x2, x3, x4, x5, B, L => if x3 ≤ x5 then (
  some (x4, B, L)) else (
  qif (qok x5 100) <|
  if (B 1010 x5.toNatClampNeg) = x2 then (
  qlet (x4 + (1:Int32)) fun x4_14 =>
  qlet (x5 + (1:Int32)) fun x5_16 =>
  f_X2_standing_64 n x2 x3 x4_14 x5_16 B L) else (
  qlet (x4 + (0:Int32)) fun x4_10 =>
  qlet (x5 + (1:Int32)) fun x5_12 =>
  f_X2_standing_64 n x2 x3 x4_10 x5_12 B L))
set_option maxHeartbeats 4000000 in
theorem w_X2_standing_64 {p : Program} {l : Launch} {e : Env} {s : State} {m : MethodId} {args : Array Value} {below : List Frame} {meth : Method} {c : Code} {K : QK} {G : State → Prop} {A : QA} {rs : QX × QM} {ro : Int32} {Bo : QA} {Lo : QL} (hG : QG G) (hM : QMl K) (E : EV K G p s m args meth c cX2_standing "VaneCourtModel" 6) (hr : meth.sig.returnType = (some .int)) : ∀ (n : Nat) (x2 : Int32) (x3 : Int32) (x4 : Int32) (x5 : Int32) (B : QA) (L : QL) {H : Heap} {locs : List Loc} {ls : Array Slot}, f_X2_standing_64 n x2 x3 x4 x5 B L = some (ro, Bo, Lo) → WP K (A, B, L, rs) H locs → lv_has ls 6 [(0, .ref (K.2.1 1000)), (2, .int x2), (3, .int x3), (4, .int x4), (5, .int x5)] → W p l e (qrm 7 185 0 0) s m args below meth c H locs 0 0 (MQ below (QE K (QR (some (.int ro)) (A, Bo, Lo, rs))) args s 0 0 (qA K)) (F0 m 64 ls []) := by
  have hx := E.1
  have hb := E.2.1
  have hown := E.2.2.1
  have hts := E.2.2.2.2.1
  intro n
  induction n with
  | zero =>
    intro x2 x3 x4 x5 B L H locs ls  h hw hl
    cases h
  | succ n ih =>
    intro x2 x3 x4 x5 B L H locs ls  h hw hl
    rw [f_X2_standing_64] at h
    refine lv_iload hx hb dX2_standing_64 (lv_at hl 4 rfl) ?_
    refine lv_iload_n hx hb dX2_standing_66 rfl (lv_at hl 2 rfl) ?_
    refine lv_icmp_ge (tgt := 97) hx hb dX2_standing_67 (by decide) (fun c => ?_) (fun c => ?_)
    · have h := qi_t c h
      refine lv_iload hx hb dX2_standing_97 (lv_at hl 3 rfl) ?_
      have h := Option.some.inj h
      obtain ⟨h1, h2⟩ := Prod.mk.inj h
      obtain ⟨h2, h3⟩ := Prod.mk.inj h2
      exact d_iret E hr rfl hw h1 (by rw [h2, h3]) dX2_standing_99
    · have h := qi_f c h
      refine lv_iload hx hb dX2_standing_70 (lv_at hl 3 rfl) ?_
      refine lv_aload_n hx hb dX2_standing_72 rfl (lv_at hl 0 rfl) ?_
      refine r_getM (v := .ref (K.2.1 1010)) E hw hM 30 (by decide) q1383 rfl dX2_standing_73 ?_
      refine lv_iload hx hb dX2_standing_76 (lv_at hl 4 rfl) ?_
      obtain ⟨z9, h⟩ := qif_s h
      refine r_iald (j := x5.toNatClampNeg) E hw (qi_1010 hM).at (qok_in z9) rfl dX2_standing_78 ?_
      refine lv_iload_n hx hb dX2_standing_79 rfl (lv_at hl 1 rfl) ?_
      refine lv_icmp_ne (tgt := 87) hx hb dX2_standing_80 (by decide) (fun c => ?_) (fun c => ?_)
      · have h := qi_f c h
        refine lv_iconst (v := (0:Int32)) hx hb dX2_standing_87 (by decide) ?_
        refine lv_iadd hx hb dX2_standing_88 ?_
        obtain ⟨x4_10, e11, h⟩ := qlet_s h
        refine r_nm e11 ?_
        refine lv_istore (lv' := [(4, .int x4_10), (0, .ref (K.2.1 1000)), (2, .int x2), (3, .int x3), (5, .int x5)]) hx hb dX2_standing_89 hl (by decide) rfl (fun ls hl => ?_)
        obtain ⟨x5_12, e13, h⟩ := qlet_s h
        refine lv_iinc (v := x5_12) (lv' := [(5, .int x5_12), (4, .int x4_10), (0, .ref (K.2.1 1000)), (2, .int x2), (3, .int x3)]) (k := 4) hx hb dX2_standing_91 hl rfl (by rw [e13]; rfl) (by decide) rfl (fun ls hl => ?_)
        refine lv_goto (tgt := 64) hx hb dX2_standing_94 (by decide) ?_
        exact ih _ _ _ _ _ _  h hw (lv_sub hl [2, 3, 4, 1, 0] rfl)
      · have h := qi_t c h
        refine lv_iconst (v := (1:Int32)) hx hb dX2_standing_83 (by decide) ?_
        refine lv_goto (tgt := 88) hx hb dX2_standing_84 (by decide) ?_
        refine lv_iadd hx hb dX2_standing_88 ?_
        obtain ⟨x4_14, e15, h⟩ := qlet_s h
        refine r_nm e15 ?_
        refine lv_istore (lv' := [(4, .int x4_14), (0, .ref (K.2.1 1000)), (2, .int x2), (3, .int x3), (5, .int x5)]) hx hb dX2_standing_89 hl (by decide) rfl (fun ls hl => ?_)
        obtain ⟨x5_16, e17, h⟩ := qlet_s h
        refine lv_iinc (v := x5_16) (lv' := [(5, .int x5_16), (4, .int x4_14), (0, .ref (K.2.1 1000)), (2, .int x2), (3, .int x3)]) (k := 4) hx hb dX2_standing_91 hl rfl (by rw [e17]; rfl) (by decide) rfl (fun ls hl => ?_)
        refine lv_goto (tgt := 64) hx hb dX2_standing_94 (by decide) ?_
        exact ih _ _ _ _ _ _  h hw (lv_sub hl [2, 3, 4, 1, 0] rfl)

def f_X2_standing_57 (x2 : Int32) (s0 : Int32) (B : QA) (L : QL) : Option (Int32 × QA × QL) :=
  f_X2_standing_64 FU x2 s0 (0:Int32) (0:Int32) B L
set_option maxHeartbeats 4000000 in
theorem w_X2_standing_57 {p : Program} {l : Launch} {e : Env} {s : State} {m : MethodId} {args : Array Value} {below : List Frame} {meth : Method} {c : Code} {K : QK} {G : State → Prop} {A : QA} {rs : QX × QM} {ro : Int32} {Bo : QA} {Lo : QL} (hG : QG G) (hM : QMl K) (E : EV K G p s m args meth c cX2_standing "VaneCourtModel" 6) (hr : meth.sig.returnType = (some .int)) : ∀ (x2 : Int32) (s0 : Int32) (B : QA) (L : QL) {H : Heap} {locs : List Loc} {ls : Array Slot}, f_X2_standing_57 x2 s0 B L = some (ro, Bo, Lo) → WP K (A, B, L, rs) H locs → lv_has ls 6 [(0, .ref (K.2.1 1000)), (2, .int x2)] → W p l e (qrm 7 185 0 0) s m args below meth c H locs 0 0 (MQ below (QE K (QR (some (.int ro)) (A, Bo, Lo, rs))) args s 0 0 (qA K)) (F0 m 57 ls [.int s0]) := by
  have hx := E.1
  have hb := E.2.1
  have hown := E.2.2.1
  have hts := E.2.2.2.2.1
  intro x2 s0 B L H locs ls  h hw hl
  rw [f_X2_standing_57] at h
  refine lv_istore_n (lv' := [(3, .int s0), (0, .ref (K.2.1 1000)), (2, .int x2)]) hx hb dX2_standing_57 rfl hl (by decide) rfl (fun ls hl => ?_)
  refine lv_iconst (v := (0:Int32)) hx hb dX2_standing_58 (by decide) ?_
  refine lv_istore (lv' := [(4, .int (0:Int32)), (3, .int s0), (0, .ref (K.2.1 1000)), (2, .int x2)]) hx hb dX2_standing_59 hl (by decide) rfl (fun ls hl => ?_)
  refine lv_iconst (v := (0:Int32)) hx hb dX2_standing_61 (by decide) ?_
  refine lv_istore (lv' := [(5, .int (0:Int32)), (4, .int (0:Int32)), (3, .int s0), (0, .ref (K.2.1 1000)), (2, .int x2)]) hx hb dX2_standing_62 hl (by decide) rfl (fun ls hl => ?_)
  exact w_X2_standing_64 hG hM E hr  _ _ _ _ _ _ _   h hw (lv_sub hl [3, 4, 2, 1, 0] rfl)

def f_X2_standing (x1 : Int32) (x2 : Int32) (B : QA) (L : QL) : Option (Int32 × QA × QL) :=
  qb1 (f_X2_isIn x1 (1:Int32) (60:Int32)) fun u1 =>
  if u1 = (0:Int32) then (
  some ((-1:Int32), B, L)) else (
  qb1 (f_X2_isIn x2 (0:Int32) (3:Int32)) fun u3 =>
  if u3 = (0:Int32) then (
  some ((-1:Int32), B, L)) else (
  qb3 (f_X2_layWinds x1 B L) fun u5 B6 L7 =>
  if ((9999:Int32) - (B6 1001 11)) ≤ x1 then (
  f_X2_standing_57 x2 ((9999:Int32) - (B6 1001 11)) B6 L7) else (
  f_X2_standing_57 x2 x1 B6 L7)))
set_option maxHeartbeats 4000000 in
theorem w_X2_standing_0 {p : Program} {l : Launch} {e : Env} {s : State} {m : MethodId} {args : Array Value} {below : List Frame} {meth : Method} {c : Code} {K : QK} {G : State → Prop} {A : QA} {rs : QX × QM} {ro : Int32} {Bo : QA} {Lo : QL} (hG : QG G) (hM : QMl K) (E : EV K G p s m args meth c cX2_standing "VaneCourtModel" 6) (hr : meth.sig.returnType = (some .int)) : ∀ (x1 : Int32) (x2 : Int32) (B : QA) (L : QL) {H : Heap} {locs : List Loc} {ls : Array Slot}, f_X2_standing x1 x2 B L = some (ro, Bo, Lo) → WP K (A, B, L, rs) H locs → lv_has ls 6 [(0, .ref (K.2.1 1000)), (1, .int x1), (2, .int x2)] → W p l e (qrm 7 185 0 0) s m args below meth c H locs 0 0 (MQ below (QE K (QR (some (.int ro)) (A, Bo, Lo, rs))) args s 0 0 (qA K)) (F0 m 0 ls []) := by
  have hx := E.1
  have hb := E.2.1
  have hown := E.2.2.1
  have hts := E.2.2.2.2.1
  intro x1 x2 B L H locs ls  h hw hl
  rw [f_X2_standing] at h
  refine lv_iload_n hx hb dX2_standing_0 rfl (lv_at hl 1 rfl) ?_
  refine lv_iconst (v := (1:Int32)) hx hb dX2_standing_1 (by decide) ?_
  refine lv_bipush (v := (60:Int32)) hx hb dX2_standing_2 (by decide) ?_
  obtain ⟨u1, g2, h⟩ := qb1_s h
  refine d_S (As := [.int x1, .int (1:Int32), .int (60:Int32)]) (v0 := some (.int u1)) (w0 := (A, B, L, rs)) hG E hw hl (m_X2_isIn l hG hM  g2) (va_cwS 3 hts (lw_S q1480 q1481 q140 q1482) rfl rfl rfl kd_X2_isIn ⟨Nat.le_of_ble_eq_true rfl, Nat.le_of_ble_eq_true rfl⟩) rfl (rest := []) (st1 := [.int u1]) rfl rfl rfl dX2_standing_4 ⟨Nat.le_of_ble_eq_true rfl, Nat.le_of_ble_eq_true rfl⟩ (fun H locs hw => ?_)
  refine lv_if_eq (tgt := 19) hx hb dX2_standing_7 (by decide) (fun c => ?_) (fun c => ?_)
  · have h := qi_t c h
    refine lv_iconst (v := (-1:Int32)) hx hb dX2_standing_19 (by decide) ?_
    have h := Option.some.inj h
    obtain ⟨h1, h2⟩ := Prod.mk.inj h
    obtain ⟨h2, h3⟩ := Prod.mk.inj h2
    exact d_iret E hr rfl hw h1 (by rw [h2, h3]) dX2_standing_20
  · have h := qi_f c h
    refine lv_iload_n hx hb dX2_standing_10 rfl (lv_at hl 2 rfl) ?_
    refine lv_iconst (v := (0:Int32)) hx hb dX2_standing_11 (by decide) ?_
    refine lv_iconst (v := (3:Int32)) hx hb dX2_standing_12 (by decide) ?_
    obtain ⟨u3, g4, h⟩ := qb1_s h
    refine d_S (As := [.int x2, .int (0:Int32), .int (3:Int32)]) (v0 := some (.int u3)) (w0 := (A, B, L, rs)) hG E hw hl (m_X2_isIn l hG hM  g4) (va_cwS 3 hts (lw_S q1480 q1481 q140 q1482) rfl rfl rfl kd_X2_isIn ⟨Nat.le_of_ble_eq_true rfl, Nat.le_of_ble_eq_true rfl⟩) rfl (rest := []) (st1 := [.int u3]) rfl rfl rfl dX2_standing_13 ⟨Nat.le_of_ble_eq_true rfl, Nat.le_of_ble_eq_true rfl⟩ (fun H locs hw => ?_)
    refine lv_if_ne (tgt := 21) hx hb dX2_standing_16 (by decide) (fun c => ?_) (fun c => ?_)
    · have h := qi_f c h
      refine lv_aload_n hx hb dX2_standing_21 rfl (lv_at hl 0 rfl) ?_
      refine lv_iload_n hx hb dX2_standing_22 rfl (lv_at hl 1 rfl) ?_
      obtain ⟨u5, B6, L7, g8, h⟩ := qb3_s h
      refine d_V (As := [.int x1]) (v0 := some (.int u5)) (w0 := (A, B6, L7, rs)) hG E hw hl (m_X2_layWinds l hG hM  g8) (qM0 hM) rfl (cwV 1 hts (lw_V q1873 q1875 qs123 q140 q1876) rfl rfl rfl ⟨rfl, kd_X2_layWinds⟩ ⟨Nat.le_of_ble_eq_true rfl, Nat.le_of_ble_eq_true rfl⟩) rfl (rest := []) (st1 := [.int u5]) rfl rfl rfl dX2_standing_23 ⟨Nat.le_of_ble_eq_true rfl, Nat.le_of_ble_eq_true rfl⟩ (fun H locs hw => ?_)
      refine lv_pop hx hb dX2_standing_26 rfl ?_
      refine lv_iload_n hx hb dX2_standing_27 rfl (lv_at hl 1 rfl) ?_
      refine lv_sipush (v := (9999:Int32)) hx hb dX2_standing_28 (by decide) ?_
      refine lv_aload_n hx hb dX2_standing_31 rfl (lv_at hl 0 rfl) ?_
      refine r_getM (v := .ref (K.2.1 1001)) E hw hM 0 (by decide) q1353 rfl dX2_standing_32 ?_
      refine lv_bipush (v := (11:Int32)) hx hb dX2_standing_35 (by decide) ?_
      refine r_iald (j := 11) E hw (qi_1001 hM).at (q_lit (k := 11) (n := 3642) rfl rfl) (q_clamp (k := 11) rfl) dX2_standing_37 ?_
      refine lv_isub hx hb dX2_standing_38 ?_
      refine lv_icmp_ge (tgt := 46) hx hb dX2_standing_39 (by decide) (fun c => ?_) (fun c => ?_)
      · have h := qi_t c h
        refine lv_sipush (v := (9999:Int32)) hx hb dX2_standing_46 (by decide) ?_
        refine lv_aload_n hx hb dX2_standing_49 rfl (lv_at hl 0 rfl) ?_
        refine r_getM (v := .ref (K.2.1 1001)) E hw hM 0 (by decide) q1353 rfl dX2_standing_50 ?_
        refine lv_bipush (v := (11:Int32)) hx hb dX2_standing_53 (by decide) ?_
        refine r_iald (j := 11) E hw (qi_1001 hM).at (q_lit (k := 11) (n := 3642) rfl rfl) (q_clamp (k := 11) rfl) dX2_standing_55 ?_
        refine lv_isub hx hb dX2_standing_56 ?_
        exact w_X2_standing_57 hG hM E hr  _ _ _ _   h hw (lv_sub hl [0, 2] rfl)
      · have h := qi_f c h
        refine lv_iload_n hx hb dX2_standing_42 rfl (lv_at hl 1 rfl) ?_
        refine lv_goto (tgt := 57) hx hb dX2_standing_43 (by decide) ?_
        exact w_X2_standing_57 hG hM E hr  _ _ _ _   h hw (lv_sub hl [0, 2] rfl)
    · have h := qi_t c h
      refine lv_iconst (v := (-1:Int32)) hx hb dX2_standing_19 (by decide) ?_
      have h := Option.some.inj h
      obtain ⟨h1, h2⟩ := Prod.mk.inj h
      obtain ⟨h2, h3⟩ := Prod.mk.inj h2
      exact d_iret E hr rfl hw h1 (by rw [h2, h3]) dX2_standing_20

theorem m_X2_standing (l : Launch) {K : QK} {G : State → Prop} (hG : QG G) (hM : QMl K) {A : QA} {rs : QX × QM} {x1 : Int32} {x2 : Int32} {B : QA} {L : QL} {ro : Int32} {Bo : QA} {Lo : QL} (h : f_X2_standing x1 x2 B L = some (ro, Bo, Lo)) : MC l K G yX2_standing (ws_ yX2_standing cX2_standing 6 (some .int)) 7 185 0 0 [.ref (K.2.1 1000), .int x1, .int x2] (A, B, L, rs) (QR (some (.int ro)) (A, Bo, Lo, rs)) := by
  refine MC.of (by decide) (Nat.le_of_ble_eq_true rfl) (lv := [(0, .ref (K.2.1 1000)), (1, .int x1), (2, .int x2)]) rfl (fun p e s m below meth c ls E hr hl hw => ?_)
  exact w_X2_standing_0 hG hM E hr _ _ _ _  h hw hl

def f_X2_image (B : QA) : Option (Int32 × QA) :=
  qb1 (f_X2_copy 1001 1002 B) fun B1 =>
  some ((B1 1001 11), B1)
set_option maxHeartbeats 4000000 in
theorem w_X2_image_0 {p : Program} {l : Launch} {e : Env} {s : State} {m : MethodId} {args : Array Value} {below : List Frame} {meth : Method} {c : Code} {K : QK} {G : State → Prop} {A : QA} {rs : QX × QM} {L : QL} {ro : Int32} {Bo : QA} (hG : QG G) (hM : QMl K) (E : EV K G p s m args meth c cX2_image "VaneCourtModel" 1) (hr : meth.sig.returnType = (some .int)) : ∀ (B : QA) {H : Heap} {locs : List Loc} {ls : Array Slot}, f_X2_image B = some (ro, Bo) → WP K (A, B, L, rs) H locs → lv_has ls 1 [(0, .ref (K.2.1 1000))] → W p l e (qrm 2 62 0 0) s m args below meth c H locs 0 0 (MQ below (QE K (QR (some (.int ro)) (A, Bo, L, rs))) args s 0 0 (qA K)) (F0 m 0 ls []) := by
  have hx := E.1
  have hb := E.2.1
  have hown := E.2.2.1
  have hts := E.2.2.2.2.1
  intro B H locs ls  h hw hl
  rw [f_X2_image] at h
  refine lv_aload_n hx hb dX2_image_0 rfl (lv_at hl 0 rfl) ?_
  refine r_getM (v := .ref (K.2.1 1001)) E hw hM 0 (by decide) q1353 rfl dX2_image_1 ?_
  refine lv_aload_n hx hb dX2_image_4 rfl (lv_at hl 0 rfl) ?_
  refine r_getM (v := .ref (K.2.1 1002)) E hw hM 1 (by decide) q1354 rfl dX2_image_5 ?_
  obtain ⟨B1, g2, h⟩ := qb1_s h
  refine d_S (As := [.ref (K.2.1 1001), .ref (K.2.1 1002)]) (v0 := none) (w0 := (A, B1, L, rs)) hG E hw hl (m_X2_copy l hG hM (qi_1001 hM) (qi_1002 hM) g2) (va_cwS 2 hts (lw_S q1350 q1351 q140 q1352) rfl rfl rfl kd_X2_copy ⟨Nat.le_of_ble_eq_true rfl, Nat.le_of_ble_eq_true rfl⟩) rfl (rest := []) (st1 := []) rfl rfl rfl dX2_image_8 ⟨Nat.le_of_ble_eq_true rfl, Nat.le_of_ble_eq_true rfl⟩ (fun H locs hw => ?_)
  refine lv_aload_n hx hb dX2_image_11 rfl (lv_at hl 0 rfl) ?_
  refine r_getM (v := .ref (K.2.1 1001)) E hw hM 0 (by decide) q1353 rfl dX2_image_12 ?_
  refine lv_bipush (v := (11:Int32)) hx hb dX2_image_15 (by decide) ?_
  refine r_iald (j := 11) E hw (qi_1001 hM).at (q_lit (k := 11) (n := 3642) rfl rfl) (q_clamp (k := 11) rfl) dX2_image_17 ?_
  have h := Option.some.inj h
  obtain ⟨h1, h2⟩ := Prod.mk.inj h
  exact d_iret E hr rfl hw h1 (by rw [h2]) dX2_image_18

theorem m_X2_image (l : Launch) {K : QK} {G : State → Prop} (hG : QG G) (hM : QMl K) {A : QA} {rs : QX × QM} {L : QL} {B : QA} {ro : Int32} {Bo : QA} (h : f_X2_image B = some (ro, Bo)) : MC l K G yX2_image (ws_ yX2_image cX2_image 1 (some .int)) 2 62 0 0 [.ref (K.2.1 1000)] (A, B, L, rs) (QR (some (.int ro)) (A, Bo, L, rs)) := by
  refine MC.of (by decide) (Nat.le_of_ble_eq_true rfl) (lv := [(0, .ref (K.2.1 1000))]) rfl (fun p e s m below meth c ls E hr hl hw => ?_)
  exact w_X2_image_0 hG hM E hr _  h hw hl

def f_X2_back (B : QA) : Option (Int32 × QA) :=
  qb1 (f_X2_copy 1002 1001 B) fun B1 =>
  some ((B1 1001 11), B1)
set_option maxHeartbeats 4000000 in
theorem w_X2_back_0 {p : Program} {l : Launch} {e : Env} {s : State} {m : MethodId} {args : Array Value} {below : List Frame} {meth : Method} {c : Code} {K : QK} {G : State → Prop} {A : QA} {rs : QX × QM} {L : QL} {ro : Int32} {Bo : QA} (hG : QG G) (hM : QMl K) (E : EV K G p s m args meth c cX2_back "VaneCourtModel" 1) (hr : meth.sig.returnType = (some .int)) : ∀ (B : QA) {H : Heap} {locs : List Loc} {ls : Array Slot}, f_X2_back B = some (ro, Bo) → WP K (A, B, L, rs) H locs → lv_has ls 1 [(0, .ref (K.2.1 1000))] → W p l e (qrm 2 62 0 0) s m args below meth c H locs 0 0 (MQ below (QE K (QR (some (.int ro)) (A, Bo, L, rs))) args s 0 0 (qA K)) (F0 m 0 ls []) := by
  have hx := E.1
  have hb := E.2.1
  have hown := E.2.2.1
  have hts := E.2.2.2.2.1
  intro B H locs ls  h hw hl
  rw [f_X2_back] at h
  refine lv_aload_n hx hb dX2_back_0 rfl (lv_at hl 0 rfl) ?_
  refine r_getM (v := .ref (K.2.1 1002)) E hw hM 1 (by decide) q1354 rfl dX2_back_1 ?_
  refine lv_aload_n hx hb dX2_back_4 rfl (lv_at hl 0 rfl) ?_
  refine r_getM (v := .ref (K.2.1 1001)) E hw hM 0 (by decide) q1353 rfl dX2_back_5 ?_
  obtain ⟨B1, g2, h⟩ := qb1_s h
  refine d_S (As := [.ref (K.2.1 1002), .ref (K.2.1 1001)]) (v0 := none) (w0 := (A, B1, L, rs)) hG E hw hl (m_X2_copy l hG hM (qi_1002 hM) (qi_1001 hM) g2) (va_cwS 2 hts (lw_S q1350 q1351 q140 q1352) rfl rfl rfl kd_X2_copy ⟨Nat.le_of_ble_eq_true rfl, Nat.le_of_ble_eq_true rfl⟩) rfl (rest := []) (st1 := []) rfl rfl rfl dX2_back_8 ⟨Nat.le_of_ble_eq_true rfl, Nat.le_of_ble_eq_true rfl⟩ (fun H locs hw => ?_)
  refine lv_aload_n hx hb dX2_back_11 rfl (lv_at hl 0 rfl) ?_
  refine r_getM (v := .ref (K.2.1 1001)) E hw hM 0 (by decide) q1353 rfl dX2_back_12 ?_
  refine lv_bipush (v := (11:Int32)) hx hb dX2_back_15 (by decide) ?_
  refine r_iald (j := 11) E hw (qi_1001 hM).at (q_lit (k := 11) (n := 3642) rfl rfl) (q_clamp (k := 11) rfl) dX2_back_17 ?_
  have h := Option.some.inj h
  obtain ⟨h1, h2⟩ := Prod.mk.inj h
  exact d_iret E hr rfl hw h1 (by rw [h2]) dX2_back_18

theorem m_X2_back (l : Launch) {K : QK} {G : State → Prop} (hG : QG G) (hM : QMl K) {A : QA} {rs : QX × QM} {L : QL} {B : QA} {ro : Int32} {Bo : QA} (h : f_X2_back B = some (ro, Bo)) : MC l K G yX2_back (ws_ yX2_back cX2_back 1 (some .int)) 2 62 0 0 [.ref (K.2.1 1000)] (A, B, L, rs) (QR (some (.int ro)) (A, Bo, L, rs)) := by
  refine MC.of (by decide) (Nat.le_of_ble_eq_true rfl) (lv := [(0, .ref (K.2.1 1000))]) rfl (fun p e s m below meth c ls E hr hl hw => ?_)
  exact w_X2_back_0 hG hM E hr _  h hw hl

def f_X2_about (x1 : Int32) (B : QA) : Option (Int32) :=
  if x1 = (0:Int32) then (
  some ((B 1001 0))) else (
  if x1 = (1:Int32) then (
  some ((B 1001 1))) else (
  if x1 = (2:Int32) then (
  some ((B 1001 2))) else (
  if x1 = (3:Int32) then (
  some ((B 1001 3))) else (
  if x1 = (4:Int32) then (
  some ((B 1001 4))) else (
  if x1 = (5:Int32) then (
  some ((B 1001 5))) else (
  if x1 = (6:Int32) then (
  some ((B 1001 6))) else (
  if x1 = (7:Int32) then (
  some ((B 1000 4))) else (
  some ((-2:Int32))))))))))
set_option maxHeartbeats 4000000 in
theorem w_X2_about_0 {p : Program} {l : Launch} {e : Env} {s : State} {m : MethodId} {args : Array Value} {below : List Frame} {meth : Method} {c : Code} {K : QK} {G : State → Prop} {A : QA} {rs : QX × QM} {L : QL} {ro : Int32} (hG : QG G) (hM : QMl K) (E : EV K G p s m args meth c cX2_about "VaneCourtModel" 2) (hr : meth.sig.returnType = (some .int)) : ∀ (x1 : Int32) (B : QA) {H : Heap} {locs : List Loc} {ls : Array Slot}, f_X2_about x1 B = some ro → WP K (A, B, L, rs) H locs → lv_has ls 2 [(0, .ref (K.2.1 1000)), (1, .int x1)] → W p l e (qrm 1 40 0 0) s m args below meth c H locs 0 0 (MQ below (QE K (QR (some (.int ro)) (A, B, L, rs))) args s 0 0 (qA K)) (F0 m 0 ls []) := by
  have hx := E.1
  have hb := E.2.1
  have hown := E.2.2.1
  have hts := E.2.2.2.2.1
  intro x1 B H locs ls  h hw hl
  rw [f_X2_about] at h
  refine lv_iload_n hx hb dX2_about_0 rfl (lv_at hl 1 rfl) ?_
  by_cases c : x1 = (0:Int32)
  · have h := qi_t c h
    refine lv_tableIn (tgt := 48) (off := 47) hx hb dX2_about_1 (by rw [c]; decide) (by rw [c]; decide) (by rw [c]; rfl) (by decide) ?_
    refine lv_aload_n hx hb dX2_about_48 rfl (lv_at hl 0 rfl) ?_
    refine r_getM (v := .ref (K.2.1 1001)) E hw hM 0 (by decide) q1353 rfl dX2_about_49 ?_
    refine lv_iconst (v := (0:Int32)) hx hb dX2_about_52 (by decide) ?_
    refine r_iald (j := 0) E hw (qi_1001 hM).at (q_lit (k := 0) (n := 3642) rfl rfl) (q_clamp (k := 0) rfl) dX2_about_53 ?_
    have h := Option.some.inj h
    have h1 := h
    exact d_iret E hr rfl hw h1 rfl dX2_about_54
  · have h := qi_f c h
    have n0 := qne32 c
    by_cases c : x1 = (1:Int32)
    · have h := qi_t c h
      refine lv_tableIn (tgt := 55) (off := 54) hx hb dX2_about_1 (by rw [c]; decide) (by rw [c]; decide) (by rw [c]; rfl) (by decide) ?_
      refine lv_aload_n hx hb dX2_about_55 rfl (lv_at hl 0 rfl) ?_
      refine r_getM (v := .ref (K.2.1 1001)) E hw hM 0 (by decide) q1353 rfl dX2_about_56 ?_
      refine lv_iconst (v := (1:Int32)) hx hb dX2_about_59 (by decide) ?_
      refine r_iald (j := 1) E hw (qi_1001 hM).at (q_lit (k := 1) (n := 3642) rfl rfl) (q_clamp (k := 1) rfl) dX2_about_60 ?_
      have h := Option.some.inj h
      have h1 := h
      exact d_iret E hr rfl hw h1 rfl dX2_about_61
    · have h := qi_f c h
      have n1 := qne32 c
      by_cases c : x1 = (2:Int32)
      · have h := qi_t c h
        refine lv_tableIn (tgt := 62) (off := 61) hx hb dX2_about_1 (by rw [c]; decide) (by rw [c]; decide) (by rw [c]; rfl) (by decide) ?_
        refine lv_aload_n hx hb dX2_about_62 rfl (lv_at hl 0 rfl) ?_
        refine r_getM (v := .ref (K.2.1 1001)) E hw hM 0 (by decide) q1353 rfl dX2_about_63 ?_
        refine lv_iconst (v := (2:Int32)) hx hb dX2_about_66 (by decide) ?_
        refine r_iald (j := 2) E hw (qi_1001 hM).at (q_lit (k := 2) (n := 3642) rfl rfl) (q_clamp (k := 2) rfl) dX2_about_67 ?_
        have h := Option.some.inj h
        have h1 := h
        exact d_iret E hr rfl hw h1 rfl dX2_about_68
      · have h := qi_f c h
        have n2 := qne32 c
        by_cases c : x1 = (3:Int32)
        · have h := qi_t c h
          refine lv_tableIn (tgt := 69) (off := 68) hx hb dX2_about_1 (by rw [c]; decide) (by rw [c]; decide) (by rw [c]; rfl) (by decide) ?_
          refine lv_aload_n hx hb dX2_about_69 rfl (lv_at hl 0 rfl) ?_
          refine r_getM (v := .ref (K.2.1 1001)) E hw hM 0 (by decide) q1353 rfl dX2_about_70 ?_
          refine lv_iconst (v := (3:Int32)) hx hb dX2_about_73 (by decide) ?_
          refine r_iald (j := 3) E hw (qi_1001 hM).at (q_lit (k := 3) (n := 3642) rfl rfl) (q_clamp (k := 3) rfl) dX2_about_74 ?_
          have h := Option.some.inj h
          have h1 := h
          exact d_iret E hr rfl hw h1 rfl dX2_about_75
        · have h := qi_f c h
          have n3 := qne32 c
          by_cases c : x1 = (4:Int32)
          · have h := qi_t c h
            refine lv_tableIn (tgt := 76) (off := 75) hx hb dX2_about_1 (by rw [c]; decide) (by rw [c]; decide) (by rw [c]; rfl) (by decide) ?_
            refine lv_aload_n hx hb dX2_about_76 rfl (lv_at hl 0 rfl) ?_
            refine r_getM (v := .ref (K.2.1 1001)) E hw hM 0 (by decide) q1353 rfl dX2_about_77 ?_
            refine lv_iconst (v := (4:Int32)) hx hb dX2_about_80 (by decide) ?_
            refine r_iald (j := 4) E hw (qi_1001 hM).at (q_lit (k := 4) (n := 3642) rfl rfl) (q_clamp (k := 4) rfl) dX2_about_81 ?_
            have h := Option.some.inj h
            have h1 := h
            exact d_iret E hr rfl hw h1 rfl dX2_about_82
          · have h := qi_f c h
            have n4 := qne32 c
            by_cases c : x1 = (5:Int32)
            · have h := qi_t c h
              refine lv_tableIn (tgt := 83) (off := 82) hx hb dX2_about_1 (by rw [c]; decide) (by rw [c]; decide) (by rw [c]; rfl) (by decide) ?_
              refine lv_aload_n hx hb dX2_about_83 rfl (lv_at hl 0 rfl) ?_
              refine r_getM (v := .ref (K.2.1 1001)) E hw hM 0 (by decide) q1353 rfl dX2_about_84 ?_
              refine lv_iconst (v := (5:Int32)) hx hb dX2_about_87 (by decide) ?_
              refine r_iald (j := 5) E hw (qi_1001 hM).at (q_lit (k := 5) (n := 3642) rfl rfl) (q_clamp (k := 5) rfl) dX2_about_88 ?_
              have h := Option.some.inj h
              have h1 := h
              exact d_iret E hr rfl hw h1 rfl dX2_about_89
            · have h := qi_f c h
              have n5 := qne32 c
              by_cases c : x1 = (6:Int32)
              · have h := qi_t c h
                refine lv_tableIn (tgt := 90) (off := 89) hx hb dX2_about_1 (by rw [c]; decide) (by rw [c]; decide) (by rw [c]; rfl) (by decide) ?_
                refine lv_aload_n hx hb dX2_about_90 rfl (lv_at hl 0 rfl) ?_
                refine r_getM (v := .ref (K.2.1 1001)) E hw hM 0 (by decide) q1353 rfl dX2_about_91 ?_
                refine lv_bipush (v := (6:Int32)) hx hb dX2_about_94 (by decide) ?_
                refine r_iald (j := 6) E hw (qi_1001 hM).at (q_lit (k := 6) (n := 3642) rfl rfl) (q_clamp (k := 6) rfl) dX2_about_96 ?_
                have h := Option.some.inj h
                have h1 := h
                exact d_iret E hr rfl hw h1 rfl dX2_about_97
              · have h := qi_f c h
                have n6 := qne32 c
                by_cases c : x1 = (7:Int32)
                · have h := qi_t c h
                  refine lv_tableIn (tgt := 98) (off := 97) hx hb dX2_about_1 (by rw [c]; decide) (by rw [c]; decide) (by rw [c]; rfl) (by decide) ?_
                  refine lv_aload_n hx hb dX2_about_98 rfl (lv_at hl 0 rfl) ?_
                  refine r_getM (v := .int (B 1000 4)) E hw hM 4 (by decide) q1357 rfl dX2_about_99 ?_
                  have h := Option.some.inj h
                  have h1 := h
                  exact d_iret E hr rfl hw h1 rfl dX2_about_102
                · have h := qi_f c h
                  have n7 := qne32 c
                  refine lv_tableOut (tgt := 103) hx hb dX2_about_1 (by have m0 : (x1).toInt ≠ 0 := n0; have m1 : (x1).toInt ≠ 1 := n1; have m2 : (x1).toInt ≠ 2 := n2; have m3 : (x1).toInt ≠ 3 := n3; have m4 : (x1).toInt ≠ 4 := n4; have m5 : (x1).toInt ≠ 5 := n5; have m6 : (x1).toInt ≠ 6 := n6; have m7 : (x1).toInt ≠ 7 := n7; omega) (by decide) ?_
                  refine lv_bipush (v := (-2:Int32)) hx hb dX2_about_103 (by decide) ?_
                  have h := Option.some.inj h
                  have h1 := h
                  exact d_iret E hr rfl hw h1 rfl dX2_about_105

theorem m_X2_about (l : Launch) {K : QK} {G : State → Prop} (hG : QG G) (hM : QMl K) {A : QA} {rs : QX × QM} {L : QL} {x1 : Int32} {B : QA} {ro : Int32} (h : f_X2_about x1 B = some ro) : MC l K G yX2_about (ws_ yX2_about cX2_about 2 (some .int)) 1 40 0 0 [.ref (K.2.1 1000), .int x1] (A, B, L, rs) (QR (some (.int ro)) (A, B, L, rs)) := by
  refine MC.of (by decide) (Nat.le_of_ble_eq_true rfl) (lv := [(0, .ref (K.2.1 1000)), (1, .int x1)]) rfl (fun p e s m below meth c ls E hr hl hw => ?_)
  exact w_X2_about_0 hG hM E hr _ _  h hw hl
