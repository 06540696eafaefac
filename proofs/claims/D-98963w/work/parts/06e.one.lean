/-! a name, whether it may be said; one (printed by mk06e.py) -/
set_option maxRecDepth 100000
theorem kd_X10_init : yX10_init.cls ≠ "java/lang/invoke/MethodHandle" ∧ yX10_init.cls ≠ "java/lang/invoke/VarHandle" ∧ (parseMethodDescriptor yX10_init.desc).map (fun d => d.parameters.length) = some 1 := by decide +kernel
theorem kd_X11_init : yX11_init.cls ≠ "java/lang/invoke/MethodHandle" ∧ yX11_init.cls ≠ "java/lang/invoke/VarHandle" ∧ (parseMethodDescriptor yX11_init.desc).map (fun d => d.parameters.length) = some 1 := by decide +kernel
theorem kd_X12_init : yX12_init.cls ≠ "java/lang/invoke/MethodHandle" ∧ yX12_init.cls ≠ "java/lang/invoke/VarHandle" ∧ (parseMethodDescriptor yX12_init.desc).map (fun d => d.parameters.length) = some 1 := by decide +kernel
theorem kd_X3_mayName : yX3_mayName.cls ≠ "java/lang/invoke/MethodHandle" ∧ yX3_mayName.cls ≠ "java/lang/invoke/VarHandle" ∧ (parseMethodDescriptor yX3_mayName.desc).map (fun d => d.parameters.length) = some 1 := by decide +kernel
theorem kd_X3_nameNow : yX3_nameNow.cls ≠ "java/lang/invoke/MethodHandle" ∧ yX3_nameNow.cls ≠ "java/lang/invoke/VarHandle" ∧ (parseMethodDescriptor yX3_nameNow.desc).map (fun d => d.parameters.length) = some 0 := by decide +kernel
theorem kd_X3_number : yX3_number.cls ≠ "java/lang/invoke/MethodHandle" ∧ yX3_number.cls ≠ "java/lang/invoke/VarHandle" ∧ (parseMethodDescriptor yX3_number.desc).map (fun d => d.parameters.length) = some 2 := by decide +kernel
theorem kd_X3_opens : yX3_opens.cls ≠ "java/lang/invoke/MethodHandle" ∧ yX3_opens.cls ≠ "java/lang/invoke/VarHandle" ∧ (parseMethodDescriptor yX3_opens.desc).map (fun d => d.parameters.length) = some 0 := by decide +kernel
theorem kd_X3_sum : yX3_sum.cls ≠ "java/lang/invoke/MethodHandle" ∧ yX3_sum.cls ≠ "java/lang/invoke/VarHandle" ∧ (parseMethodDescriptor yX3_sum.desc).map (fun d => d.parameters.length) = some 0 := by decide +kernel
theorem kd_X3_want : yX3_want.cls ≠ "java/lang/invoke/MethodHandle" ∧ yX3_want.cls ≠ "java/lang/invoke/VarHandle" ∧ (parseMethodDescriptor yX3_want.desc).map (fun d => d.parameters.length) = some 1 := by decide +kernel
set_option maxHeartbeats 4000000 in
theorem m_X3_nameNow (l : Launch) {K : QK} {G : State → Prop} {A : QA} {rs : QA × QL × QX × QM} {n : Nat} {t : QTS} (hC : QCl K) (h13 : ql K 13) : MC l K G yX3_nameNow (ws_ yX3_nameNow cX3_nameNow 1 (some .int)) 1 40 0 0 [.ref (K.2.1 13)] (tw A n t, rs) (QR (some (.int (sNameOf t.2.2.1))) (tw A n t, rs)) := by
  refine MC.of (by decide) (Nat.le_of_ble_eq_true rfl) (lv := [(0, .ref (K.2.1 13))]) rfl (fun p e s m below meth c ls E hr hl hw => ?_)
  have hx := E.1
  have hb := E.2.1
  have hown := E.2.2.1
  have hts := E.2.2.2.2.1
  generalize hv : sNameOf t.2.2.1 = v
  unfold sNameOf at hv
  refine lv_aload_n hx hb dX3_nameNow_0 rfl (lv_at hl 0 rfl) ?_
  refine r_gSort E hw hC h13 q317 dX3_nameNow_1 ?_
  refine lv_sipush (v := (211:Int32)) hx hb dX3_nameNow_4 (by decide) ?_
  refine lv_icmp_ne (tgt := 14) hx hb dX3_nameNow_7 (by decide) (fun c0 => ?_) (fun c0 => ?_)
  · rw [if_neg c0] at hv
    refine lv_aload_n hx hb dX3_nameNow_14 rfl (lv_at hl 0 rfl) ?_
    refine r_gSort E hw hC h13 q317 dX3_nameNow_15 ?_
    refine lv_sipush (v := (221:Int32)) hx hb dX3_nameNow_18 (by decide) ?_
    refine lv_icmp_ne (tgt := 28) hx hb dX3_nameNow_21 (by decide) (fun c1 => ?_) (fun c1 => ?_)
    · rw [if_neg c1] at hv
      refine lv_aload_n hx hb dX3_nameNow_28 rfl (lv_at hl 0 rfl) ?_
      refine r_gSort E hw hC h13 q317 dX3_nameNow_29 ?_
      refine lv_sipush (v := (214:Int32)) hx hb dX3_nameNow_32 (by decide) ?_
      refine lv_icmp_ne (tgt := 42) hx hb dX3_nameNow_35 (by decide) (fun c2 => ?_) (fun c2 => ?_)
      · rw [if_neg c2] at hv
        refine lv_aload_n hx hb dX3_nameNow_42 rfl (lv_at hl 0 rfl) ?_
        refine r_gSort E hw hC h13 q317 dX3_nameNow_43 ?_
        refine lv_sipush (v := (212:Int32)) hx hb dX3_nameNow_46 (by decide) ?_
        refine lv_icmp_ne (tgt := 56) hx hb dX3_nameNow_49 (by decide) (fun c3 => ?_) (fun c3 => ?_)
        · rw [if_neg c3] at hv
          refine lv_aload_n hx hb dX3_nameNow_56 rfl (lv_at hl 0 rfl) ?_
          refine r_gSort E hw hC h13 q317 dX3_nameNow_57 ?_
          refine lv_sipush (v := (222:Int32)) hx hb dX3_nameNow_60 (by decide) ?_
          refine lv_icmp_ne (tgt := 70) hx hb dX3_nameNow_63 (by decide) (fun c4 => ?_) (fun c4 => ?_)
          · rw [if_neg c4] at hv
            refine lv_aload_n hx hb dX3_nameNow_70 rfl (lv_at hl 0 rfl) ?_
            refine r_gSort E hw hC h13 q317 dX3_nameNow_71 ?_
            refine lv_sipush (v := (223:Int32)) hx hb dX3_nameNow_74 (by decide) ?_
            refine lv_icmp_ne (tgt := 84) hx hb dX3_nameNow_77 (by decide) (fun c5 => ?_) (fun c5 => ?_)
            · rw [if_neg c5] at hv
              refine lv_aload_n hx hb dX3_nameNow_84 rfl (lv_at hl 0 rfl) ?_
              refine r_gSort E hw hC h13 q317 dX3_nameNow_85 ?_
              refine lv_sipush (v := (224:Int32)) hx hb dX3_nameNow_88 (by decide) ?_
              refine lv_icmp_ne (tgt := 99) hx hb dX3_nameNow_91 (by decide) (fun c6 => ?_) (fun c6 => ?_)
              · rw [if_neg c6] at hv
                refine lv_aload_n hx hb dX3_nameNow_99 rfl (lv_at hl 0 rfl) ?_
                refine r_gSort E hw hC h13 q317 dX3_nameNow_100 ?_
                refine lv_sipush (v := (225:Int32)) hx hb dX3_nameNow_103 (by decide) ?_
                refine lv_icmp_ne (tgt := 114) hx hb dX3_nameNow_106 (by decide) (fun c7 => ?_) (fun c7 => ?_)
                · rw [if_neg c7] at hv
                  subst hv
                  refine lv_iconst (v := (-1:Int32)) hx hb dX3_nameNow_114 (by decide) ?_
                  exact d_iret E hr rfl hw rfl rfl dX3_nameNow_115
                · rw [if_pos c7] at hv
                  subst hv
                  refine lv_bipush (v := (7:Int32)) hx hb dX3_nameNow_109 (by decide) ?_
                  refine lv_goto (tgt := 115) hx hb dX3_nameNow_111 (by decide) ?_
                  exact d_iret E hr rfl hw rfl rfl dX3_nameNow_115
              · rw [if_pos c6] at hv
                subst hv
                refine lv_bipush (v := (6:Int32)) hx hb dX3_nameNow_94 (by decide) ?_
                refine lv_goto (tgt := 115) hx hb dX3_nameNow_96 (by decide) ?_
                exact d_iret E hr rfl hw rfl rfl dX3_nameNow_115
            · rw [if_pos c5] at hv
              subst hv
              refine lv_iconst (v := (4:Int32)) hx hb dX3_nameNow_80 (by decide) ?_
              refine lv_goto (tgt := 115) hx hb dX3_nameNow_81 (by decide) ?_
              exact d_iret E hr rfl hw rfl rfl dX3_nameNow_115
          · rw [if_pos c4] at hv
            subst hv
            refine lv_iconst (v := (3:Int32)) hx hb dX3_nameNow_66 (by decide) ?_
            refine lv_goto (tgt := 115) hx hb dX3_nameNow_67 (by decide) ?_
            exact d_iret E hr rfl hw rfl rfl dX3_nameNow_115
        · rw [if_pos c3] at hv
          subst hv
          refine lv_iconst (v := (5:Int32)) hx hb dX3_nameNow_52 (by decide) ?_
          refine lv_goto (tgt := 115) hx hb dX3_nameNow_53 (by decide) ?_
          exact d_iret E hr rfl hw rfl rfl dX3_nameNow_115
      · rw [if_pos c2] at hv
        subst hv
        refine lv_iconst (v := (2:Int32)) hx hb dX3_nameNow_38 (by decide) ?_
        refine lv_goto (tgt := 115) hx hb dX3_nameNow_39 (by decide) ?_
        exact d_iret E hr rfl hw rfl rfl dX3_nameNow_115
    · rw [if_pos c1] at hv
      subst hv
      refine lv_iconst (v := (1:Int32)) hx hb dX3_nameNow_24 (by decide) ?_
      refine lv_goto (tgt := 115) hx hb dX3_nameNow_25 (by decide) ?_
      exact d_iret E hr rfl hw rfl rfl dX3_nameNow_115
  · rw [if_pos c0] at hv
    subst hv
    refine lv_iconst (v := (0:Int32)) hx hb dX3_nameNow_10 (by decide) ?_
    refine lv_goto (tgt := 115) hx hb dX3_nameNow_11 (by decide) ?_
    exact d_iret E hr rfl hw rfl rfl dX3_nameNow_115
theorem sIn {x a b : Int32} : f_X0_in x a b = some (b32 (decide (a ≤ x) && decide (x ≤ b))) := by
  unfold f_X0_in
  by_cases c1 : x < a
  · rw [if_pos c1, decide_eq_false (Int32.not_le.mpr c1)]; rfl
  · rw [if_neg c1, decide_eq_true (Int32.not_lt.mp c1)]
    by_cases c2 : b < x
    · rw [if_pos c2, decide_eq_false (Int32.not_le.mpr c2)]; rfl
    · rw [if_neg c2, decide_eq_true (Int32.not_lt.mp c2)]; rfl
set_option maxHeartbeats 4000000 in
theorem m_X3_mayName (l : Launch) {K : QK} {G : State → Prop} (hG : QG G) {A : QA} {rs : QA × QL × QX × QM} {n : Nat} {t : QTS} (hC : QCl K) (h13 : ql K 13) {v : Int32} : MC l K G yX3_mayName (ws_ yX3_mayName cX3_mayName 2 (some .boolean)) 2 80 0 0 [.ref (K.2.1 13), .int v] (tw A n t, rs) (QR (some (.int (b32 (sMay t.2.2.2.2.2 v)))) (tw A n t, rs)) := by
  refine MC.of (by decide) (Nat.le_of_ble_eq_true rfl) (lv := [(0, .ref (K.2.1 13)), (1, .int v)]) rfl (fun p e s m below meth c ls E hr hl hw => ?_)
  have hx := E.1
  have hb := E.2.1
  have hown := E.2.2.1
  have hts := E.2.2.2.2.1
  generalize hz : sMay t.2.2.2.2.2 v = z
  unfold sMay at hz
  have yes : z = true → ∀ {H : Heap} {locs : List Loc}, WP K (tw A n t, rs) H locs → W p l e (qrm 2 80 0 0) s m #[.ref (K.2.1 13), .int v] below meth c H locs 0 0 (MQ below (QE K (QR (some (.int (b32 z))) (tw A n t, rs))) #[.ref (K.2.1 13), .int v] s 0 0 (qA K)) (F0 m 68 ls []) := by
    intro e9 H locs hw
    subst e9
    refine lv_iconst (v := (1:Int32)) hx hb dX3_mayName_68 (by decide) ?_
    refine lv_goto (tgt := 73) hx hb dX3_mayName_69 (by decide) ?_
    exact d_iret E hr rfl hw rfl rfl dX3_mayName_73
  have no : z = false → ∀ {H : Heap} {locs : List Loc}, WP K (tw A n t, rs) H locs → W p l e (qrm 2 80 0 0) s m #[.ref (K.2.1 13), .int v] below meth c H locs 0 0 (MQ below (QE K (QR (some (.int (b32 z))) (tw A n t, rs))) #[.ref (K.2.1 13), .int v] s 0 0 (qA K)) (F0 m 72 ls []) := by
    intro e9 H locs hw
    subst e9
    refine lv_iconst (v := (0:Int32)) hx hb dX3_mayName_72 (by decide) ?_
    exact d_iret E hr rfl hw rfl rfl dX3_mayName_73
  refine lv_iload_n hx hb dX3_mayName_0 rfl (lv_at hl 1 rfl) ?_
  refine lv_iconst (v := (3:Int32)) hx hb dX3_mayName_1 (by decide) ?_
  refine lv_icmp_lt (tgt := 68) hx hb dX3_mayName_2 (by decide) (fun c1 => ?_) (fun c1 => ?_)
  · rw [if_pos c1] at hz
    exact yes hz.symm hw
  rw [if_neg c1] at hz
  refine lv_iload_n hx hb dX3_mayName_5 rfl (lv_at hl 1 rfl) ?_
  refine lv_iconst (v := (3:Int32)) hx hb dX3_mayName_6 (by decide) ?_
  refine lv_icmp_ne (tgt := 29) hx hb dX3_mayName_7 (by decide) (fun c2 => ?_) (fun c2 => ?_)
  · rw [if_neg c2] at hz
    refine lv_iload_n hx hb dX3_mayName_29 rfl (lv_at hl 1 rfl) ?_
    refine lv_bipush (v := (7:Int32)) hx hb dX3_mayName_30 (by decide) ?_
    refine lv_icmp_ne (tgt := 48) hx hb dX3_mayName_32 (by decide) (fun c3 => ?_) (fun c3 => ?_)
    · rw [if_neg c3] at hz
      refine lv_aload_n hx hb dX3_mayName_48 rfl (lv_at hl 0 rfl) ?_
      refine r_gKind E hw hC h13 q320 dX3_mayName_49 ?_
      refine lv_sipush (v := (200:Int32)) hx hb dX3_mayName_52 (by decide) ?_
      refine lv_icmp_eq (tgt := 68) hx hb dX3_mayName_55 (by decide) (fun c4 => ?_) (fun c4 => ?_)
      · exact yes (by rw [← hz, decide_eq_true c4]; rfl) hw
      refine lv_aload_n hx hb dX3_mayName_58 rfl (lv_at hl 0 rfl) ?_
      refine r_gKind E hw hC h13 q320 dX3_mayName_59 ?_
      refine lv_sipush (v := (204:Int32)) hx hb dX3_mayName_62 (by decide) ?_
      refine lv_icmp_ne (tgt := 72) hx hb dX3_mayName_65 (by decide) (fun c5 => ?_) (fun c5 => ?_)
      · exact no (by rw [← hz, decide_eq_false c4, decide_eq_false c5]; rfl) hw
      · exact yes (by rw [← hz, decide_eq_true c5, Bool.or_true]) hw
    · rw [if_pos c3] at hz
      refine lv_aload_n hx hb dX3_mayName_35 rfl (lv_at hl 0 rfl) ?_
      refine r_gKind E hw hC h13 q320 dX3_mayName_36 ?_
      refine lv_sipush (v := (204:Int32)) hx hb dX3_mayName_39 (by decide) ?_
      refine lv_icmp_ne (tgt := 72) hx hb dX3_mayName_42 (by decide) (fun c4 => ?_) (fun c4 => ?_)
      · exact no (by rw [← hz, decide_eq_false c4]) hw
      · refine lv_goto (tgt := 68) hx hb dX3_mayName_45 (by decide) ?_
        exact yes (by rw [← hz, decide_eq_true c4]) hw
  · rw [if_pos c2] at hz
    refine lv_aload_n hx hb dX3_mayName_10 rfl (lv_at hl 0 rfl) ?_
    refine r_gKind E hw hC h13 q320 dX3_mayName_11 ?_
    refine lv_sipush (v := (201:Int32)) hx hb dX3_mayName_14 (by decide) ?_
    refine lv_sipush (v := (203:Int32)) hx hb dX3_mayName_17 (by decide) ?_
    refine d_SN (As := [.int t.2.2.2.2.2, .int 201, .int 203]) (v0 := some (.int (b32 z))) hG E hw hl (m_X0_in l hG hC (by rw [sIn, hz])) ⟨va_cnB 3 hts (lw_meth q285) rfl rfl rfl (hG.2.2 s _ E.2.2.2.2.2.1 q720 rfl) (hts _ q137) kd_X0_in ⟨Nat.le_of_ble_eq_true rfl, Nat.le_of_ble_eq_true rfl⟩, hts _ q284, trivial⟩ rfl (rest := []) (st1 := [.int (b32 z)]) rfl rfl rfl dX3_mayName_20 ⟨Nat.le_refl _, Nat.le_refl _⟩ (fun H locs hw => ?_)
    refine lv_if_eq (tgt := 72) hx hb dX3_mayName_23 (by decide) (fun c3 => ?_) (fun c3 => ?_)
    · exact no (by cases z with | true => exact absurd c3 (by decide) | false => rfl) hw
    · refine lv_goto (tgt := 68) hx hb dX3_mayName_26 (by decide) ?_
      exact yes (by cases z with | true => rfl | false => exact absurd rfl c3) hw
theorem nI_dn {k : Nat} (h : 1 ≤ k) : nI k - 1 = nI (k - 1) := by
  obtain ⟨j, rfl⟩ := Nat.exists_eq_add_of_le' h
  rw [Nat.add_sub_cancel, nI_succ, Int32.add_sub_cancel]
theorem sName_ok {s : Int32} (h : ¬ sNameOf s = -1) : qok (sNameOf s) 8 = true := by
  unfold sNameOf at h ⊢
  repeat' split
  all_goals first | rfl | (simp_all; done) | decide
set_option maxHeartbeats 16000000 in
theorem m_X3_one (l : Launch) {K : QK} {G : State → Prop} {A B : QA} {L : QL} {X : QX} {n : Nat} {y : QY} {ea mi ic : Nat} {ib : Nat → Nat} (hG : QG G) (hC : QCl K) (h13 : ql K 13) (hS : QSt K G y) (hWr : QWr K G) (hlst : l.stackTraces = false) (hn : n ≤ 300) (hLs : QLs K G ea mi) (hI : QIc K G ic ib) :
    ∀ (d : Nat) (M : QM) (t : QTS) (r : PR QU), t.1 ≤ n → t.2.2.2.2.1 ≤ 8 → sOne (A 3) n d t = some r → MP l K G yX3_one (ws_ yX3_one cX3_one 3 (some (.object "VaneCourt$Sum"))) (oF d) (oL (oF d)) [.ref (K.2.1 13)] A B L X M n t r (VS K (2 * d) M) := by
  intro d
  induction d with
  | zero => intro M t r _ _ h; cases h
  | succ d ih =>
    intro M t r ht ho h
    refine MX.of (by decide) (Nat.le_of_ble_eq_true rfl) (lv := [(0, .ref (K.2.1 13))]) rfl (fun p e s m below meth c ls E hr hnt hl hw => ?_)
    have hx := E.1
    have hb := E.2.1
    have hown := E.2.2.1
    have hts := E.2.2.2.2.1
    have tail : ∀ (M1 : QM) (t3 : QTS) (x : Nat) (q : QU) (c0 c1 : Nat), r = padd c0 (.inr (q, tDown t3, c1)) → QExt M M1 → SumAt K (qnew M M1) (2 * (d + 1)) x q.1 q.2 → 1 ≤ t3.2.2.2.2.1 → ∀ {H : Heap} {locs : List Loc} {ls : Array Slot} {cells slots : Nat}, cells ≤ c0 + c1 → slots ≤ 12 * (c0 + c1) → WP K (tw A n t3, B, L, X, M1) H locs → lv_has ls 3 [(2, .ref x), (0, .ref (K.2.1 13))] → W p l e (pR (oF (d + 1)) (oL (oF (d + 1))) r) s m #[.ref (K.2.1 13)] below meth c H locs cells slots (PQ below K A B L X n M (VS K (2 * (d + 1)) M) #[.ref (K.2.1 13)] s r) (F0 m 124 ls []) := by
      intro M1 t3 x q c0 c1 hz hxt hT h1 H locs ls cells slots hc hs hw hl
      refine lv_aload_n hx hb dX3_one_124 rfl (lv_at hl 1 rfl) ?_
      refine lv_dup hx hb dX3_one_125 rfl ?_
      refine r_gOpen E hw hC h13 q319 dX3_one_126 ?_
      refine lv_iconst (v := (1:Int32)) hx hb dX3_one_129 (by decide) ?_
      refine lv_isub hx hb dX3_one_130 ?_
      refine r_pOpen (a := t3.2.2.2.2.1 - 1) E hw h13 q319 (nI_dn h1) dX3_one_131 (fun H locs hw => ?_)
      refine lv_aload_n hx hb dX3_one_134 rfl (lv_at hl 0 rfl) ?_
      exact p_aret (a := q) (c0 := c0) (c1 := c1) E hr (Or.inl ⟨_, rfl⟩) hz hc hs hxt ⟨x, rfl, hT⟩ hw dX3_one_135
    rw [sOne] at h
    refine lv_aload_n hx hb dX3_one_0 rfl (lv_at hl 0 rfl) ?_
    refine r_gSort E hw hC h13 q317 dX3_one_1 ?_
    refine lv_sipush (v := (300:Int32)) hx hb dX3_one_4 (by decide) ?_
    refine lv_icmp_ne (tgt := 26) hx hb dX3_one_7 (by decide) (fun b0 => ?_) (fun b0 => ?_)
    · rw [if_neg b0] at h
      refine lv_aload_n hx hb dX3_one_26 rfl (lv_at hl 0 rfl) ?_
      refine d_V (As := []) (v0 := some (.int (sNameOf t.2.2.1))) hG E hw hl (m_X3_nameNow l hC h13) (qT13 h13) rfl (cwV 0 hts (lw_V q712 q714 qs22 q141 q715) rfl rfl rfl ⟨rfl, kd_X3_nameNow⟩ ⟨(show 1 + 1 ≤ 3 * (d + 1) + 12 by omega), (show 8 + (1 + 11) + 40 ≤ 40 * (3 * (d + 1) + 12) + 200 by omega)⟩) rfl (rest := []) (st1 := [.int (sNameOf t.2.2.1)]) rfl rfl rfl dX3_one_27 ⟨Nat.zero_le _, Nat.zero_le _⟩ (fun H locs hw => ?_)
      refine lv_istore_n (lv' := [(1, .int (sNameOf t.2.2.1)), (0, .ref (K.2.1 13))]) hx hb dX3_one_30 rfl hl (by decide) rfl (fun ls hl => ?_)
      refine lv_iload_n hx hb dX3_one_31 rfl (lv_at hl 0 rfl) ?_
      refine lv_iconst (v := (-1:Int32)) hx hb dX3_one_32 (by decide) ?_
      refine lv_icmp_eq (tgt := 63) hx hb dX3_one_33 (by decide) (fun b1 => ?_) (fun b1 => ?_)
      · rw [if_pos b1] at h
        refine lv_aload_n hx hb dX3_one_63 rfl (lv_at hl 1 rfl) ?_
        refine r_gSort E hw hC h13 q317 dX3_one_64 ?_
        refine lv_bipush (v := (40:Int32)) hx hb dX3_one_67 (by decide) ?_
        refine lv_icmp_ne (tgt := 90) hx hb dX3_one_69 (by decide) (fun b2 => ?_) (fun b2 => ?_)
        · rw [if_neg b2] at h
          refine lv_aload_n hx hb dX3_one_90 rfl (lv_at hl 1 rfl) ?_
          refine r_gSort E hw hC h13 q317 dX3_one_91 ?_
          refine lv_bipush (v := (45:Int32)) hx hb dX3_one_94 (by decide) ?_
          refine lv_icmp_ne (tgt := 118) hx hb dX3_one_96 (by decide) (fun b3 => ?_) (fun b3 => ?_)
          · rw [if_neg b3] at h
            have hz : r = padd 0 (.inl (1, t.2.1, 1)) := (Option.some.inj h).symm
            refine lv_aload_n hx hb dX3_one_118 rfl (lv_at hl 1 rfl) ?_
            refine lv_iconst (v := (1:Int32)) hx hb dX3_one_119 (by decide) ?_
            exact p_throw hG hC h13 hWr hlst E hnt hw hl QExt.refl hz (Nat.le_refl _) (Nat.le_refl _) (cwV 1 hts (lw_V q475 q477 qs3 q141 q478) rfl rfl rfl ⟨rfl, kd_X3_wrong⟩ ⟨(show 7 + 1 ≤ 3 * (d + 1) + 12 by omega), (show 8 + (2 + 11) + 160 ≤ 40 * (3 * (d + 1) + 12) + 200 by omega)⟩) rfl dX3_one_120 dX3_one_123
          · rw [if_pos b3] at h
            refine lv_aload_n hx hb dX3_one_99 rfl (lv_at hl 1 rfl) ?_
            refine c_B (c0 := 0) (As := []) (rest := []) (V1 := fun _ _ v => v = none) hG E hnt hw h13 QExt.refl h padd_0.symm (Nat.le_refl _) (Nat.le_refl _) (fun r1 h1 => by cases h1; exact m_X3_opens l hG hC h13 hS hWr hlst hn ht ho) (fun r1 => (cwV 0 hts (lw_V q577 q579 qs13 q141 q580) rfl rfl rfl ⟨rfl, kd_X3_opens⟩ ⟨(show 8 + 1 ≤ 3 * (d + 1) + 12 by omega), (show 8 + (1 + 11) + 300 ≤ 40 * (3 * (d + 1) + 12) + 200 by omega)⟩)) hl rfl rfl rfl dX3_one_100 (fun u t1 cst v M1 H locs y1 ho1 h hz hc hs hx1 hV hw => ?_)
            subst hV
            refine W.eq (g2 := F0 m 103 ls []) rfl ?_
            obtain ⟨tu, h8⟩ := opens_t ht ho1
            obtain ⟨y2, h, hy2⟩ := pad_s h
            rw [hy2, padd_padd] at hz
            have hle : 0 + cst + 1 ≤ pc_ r := by rw [hz, pc_add]; exact Nat.le_add_right _ _
            refine r_new (ci := 12) (fs := [.null]) E hw (T := TX12) (N := 1) rfl in_X12 tyX12 tyX12_ok q731 q732 q163 (fun j hj => by match j, hj with | 0, _ => rfl | j + 1, hj => exact absurd hj (by omega)) (show _ ≤ pc_ r by omega) (show _ ≤ 12 * pc_ r by omega) dX3_one_103 (fun q H hw hq _ _ => ?_)
            have hq1 : M1 q = none := hq
            have hx2 : QExt M (va_up M1 q (some (.inr (12, [.null])))) := hx1.trans (QExt.up hq1)
            refine lv_dup hx hb dX3_one_106 rfl ?_
            refine lv_aload_n hx hb dX3_one_107 rfl (lv_at hl 1 rfl) ?_
            refine c_B (c0 := 0 + cst + 1) (As := []) (rest := [.ref q, .ref q]) (V1 := VS K (2 * d) (va_up M1 q (some (.inr (12, [.null]))))) hG E hnt hw h13 hx2 h hz (by omega) (by omega) (fun r1 h1 => ih _ _ _ tu.1 (by rw [congrArg Prod.fst tu.2]; show t.2.2.2.2.1 + 1 ≤ 8; omega) h1) (fun r1 => (cwV 0 hts (lw_V q698 q700 qs21 q141 q701) rfl rfl rfl ⟨rfl, kd_X3_one⟩ ⟨(show 3 * d + 12 + 1 ≤ 3 * (d + 1) + 12 by omega), (show 8 + (3 + 11) + (40 * (3 * d + 12) + 200) ≤ 40 * (3 * (d + 1) + 12) + 200 by omega)⟩)) hl rfl rfl rfl dX3_one_108 (fun u2 t2 cst2 v M2 H locs y3 ho2 h hz hc hs hx3 hV hw => ?_)
            obtain ⟨b, rfl, hT⟩ := hV
            refine W.eq (g2 := F0 m 111 ls [.ref b, .ref q, .ref q]) rfl ?_
            have h := Option.some.inj h
            subst h
            have hle2 : 0 + cst + 1 + cst2 ≤ pc_ r := by rw [hz, pc_add]; exact Nat.le_add_right _ _
            refine c_IN (As := [.ref b]) (rest := [.ref q]) hG E hw (m_X12_init l hG (hx3 q _ va_up_s)) ⟨va_cnB 1 hts (lw_meth q735) rfl rfl rfl (hG.2.2 s _ E.2.2.2.2.2.1 q733 rfl) (hts _ q163) kd_X12_init ⟨(show 3 + 1 ≤ 3 * (d + 1) + 12 by omega), (show 8 + (2 + 11) + 80 ≤ 40 * (3 * (d + 1) + 12) + 200 by omega)⟩, rfl, hts _ q734⟩ hl rfl rfl (Nat.le_of_ble_eq_true rfl) dX3_one_111 ⟨(show _ ≤ pc_ r by omega), (show _ ≤ 12 * pc_ r by omega)⟩ (fun v w' H locs hP9 hw => ?_)
            obtain ⟨rfl, rfl⟩ := hP9
            refine W.eq (g2 := F0 m 114 ls [.ref q]) rfl ?_
            refine lv_astore_n (lv' := [(2, .ref q), (1, .int (sNameOf t.2.2.1)), (0, .ref (K.2.1 13))]) hx hb dX3_one_114 rfl hl (by decide) rfl (fun ls hl => ?_)
            refine lv_goto (tgt := 124) hx hb dX3_one_115 (by decide) ?_
            have hq0 : M q = none := by
              cases h9 : M q with
              | none => rfl
              | some e9 => rw [hx1 q e9 h9] at hq1; cases hq1
            have hqb : qnew (va_up M1 q (some (.inr (12, [.null])))) M2 q = none := qnew_o va_up_s
            have hsub : QExt (qnew (va_up M1 q (some (.inr (12, [.null])))) M2) (qnew M (va_up M2 q (some (.inr (12, [.ref b]))))) := by
              intro z e9 h9
              have hzq : z ≠ q := fun e8 => by rw [e8, hqb] at h9; cases h9
              cases h8 : va_up M1 q (some (.inr (12, [.null]))) z with
              | some e7 => rw [qnew_o h8] at h9; cases h9
              | none =>
                have hM0 : M z = none := by
                  cases h7 : M z with
                  | none => rfl
                  | some e6 => rw [hx2 z e6 h7] at h8; cases h8
                rw [qnew_n hM0, va_up_n hzq]
                rw [qnew_n h8] at h9
                exact h9
            exact tail (va_up M2 q (some (.inr (12, [.ref b])))) t2 q _ (0 + cst + 1 + cst2) 0 hz (QExt.up2 (hx2.trans hx3) hq0) (Or.inr (Or.inr (Or.inl ⟨b, u2.1, u2.2, Or.inl ((qnew_n hq0).trans va_up_s), (SumAt.ext hsub _ _ _ _ hT).le (show 2 * d ≤ 2 * d + 1 by omega), rfl, rfl⟩))) (by rw [congrArg Prod.fst (PT.one d _ _ _ _ tu.1 ho2).2, congrArg Prod.fst tu.2]; show 1 ≤ t.2.2.2.2.1 + 1; omega) (by omega) (by omega) hw (lv_sub hl [0, 2] rfl)
        · rw [if_pos b2] at h
          refine lv_aload_n hx hb dX3_one_72 rfl (lv_at hl 1 rfl) ?_
          refine c_B (c0 := 0) (As := []) (rest := []) (V1 := fun _ _ v => v = none) hG E hnt hw h13 QExt.refl h padd_0.symm (Nat.le_refl _) (Nat.le_refl _) (fun r1 h1 => by cases h1; exact m_X3_opens l hG hC h13 hS hWr hlst hn ht ho) (fun r1 => (cwV 0 hts (lw_V q577 q579 qs13 q141 q580) rfl rfl rfl ⟨rfl, kd_X3_opens⟩ ⟨(show 8 + 1 ≤ 3 * (d + 1) + 12 by omega), (show 8 + (1 + 11) + 300 ≤ 40 * (3 * (d + 1) + 12) + 200 by omega)⟩)) hl rfl rfl rfl dX3_one_73 (fun u t1 cst v M1 H locs y1 ho1 h hz hc hs hx1 hV hw => ?_)
          subst hV
          refine W.eq (g2 := F0 m 76 ls []) rfl ?_
          obtain ⟨tu, h8⟩ := opens_t ht ho1
          have ho2 : t1.2.2.2.2.1 ≤ 8 := by rw [congrArg Prod.fst tu.2]; show t.2.2.2.2.1 + 1 ≤ 8; omega
          refine lv_aload_n hx hb dX3_one_76 rfl (lv_at hl 1 rfl) ?_
          refine c_B (c0 := 0 + cst) (As := []) (rest := []) (V1 := VS K (2 * d + 1 + 1) M1) hG E hnt hw h13 hx1 h hz (by omega) (by omega) (fun r1 h1 => m_X3_sum_of l hG hC h13 hS hn hLs hI (fr := 3 * d + 12 + 1) (lo := 40 * (3 * d + 12) + 200 + 40) (by omega) (by omega) (PT.chn (PT.one d)) (fun M9 t9 r9 g1 g2 g3 => m_X3_product_of l hG hC h13 hS hn hLs hI (fr := 3 * d + 12) (lo := 40 * (3 * d + 12) + 200) (by omega) (by omega) (PT.one d) ih g1 g2 g3) tu.1 ho2 h1) (fun r1 => (cwV 0 hts (lw_V q688 q690 qs19 q141 q691) rfl rfl rfl ⟨rfl, kd_X3_sum⟩ ⟨(show 3 * d + 12 + 1 + 1 + 1 ≤ 3 * (d + 1) + 12 by omega), (show 8 + (3 + 11) + (40 * (3 * d + 12) + 200 + 40 + 40) ≤ 40 * (3 * (d + 1) + 12) + 200 by omega)⟩)) hl rfl rfl rfl dX3_one_77 (fun u2 t2 cst2 v M2 H locs y3 ho3 h hz hc hs hx2 hV hw => ?_)
          obtain ⟨b, rfl, hT⟩ := hV
          refine W.eq (g2 := F0 m 80 ls [.ref b]) rfl ?_
          refine lv_astore_n (lv' := [(2, .ref b), (1, .int (sNameOf t.2.2.1)), (0, .ref (K.2.1 13))]) hx hb dX3_one_80 rfl hl (by decide) rfl (fun ls hl => ?_)
          have tk2 := PT.sum (d := d) _ _ _ _ tu.1 ho3
          refine lv_aload_n hx hb dX3_one_81 rfl (lv_at hl 2 rfl) ?_
          refine lv_bipush (v := (41:Int32)) hx hb dX3_one_82 (by decide) ?_
          refine c_B (c0 := 0 + cst + cst2) (As := [.int 41]) (rest := []) (V1 := fun _ _ v => v = none) hG E hnt hw h13 (hx1.trans hx2) h hz (by omega) (by omega) (fun r1 h1 => by cases h1; exact m_X3_want l hG hC h13 hS hWr hlst hn tk2.1) (fun r1 => (cwV 1 hts (lw_V q555 q557 qs8 q141 q558) rfl rfl rfl ⟨rfl, kd_X3_want⟩ ⟨(show 8 + 1 ≤ 3 * (d + 1) + 12 by omega), (show 8 + (2 + 11) + 300 ≤ 40 * (3 * (d + 1) + 12) + 200 by omega)⟩)) hl rfl rfl rfl dX3_one_84 (fun u3 t3 cst3 v M3 H locs y4 ho4 h hz hc hs hx3 hV hw => ?_)
          subst hV
          refine W.eq (g2 := F0 m 87 ls []) rfl ?_
          have h := Option.some.inj h
          subst h
          have tk3 := tk2.tr (PT.want _ _ _ _ tk2.1 ho4)
          refine lv_goto (tgt := 124) hx hb dX3_one_87 (by decide) ?_
          have hsub : QExt (qnew M1 M2) (qnew M M3) := by
            intro z e9 h9
            cases h8 : M1 z with
            | some e7 => rw [qnew_o h8] at h9; cases h9
            | none =>
              have hM0 : M z = none := by
                cases h7 : M z with
                | none => rfl
                | some e6 => rw [hx1 z e6 h7] at h8; cases h8
              rw [qnew_n hM0]
              exact hx3 z e9 (qnew_ext z e9 h9)
          exact tail M3 t3 b _ (0 + cst + cst2 + cst3) 0 hz ((hx1.trans hx2).trans hx3) (SumAt.ext hsub _ _ _ _ hT) (by rw [congrArg Prod.fst tk3.2, congrArg Prod.fst tu.2]; show 1 ≤ t.2.2.2.2.1 + 1; omega) (by omega) (by omega) hw (lv_sub hl [0, 2] rfl)
      · rw [if_neg b1] at h
        refine lv_aload_n hx hb dX3_one_36 rfl (lv_at hl 1 rfl) ?_
        refine lv_iload_n hx hb dX3_one_37 rfl (lv_at hl 0 rfl) ?_
        refine d_V (As := [.int (sNameOf t.2.2.1)]) (v0 := some (.int (b32 (sMay t.2.2.2.2.2 (sNameOf t.2.2.1))))) hG E hw hl (m_X3_mayName l hG hC h13) (qT13 h13) rfl (cwV 1 hts (lw_V q716 q718 qs23 q141 q719) rfl rfl rfl ⟨rfl, kd_X3_mayName⟩ ⟨(show 2 + 1 ≤ 3 * (d + 1) + 12 by omega), (show 8 + (2 + 11) + 80 ≤ 40 * (3 * (d + 1) + 12) + 200 by omega)⟩) rfl (rest := []) (st1 := [.int (b32 (sMay t.2.2.2.2.2 (sNameOf t.2.2.1)))]) rfl rfl rfl dX3_one_38 ⟨Nat.zero_le _, Nat.zero_le _⟩ (fun H locs hw => ?_)
        refine lv_if_ne (tgt := 50) hx hb dX3_one_41 (by decide) (fun b2 => ?_) (fun b2 => ?_)
        · rw [if_pos (b32_t b2)] at h
          have hz : r = padd 0 (.inr (([(1, sNameOf t.2.2.1)], fun nm => (nm (sNameOf t.2.2.1).toNatClampNeg).toInt64), sNext (A 3) n t, 1)) := (Option.some.inj h).symm
          have hle : 1 ≤ pc_ r := by rw [hz]; exact Nat.le_refl _
          refine lv_aload_n hx hb dX3_one_50 rfl (lv_at hl 1 rfl) ?_
          refine d_V (As := []) (v0 := none) hG E hw hl (m_X3_next l hG hC h13 hS hn ht) (qT13 h13) rfl (cwV 0 hts (lw_V q406 q408 qs1 q141 q409) rfl rfl rfl ⟨rfl, kd_X3_next⟩ ⟨(show 6 + 1 ≤ 3 * (d + 1) + 12 by omega), (show 8 + (3 + 11) + 240 ≤ 40 * (3 * (d + 1) + 12) + 200 by omega)⟩) rfl (rest := []) (st1 := []) rfl rfl rfl dX3_one_51 ⟨Nat.zero_le _, Nat.zero_le _⟩ (fun H locs hw => ?_)
          refine r_new (ci := 11) (fs := [.int 0]) E hw (T := TX11) (N := 1) rfl in_X11 tyX11 tyX11_ok q721 q722 q162 (fun j hj => by match j, hj with | 0, _ => rfl | j + 1, hj => exact absurd hj (by omega)) (show _ ≤ pc_ r by omega) (show _ ≤ 12 * pc_ r by omega) dX3_one_54 (fun q H hw hq _ _ => ?_)
          have hq0 : M q = none := hq
          refine lv_dup hx hb dX3_one_57 rfl ?_
          refine lv_iload_n hx hb dX3_one_58 rfl (lv_at hl 0 rfl) ?_
          refine c_IN (As := [.int (sNameOf t.2.2.1)]) (rest := [.ref q]) hG E hw (m_X11_init l hG va_up_s) ⟨va_cnB 1 hts (lw_meth q725) rfl rfl rfl (hG.2.2 s _ E.2.2.2.2.2.1 q723 rfl) (hts _ q162) kd_X11_init ⟨(show 3 + 1 ≤ 3 * (d + 1) + 12 by omega), (show 8 + (2 + 11) + 80 ≤ 40 * (3 * (d + 1) + 12) + 200 by omega)⟩, rfl, hts _ q724⟩ hl rfl rfl (Nat.le_of_ble_eq_true rfl) dX3_one_59 ⟨(show _ ≤ pc_ r by omega), (show _ ≤ 12 * pc_ r by omega)⟩ (fun v w' H locs hP9 hw => ?_)
          obtain ⟨rfl, rfl⟩ := hP9
          refine W.eq (g2 := F0 m 62 ls [.ref q]) rfl ?_
          refine p_aret (c0 := 0) (c1 := 1) E hr (Or.inl ⟨_, rfl⟩) hz (by omega) (by omega) (QExt.up2 (QExt.up hq0) hq0) ⟨q, rfl, Or.inr (Or.inl ⟨sNameOf t.2.2.1, Or.inl ((qnew_n hq0).trans va_up_s), sName_ok b1, rfl, rfl⟩)⟩ hw dX3_one_62
        · rw [if_neg (b32_f b2)] at h
          have hz : r = padd 0 (.inl (5, t.2.1, 1)) := (Option.some.inj h).symm
          refine lv_aload_n hx hb dX3_one_44 rfl (lv_at hl 1 rfl) ?_
          refine lv_iconst (v := (5:Int32)) hx hb dX3_one_45 (by decide) ?_
          exact p_throw hG hC h13 hWr hlst E hnt hw hl QExt.refl hz (Nat.le_refl _) (Nat.le_refl _) (cwV 1 hts (lw_V q475 q477 qs3 q141 q478) rfl rfl rfl ⟨rfl, kd_X3_wrong⟩ ⟨(show 7 + 1 ≤ 3 * (d + 1) + 12 by omega), (show 8 + (2 + 11) + 160 ≤ 40 * (3 * (d + 1) + 12) + 200 by omega)⟩) rfl dX3_one_46 dX3_one_49
    · rw [if_pos b0] at h
      obtain ⟨y2, h, hy2⟩ := pad_s h
      have hle : 1 ≤ pc_ r := by rw [hy2, pc_add]; exact Nat.le_add_right _ _
      refine r_new (ci := 10) (fs := [.int 0]) E hw (T := TX10) (N := 1) rfl in_X10 tyX10 tyX10_ok q702 q703 q161 (fun j hj => by match j, hj with | 0, _ => rfl | j + 1, hj => exact absurd hj (by omega)) (show _ ≤ pc_ r by omega) (show _ ≤ 12 * pc_ r by omega) dX3_one_10 (fun q H hw hq _ _ => ?_)
      have hq0 : M q = none := hq
      refine lv_dup hx hb dX3_one_13 rfl ?_
      refine lv_aload_n hx hb dX3_one_14 rfl (lv_at hl 0 rfl) ?_
      refine lv_iconst (v := (0:Int32)) hx hb dX3_one_15 (by decide) ?_
      refine lv_sipush (v := (9999:Int32)) hx hb dX3_one_16 (by decide) ?_
      refine c_B (c0 := 1) (As := [.int 0, .int 9999]) (rest := [.ref q, .ref q]) (V1 := fun _ a v => v = some (.int a)) hG E hnt hw h13 (QExt.up hq0) h hy2 (by omega) (by omega) (fun r1 h1 => by cases h1; exact m_X3_number l hG hC h13 hS hWr hlst hn ht) (fun r1 => (cwV 2 hts (lw_V q551 q553 qs7 q141 q554) rfl rfl rfl ⟨rfl, kd_X3_number⟩ ⟨(show 8 + 1 ≤ 3 * (d + 1) + 12 by omega), (show 8 + (4 + 11) + 300 ≤ 40 * (3 * (d + 1) + 12) + 200 by omega)⟩)) hl rfl rfl rfl dX3_one_19 (fun u t1 cst v M1 H locs y1 ho1 h hz hc hs hx1 hV hw => ?_)
      subst hV
      refine W.eq (g2 := F0 m 22 ls [.int u, .ref q, .ref q]) rfl ?_
      have h := Option.some.inj h
      subst h
      have hle2 : 1 + cst ≤ pc_ r := by rw [hz, pc_add]; exact Nat.le_add_right _ _
      refine c_IN (As := [.int u]) (rest := [.ref q]) hG E hw (m_X10_init l hG (hx1 q _ va_up_s)) ⟨va_cnB 1 hts (lw_meth q706) rfl rfl rfl (hG.2.2 s _ E.2.2.2.2.2.1 q704 rfl) (hts _ q161) kd_X10_init ⟨(show 3 + 1 ≤ 3 * (d + 1) + 12 by omega), (show 8 + (2 + 11) + 80 ≤ 40 * (3 * (d + 1) + 12) + 200 by omega)⟩, rfl, hts _ q705⟩ hl rfl rfl (Nat.le_of_ble_eq_true rfl) dX3_one_22 ⟨(show _ ≤ pc_ r by omega), (show _ ≤ 12 * pc_ r by omega)⟩ (fun v w' H locs hP9 hw => ?_)
      obtain ⟨rfl, rfl⟩ := hP9
      refine W.eq (g2 := F0 m 25 ls [.ref q]) rfl ?_
      exact p_aret (c0 := 1 + cst) (c1 := 0) E hr (Or.inl ⟨_, rfl⟩) hz (by omega) (by omega) (QExt.up2 ((QExt.up hq0).trans hx1) hq0) ⟨q, rfl, Or.inl ⟨u, Or.inl ((qnew_n hq0).trans va_up_s), rfl, rfl⟩⟩ hw dX3_one_25
/-- the room of a sum -/
theorem m_X3_sum (l : Launch) {K : QK} {G : State → Prop} {A B : QA} {L : QL} {X : QX} {M : QM} {n : Nat} {t : QTS} {r : PR QU} {y : QY} {ea mi ic : Nat} {ib : Nat → Nat} (hG : QG G) (hC : QCl K) (h13 : ql K 13) (hS : QSt K G y) (hWr : QWr K G) (hlst : l.stackTraces = false) (hn : n ≤ 300) (hLs : QLs K G ea mi) (hI : QIc K G ic ib) (ht : t.1 ≤ n) (ho : t.2.2.2.2.1 ≤ 8) (h : sSum (A 3) n t = some r) :
    MP l K G yX3_sum (ws_ yX3_sum cX3_sum 3 (some (.object "VaneCourt$Sum"))) 41 1840 [.ref (K.2.1 13)] A B L X M n t r (VS K 20 M) :=
  m_X3_sum_of l hG hC h13 hS hn hLs hI (fr := 40) (lo := 1800) (dep := 19) (by omega) (by omega) (PT.chn (PT.one 9)) (fun M9 t9 r9 g1 g2 g3 => m_X3_product_of l hG hC h13 hS hn hLs hI (fr := 39) (lo := 1760) (dep := 18) (by omega) (by omega) (PT.one 9) (fun M9 t9 r9 g1 g2 g3 => m_X3_one l hG hC h13 hS hWr hlst hn hLs hI 9 M9 t9 r9 g1 g2 g3) g1 g2 g3) ht ho h
