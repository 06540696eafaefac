/-! strings' length and charAt; a token is read -/
set_option maxRecDepth 100000
theorem kd_J3_checkIndex : yJ3_checkIndex.cls ≠ "java/lang/invoke/MethodHandle" ∧ yJ3_checkIndex.cls ≠ "java/lang/invoke/VarHandle" ∧ (parseMethodDescriptor yJ3_checkIndex.desc).map (fun d => d.parameters.length) = some 2 := by decide +kernel
theorem kd_J3_coder : yJ3_coder.cls ≠ "java/lang/invoke/MethodHandle" ∧ yJ3_coder.cls ≠ "java/lang/invoke/VarHandle" ∧ (parseMethodDescriptor yJ3_coder.desc).map (fun d => d.parameters.length) = some 0 := by decide +kernel
theorem kd_J3_isLatin1 : yJ3_isLatin1.cls ≠ "java/lang/invoke/MethodHandle" ∧ yJ3_isLatin1.cls ≠ "java/lang/invoke/VarHandle" ∧ (parseMethodDescriptor yJ3_isLatin1.desc).map (fun d => d.parameters.length) = some 0 := by decide +kernel
theorem kd_J4_charAt : yJ4_charAt.cls ≠ "java/lang/invoke/MethodHandle" ∧ yJ4_charAt.cls ≠ "java/lang/invoke/VarHandle" ∧ (parseMethodDescriptor yJ4_charAt.desc).map (fun d => d.parameters.length) = some 2 := by decide +kernel
set_option maxHeartbeats 4000000 in
theorem m_J5_checkIndexR (l : Launch) {K : QK} {G : State → Prop} {w : QW} {i n : Int32} {z : Nat} (h0 : ¬ i < 0) (h1 : i < n) : MC l K G yJ5_checkIndex (ws_ yJ5_checkIndex cJ5_checkIndex 3 (some .int)) 1 40 0 0 [.int i, .int n, .ref z] w (QR (some (.int i)) w) := by
  refine MC.of (by decide) (Nat.le_of_ble_eq_true rfl) (lv := [(0, .int i), (1, .int n), (2, .ref z)]) rfl (fun p e s m below meth c ls E hr hl hw => ?_)
  have hx := E.1
  have hb := E.2.1
  have hown := E.2.2.1
  have hts := E.2.2.2.2.1
  refine lv_iload_n hx hb dJ5_checkIndex_0 rfl (lv_at hl 0 rfl) ?_
  refine lv_if_lt (tgt := 9) hx hb dJ5_checkIndex_1 (by decide) (fun c => ?_) (fun c => ?_)
  · exact absurd c h0
  refine lv_iload_n hx hb dJ5_checkIndex_4 rfl (lv_at hl 0 rfl) ?_
  refine lv_iload_n hx hb dJ5_checkIndex_5 rfl (lv_at hl 1 rfl) ?_
  refine lv_icmp_lt (tgt := 16) hx hb dJ5_checkIndex_6 (by decide) (fun c => ?_) (fun c => ?_)
  · refine lv_iload_n hx hb dJ5_checkIndex_16 rfl (lv_at hl 0 rfl) ?_
    exact d_iret E hr rfl hw rfl rfl dJ5_checkIndex_17
  · exact absurd h1 c
set_option maxHeartbeats 4000000 in
theorem m_J3_checkIndex (l : Launch) {K : QK} {G : State → Prop} (hG : QG G) {w : QW} {y : QY} (hS : QSt K G y) {i n : Int32} (h0 : ¬ i < 0) (h1 : i < n) : MC l K G yJ3_checkIndex (ws_ yJ3_checkIndex cJ3_checkIndex 2 none) 2 80 0 0 [.int i, .int n] w (QR none w) := by
  refine MC.of (by decide) (Nat.le_of_ble_eq_true rfl) (lv := [(0, .int i), (1, .int n)]) rfl (fun p e s m below meth c ls E hr hl hw => ?_)
  have hx := E.1
  have hb := E.2.1
  have hown := E.2.2.1
  have hts := E.2.2.2.2.1
  refine lv_iload_n hx hb dJ3_checkIndex_0 rfl (lv_at hl 0 rfl) ?_
  refine lv_iload_n hx hb dJ3_checkIndex_1 rfl (lv_at hl 1 rfl) ?_
  rcases hS.2.2.2.2.2 s E.2.2.2.2.2.1 with hz | ⟨z, hz⟩
  · refine r_gets E hw hz q443 dJ3_checkIndex_2 ?_
    refine d_S (As := [.int i, .int n, .null]) (v0 := some (.int i)) hG E hw hl (m_J5_checkIndex l h0 h1) (va_cwS 3 hts (lw_S q445 q446 q148 q447) rfl rfl rfl kd_J5_checkIndex ⟨Nat.le_of_ble_eq_true rfl, Nat.le_of_ble_eq_true rfl⟩) rfl (rest := []) (st1 := [.int i]) rfl rfl rfl dJ3_checkIndex_5 ⟨Nat.le_of_ble_eq_true rfl, Nat.le_of_ble_eq_true rfl⟩ (fun H locs hw => ?_)
    refine lv_pop hx hb dJ3_checkIndex_8 rfl ?_
    exact d_ret E hr hw rfl dJ3_checkIndex_9
  · refine r_gets E hw hz q443 dJ3_checkIndex_2 ?_
    refine d_S (As := [.int i, .int n, .ref z]) (v0 := some (.int i)) hG E hw hl (m_J5_checkIndexR l h0 h1) (va_cwS 3 hts (lw_S q445 q446 q148 q447) rfl rfl rfl kd_J5_checkIndex ⟨Nat.le_of_ble_eq_true rfl, Nat.le_of_ble_eq_true rfl⟩) rfl (rest := []) (st1 := [.int i]) rfl rfl rfl dJ3_checkIndex_5 ⟨Nat.le_of_ble_eq_true rfl, Nat.le_of_ble_eq_true rfl⟩ (fun H locs hw => ?_)
    refine lv_pop hx hb dJ3_checkIndex_8 rfl ?_
    exact d_ret E hr hw rfl dJ3_checkIndex_9
set_option maxHeartbeats 4000000 in
theorem m_J3_coder (l : Launch) {K : QK} {G : State → Prop} {w : QW} {y : QY} (hS : QSt K G y) {i : Nat} (hi : i < 27) : MC l K G yJ3_coder (ws_ yJ3_coder cJ3_coder 1 (some .byte)) 1 40 0 0 [.ref (y.2.1 i)] w (QR (some (.int 0)) w) := by
  refine MC.of (by decide) (Nat.le_of_ble_eq_true rfl) (lv := [(0, .ref (y.2.1 i))]) rfl (fun p e s m below meth c ls E hr hl hw => ?_)
  have hx := E.1
  have hb := E.2.1
  have hown := E.2.2.1
  have hts := E.2.2.2.2.1
  have hs := (hS.1 s E.2.2.2.2.2.1).1 i hi
  refine r_gets E hw (hS.2.2.2.2.1 s E.2.2.2.2.2.1) q427 dJ3_coder_0 ?_
  refine lv_if_eq (tgt := 13) hx hb dJ3_coder_3 (by decide) (fun c => ?_) (fun c => ?_)
  · exact absurd c (by decide)
  refine lv_aload_n hx hb dJ3_coder_6 rfl (lv_at hl 0 rfl) ?_
  refine r_ogetf E hw hs.2.1 q2060 dJ3_coder_7 ?_
  refine lv_goto (tgt := 14) hx hb dJ3_coder_10 (by decide) ?_
  exact d_iret E hr rfl hw rfl rfl dJ3_coder_14
set_option maxHeartbeats 4000000 in
theorem m_J3_isLatin1 (l : Launch) {K : QK} {G : State → Prop} {w : QW} {y : QY} (hS : QSt K G y) {i : Nat} (hi : i < 27) : MC l K G yJ3_isLatin1 (ws_ yJ3_isLatin1 cJ3_isLatin1 1 (some .boolean)) 1 40 0 0 [.ref (y.2.1 i)] w (QR (some (.int 1)) w) := by
  refine MC.of (by decide) (Nat.le_of_ble_eq_true rfl) (lv := [(0, .ref (y.2.1 i))]) rfl (fun p e s m below meth c ls E hr hl hw => ?_)
  have hx := E.1
  have hb := E.2.1
  have hown := E.2.2.1
  have hts := E.2.2.2.2.1
  have hs := (hS.1 s E.2.2.2.2.2.1).1 i hi
  refine r_gets E hw (hS.2.2.2.2.1 s E.2.2.2.2.2.1) q427 dJ3_isLatin1_0 ?_
  refine lv_if_eq (tgt := 17) hx hb dJ3_isLatin1_3 (by decide) (fun c => ?_) (fun c => ?_)
  · exact absurd c (by decide)
  refine lv_aload_n hx hb dJ3_isLatin1_6 rfl (lv_at hl 0 rfl) ?_
  refine r_ogetf E hw hs.2.1 q2060 dJ3_isLatin1_7 ?_
  refine lv_if_ne (tgt := 17) hx hb dJ3_isLatin1_10 (by decide) (fun c => ?_) (fun c => ?_)
  · exact absurd rfl c
  refine lv_iconst (v := (1:Int32)) hx hb dJ3_isLatin1_13 (by decide) ?_
  refine lv_goto (tgt := 18) hx hb dJ3_isLatin1_14 (by decide) ?_
  exact d_iret E hr rfl hw rfl rfl dJ3_isLatin1_18
set_option maxHeartbeats 4000000 in
theorem m_J3_length (l : Launch) {K : QK} {G : State → Prop} (hG : QG G) {w : QW} {y : QY} (hS : QSt K G y) {i : Nat} (hi : i < 27) : MC l K G yJ3_length (ws_ yJ3_length cJ3_length 1 (some .int)) 2 80 0 0 [.ref (y.2.1 i)] w (QR (some (.int (nI (wB.getD i []).length))) w) := by
  refine MC.of (by decide) (Nat.le_of_ble_eq_true rfl) (lv := [(0, .ref (y.2.1 i))]) rfl (fun p e s m below meth c ls E hr hl hw => ?_)
  have hx := E.1
  have hb := E.2.1
  have hown := E.2.2.1
  have hts := E.2.2.2.2.1
  have hs := (hS.1 s E.2.2.2.2.2.1).1 i hi
  refine lv_aload_n hx hb dJ3_length_0 rfl (lv_at hl 0 rfl) ?_
  refine r_ogetf E hw hs.2.2.1 q2059 dJ3_length_1 ?_
  refine r_olen E hw hs.2.2.2 rfl dJ3_length_4 ?_
  refine lv_aload_n hx hb dJ3_length_5 rfl (lv_at hl 0 rfl) ?_
  refine d_VO (As := []) (v0 := some (.int 0)) hG E hw hl (m_J3_coder l hS hi) hs.1 (cwV 0 hts (lw_V q423 q424 q425 q146 q426) rfl rfl rfl ⟨rfl, kd_J3_coder⟩ ⟨Nat.le_of_ble_eq_true rfl, Nat.le_of_ble_eq_true rfl⟩) rfl (rest := [.int (Int32.ofNat (wL.getD i 0))]) (st1 := [.int 0, .int (Int32.ofNat (wL.getD i 0))]) rfl rfl rfl dJ3_length_6 ⟨Nat.le_of_ble_eq_true rfl, Nat.le_of_ble_eq_true rfl⟩ (fun H locs hw => ?_)
  refine lv_ishr hx hb dJ3_length_9 ?_
  exact d_iret E hr rfl hw (wL_shr i hi) rfl dJ3_length_10
set_option maxHeartbeats 4000000 in
theorem m_J4_charAt (l : Launch) {K : QK} {G : State → Prop} (hG : QG G) {w : QW} {y : QY} (hS : QSt K G y) {i k : Nat} (hi : i < 27) (hk : k < (wB.getD i []).length) : MC l K G yJ4_charAt (ws_ yJ4_charAt cJ4_charAt 2 (some .char)) 3 120 0 0 [.ref (y.2.2 i), .int (nI k)] w (QR (some (.int (wC i k))) w) := by
  refine MC.of (by decide) (Nat.le_of_ble_eq_true rfl) (lv := [(0, .ref (y.2.2 i)), (1, .int (nI k))]) rfl (fun p e s m below meth c ls E hr hl hw => ?_)
  have hx := E.1
  have hb := E.2.1
  have hown := E.2.2.1
  have hts := E.2.2.2.2.1
  have hs := (hS.1 s E.2.2.2.2.2.1).1 i hi
  have hn := wL_get i hi
  have hn2 := wL_lt i hi
  refine lv_iload_n hx hb dJ4_charAt_0 rfl (lv_at hl 1 rfl) ?_
  refine lv_aload_n hx hb dJ4_charAt_1 rfl (lv_at hl 0 rfl) ?_
  refine r_olen (v := nI (wB.getD i []).length) E hw hs.2.2.2 (by rw [hn]; rfl) dJ4_charAt_2 ?_
  refine d_S (As := [.int (nI k), .int (nI (wB.getD i []).length)]) (v0 := none) hG E hw hl (m_J3_checkIndex l hG hS (nI_pos (by omega)) (nI_lt hk (by omega))) (va_cwS 2 hts (lw_S q440 q441 q146 q442) rfl rfl rfl kd_J3_checkIndex ⟨Nat.le_of_ble_eq_true rfl, Nat.le_of_ble_eq_true rfl⟩) rfl (rest := []) (st1 := []) rfl rfl rfl dJ4_charAt_3 ⟨Nat.le_of_ble_eq_true rfl, Nat.le_of_ble_eq_true rfl⟩ (fun H locs hw => ?_)
  refine lv_aload_n hx hb dJ4_charAt_6 rfl (lv_at hl 0 rfl) ?_
  refine lv_iload_n hx hb dJ4_charAt_7 rfl (lv_at hl 1 rfl) ?_
  refine r_obld (v := .int ((wB.getD i []).getD k 0)) E hw hs.2.2.2 (vp_in_nI (by rw [hn]; exact hk) (by rw [hn]; omega)) (by rw [nI_clamp (by omega)]) dJ4_charAt_8 ?_
  refine lv_sipush (v := (255:Int32)) hx hb dJ4_charAt_9 (by decide) ?_
  refine lv_iand hx hb dJ4_charAt_12 ?_
  refine lv_i2c hx hb dJ4_charAt_13 (wC_ok i hi k hk) ?_
  exact d_iret E hr (wC_nar i hi k hk) hw rfl rfl dJ4_charAt_14
set_option maxHeartbeats 4000000 in
theorem m_J3_charAt (l : Launch) {K : QK} {G : State → Prop} (hG : QG G) {w : QW} {y : QY} (hS : QSt K G y) {i k : Nat} (hi : i < 27) (hk : k < (wB.getD i []).length) : MC l K G yJ3_charAt (ws_ yJ3_charAt cJ3_charAt 2 (some .char)) 4 160 0 0 [.ref (y.2.1 i), .int (nI k)] w (QR (some (.int (wC i k))) w) := by
  refine MC.of (by decide) (Nat.le_of_ble_eq_true rfl) (lv := [(0, .ref (y.2.1 i)), (1, .int (nI k))]) rfl (fun p e s m below meth c ls E hr hl hw => ?_)
  have hx := E.1
  have hb := E.2.1
  have hown := E.2.2.1
  have hts := E.2.2.2.2.1
  have hs := (hS.1 s E.2.2.2.2.2.1).1 i hi
  refine lv_aload_n hx hb dJ3_charAt_0 rfl (lv_at hl 0 rfl) ?_
  refine d_VO (As := []) (v0 := some (.int 1)) hG E hw hl (m_J3_isLatin1 l hS hi) hs.1 (cwV 0 hts (lw_V q433 q434 q435 q146 q436) rfl rfl rfl ⟨rfl, kd_J3_isLatin1⟩ ⟨Nat.le_of_ble_eq_true rfl, Nat.le_of_ble_eq_true rfl⟩) rfl (rest := []) (st1 := [.int 1]) rfl rfl rfl dJ3_charAt_1 ⟨Nat.le_of_ble_eq_true rfl, Nat.le_of_ble_eq_true rfl⟩ (fun H locs hw => ?_)
  refine lv_if_eq (tgt := 16) hx hb dJ3_charAt_4 (by decide) (fun c => ?_) (fun c => ?_)
  · exact absurd c (by decide)
  refine lv_aload_n hx hb dJ3_charAt_7 rfl (lv_at hl 0 rfl) ?_
  refine r_ogetf E hw hs.2.2.1 q2059 dJ3_charAt_8 ?_
  refine lv_iload_n hx hb dJ3_charAt_11 rfl (lv_at hl 1 rfl) ?_
  refine d_S (As := [.ref (y.2.2 i), .int (nI k)]) (v0 := some (.int (wC i k))) hG E hw hl (m_J4_charAt l hG hS hi hk) (va_cwS 2 hts (lw_S q437 q438 q147 q439) rfl rfl rfl kd_J4_charAt ⟨Nat.le_of_ble_eq_true rfl, Nat.le_of_ble_eq_true rfl⟩) rfl (rest := []) (st1 := [.int (wC i k)]) rfl rfl rfl dJ3_charAt_12 ⟨Nat.le_of_ble_eq_true rfl, Nat.le_of_ble_eq_true rfl⟩ (fun H locs hw => ?_)
  exact d_iret E hr (wC_nar i hi k hk) hw rfl rfl dJ3_charAt_15
/-! letters, figures, words -/
def b32 (b : Bool) : Int32 := if b then 1 else 0
def sLet (c : Int32) : Bool := (decide (97 ≤ c) && decide (c ≤ 122)) || (decide (65 ≤ c) && decide (c ≤ 90))
def sDig (c : Int32) : Bool := decide (48 ≤ c) && decide (c ≤ 57)
theorem n_lt32 {a b : Int32} (h : a < b) : ¬ b ≤ a := Int32.not_le.mpr h
theorem n_le32 {a b : Int32} (h : ¬ a < b) : b ≤ a := Int32.not_lt.mp h
set_option maxHeartbeats 4000000 in
theorem m_X3_isLetter (l : Launch) {K : QK} {G : State → Prop} {w : QW} {v : Int32} : MC l K G yX3_isLetter (ws_ yX3_isLetter cX3_isLetter 1 (some .boolean)) 1 40 0 0 [.int v] w (QR (some (.int (b32 (sLet v)))) w) := by
  refine MC.of (by decide) (Nat.le_of_ble_eq_true rfl) (lv := [(0, .int v)]) rfl (fun p e s m below meth c ls E hr hl hw => ?_)
  have hx := E.1
  have hb := E.2.1
  have hown := E.2.2.1
  have hts := E.2.2.2.2.1
  have big : ¬ (97 ≤ v ∧ v ≤ 122) → W p l e (qrm 1 40 0 0) s m #[.int v] below meth c s.heap [] 0 0 (MQ below (QE K (QR (some (.int (b32 (sLet v)))) w)) #[.int v] s 0 0 (qA K)) (F0 m 12 ls []) := by
    intro hn
    refine lv_iload_n hx hb dX3_isLetter_12 rfl (lv_at hl 0 rfl) ?_
    refine lv_bipush (v := (65:Int32)) hx hb dX3_isLetter_13 (by decide) ?_
    refine lv_icmp_lt (tgt := 28) hx hb dX3_isLetter_15 (by decide) (fun c => ?_) (fun c => ?_)
    · refine lv_iconst (v := (0:Int32)) hx hb dX3_isLetter_28 (by decide) ?_
      refine d_iret E hr rfl hw ?_ rfl dX3_isLetter_29
      have e : sLet v = false := by
        rw [sLet, decide_eq_false (n_lt32 c), Bool.false_and, Bool.or_false, Bool.and_eq_false_iff]
        by_cases h : 97 ≤ v
        · exact Or.inr (decide_eq_false (fun q => hn ⟨h, q⟩))
        · exact Or.inl (decide_eq_false h)
      rw [e]; rfl
    refine lv_iload_n hx hb dX3_isLetter_18 rfl (lv_at hl 0 rfl) ?_
    refine lv_bipush (v := (90:Int32)) hx hb dX3_isLetter_19 (by decide) ?_
    refine lv_icmp_gt (tgt := 28) hx hb dX3_isLetter_21 (by decide) (fun c2 => ?_) (fun c2 => ?_)
    · refine lv_iconst (v := (0:Int32)) hx hb dX3_isLetter_28 (by decide) ?_
      refine d_iret E hr rfl hw ?_ rfl dX3_isLetter_29
      have e : sLet v = false := by
        rw [sLet, decide_eq_false (n_lt32 c2), Bool.and_false, Bool.or_false, Bool.and_eq_false_iff]
        by_cases h : 97 ≤ v
        · exact Or.inr (decide_eq_false (fun q => hn ⟨h, q⟩))
        · exact Or.inl (decide_eq_false h)
      rw [e]; rfl
    · refine lv_iconst (v := (1:Int32)) hx hb dX3_isLetter_24 (by decide) ?_
      refine lv_goto (tgt := 29) hx hb dX3_isLetter_25 (by decide) ?_
      refine d_iret E hr rfl hw ?_ rfl dX3_isLetter_29
      have e : sLet v = true := by
        rw [sLet, decide_eq_true (n_le32 c), decide_eq_true (Int32.not_lt.mp c2)]
        exact Bool.or_true _
      rw [e]; rfl
  refine lv_iload_n hx hb dX3_isLetter_0 rfl (lv_at hl 0 rfl) ?_
  refine lv_bipush (v := (97:Int32)) hx hb dX3_isLetter_1 (by decide) ?_
  refine lv_icmp_lt (tgt := 12) hx hb dX3_isLetter_3 (by decide) (fun c => ?_) (fun c => ?_)
  · exact big (fun h => n_lt32 c h.1)
  refine lv_iload_n hx hb dX3_isLetter_6 rfl (lv_at hl 0 rfl) ?_
  refine lv_bipush (v := (122:Int32)) hx hb dX3_isLetter_7 (by decide) ?_
  refine lv_icmp_le (tgt := 24) hx hb dX3_isLetter_9 (by decide) (fun c2 => ?_) (fun c2 => ?_)
  · refine lv_iconst (v := (1:Int32)) hx hb dX3_isLetter_24 (by decide) ?_
    refine lv_goto (tgt := 29) hx hb dX3_isLetter_25 (by decide) ?_
    refine d_iret E hr rfl hw ?_ rfl dX3_isLetter_29
    have e : sLet v = true := by
      rw [sLet, decide_eq_true (n_le32 c), decide_eq_true c2]
      rfl
    rw [e]; rfl
  · exact big (fun h => c2 h.2)
set_option maxHeartbeats 4000000 in
theorem m_X3_isDigit (l : Launch) {K : QK} {G : State → Prop} {w : QW} {v : Int32} : MC l K G yX3_isDigit (ws_ yX3_isDigit cX3_isDigit 1 (some .boolean)) 1 40 0 0 [.int v] w (QR (some (.int (b32 (sDig v)))) w) := by
  refine MC.of (by decide) (Nat.le_of_ble_eq_true rfl) (lv := [(0, .int v)]) rfl (fun p e s m below meth c ls E hr hl hw => ?_)
  have hx := E.1
  have hb := E.2.1
  have hown := E.2.2.1
  have hts := E.2.2.2.2.1
  refine lv_iload_n hx hb dX3_isDigit_0 rfl (lv_at hl 0 rfl) ?_
  refine lv_bipush (v := (48:Int32)) hx hb dX3_isDigit_1 (by decide) ?_
  refine lv_icmp_lt (tgt := 16) hx hb dX3_isDigit_3 (by decide) (fun c => ?_) (fun c => ?_)
  · refine lv_iconst (v := (0:Int32)) hx hb dX3_isDigit_16 (by decide) ?_
    refine d_iret E hr rfl hw ?_ rfl dX3_isDigit_17
    have e : sDig v = false := by rw [sDig, decide_eq_false (n_lt32 c), Bool.false_and]
    rw [e]; rfl
  refine lv_iload_n hx hb dX3_isDigit_6 rfl (lv_at hl 0 rfl) ?_
  refine lv_bipush (v := (57:Int32)) hx hb dX3_isDigit_7 (by decide) ?_
  refine lv_icmp_gt (tgt := 16) hx hb dX3_isDigit_9 (by decide) (fun c2 => ?_) (fun c2 => ?_)
  · refine lv_iconst (v := (0:Int32)) hx hb dX3_isDigit_16 (by decide) ?_
    refine d_iret E hr rfl hw ?_ rfl dX3_isDigit_17
    have e : sDig v = false := by rw [sDig, decide_eq_false (n_lt32 c2), Bool.and_false]
    rw [e]; rfl
  · refine lv_iconst (v := (1:Int32)) hx hb dX3_isDigit_12 (by decide) ?_
    refine lv_goto (tgt := 17) hx hb dX3_isDigit_13 (by decide) ?_
    refine d_iret E hr rfl hw ?_ rfl dX3_isDigit_17
    have e : sDig v = true := by rw [sDig, decide_eq_true (n_le32 c), decide_eq_true (Int32.not_lt.mp c2)]; rfl
    rw [e]; rfl
