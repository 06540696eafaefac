/-! the contracts of a tree's methods: sums -/
set_option maxRecDepth 100000
theorem drop_get {α : Type} {l r : List α} {x : α} {k : Nat} (h : l.drop k = x :: r) : k < l.length ∧ l[k]? = some x ∧ l.drop (k + 1) = r := by
  have h1 : l[k]? = some x := by
    have := congrArg (fun z => z[0]?) h
    simpa [List.getElem?_drop] using this
  refine ⟨(List.getElem?_eq_some_iff.mp h1).1, h1, ?_⟩
  rw [← List.drop_drop, h]
  rfl
theorem drop_end {α : Type} {l : List α} {k : Nat} (h : l.drop k = []) : l.length ≤ k := List.drop_eq_nil_iff.mp h
set_option maxHeartbeats 4000000 in
theorem w_chain {p : Program} {l : Launch} {e : Env} {s : State} {m : MethodId} {args : Array Value} {below : List Frame} {meth : Method} {c : Code} {K : QK} {G : State → Prop} {A B : QA} {L : QL} {X : QX} {M : QM} {n a f lm lg : Nat} {its : List QIt} {ro : Int64} (hG : QG G) (hC : QCl K) (E : EV K G p s m args meth c cX9_of "VaneCourt$Chain" 10) (hr : meth.sig.returnType = some .long) (h1 : DAt K M a (.inr (9, [.ref f, .ref lm, .ref lg]))) (h3 : LstAt K M lm (its.map (fun it => it.2.1))) (h4 : IntsAt K M lg (its.map (fun it => it.1))) (ih : ∀ it ∈ its, OfC l K G xSum .long (tF n) (tL n) it.2.1 [.ref (K.2.1 4)] (A, B, L, X, M) (.long (it.2.2.2 (A 4)))) :
    ∀ (r : List QIt) (k : Nat) (acc : Int64), its.drop k = r → k ≤ its.length → ro = sChain (A 4) acc r → ∀ {H : Heap} {locs : List Loc} {ls : Array Slot}, WP K (A, B, L, X, M) H locs → lv_has ls 10 [(0, .ref a), (1, .ref (K.2.1 4)), (2, .long acc), (4, .int (nI k))] → W p l e (qrm (tF (n + 1)) (tL (n + 1)) 0 0) s m args below meth c H locs 0 0 (MQ below (QE K (QR (some (.long ro)) (A, B, L, X, M))) args s 0 0 (qA K)) (F0 m 14 ls []) := by
  have hx := E.1
  have hb := E.2.1
  have hown := E.2.2.1
  have hts := E.2.2.2.2.1
  obtain ⟨mo, ed, cap, g, u1, u2, u3, u4, u5⟩ := id h3
  have ulen : (its.map (fun it => it.2.1)).length = its.length := List.length_map _
  rw [ulen] at u1 u3
  intro r
  induction r with
  | nil =>
    intro k acc hd hk hro H locs ls hw hl
    have hk2 : k = its.length := Nat.le_antisymm hk (drop_end hd)
    refine lv_iload hx hb dX9_of_14 (lv_at hl 3 rfl) ?_
    refine lv_aload_n hx hb dX9_of_16 rfl (lv_at hl 0 rfl) ?_
    refine r_get (v := .ref lm) E hw h1.q (T := TX9) (N := 3) rfl in_X9 1 (by decide) q748 rfl dX9_of_17 ?_
    refine d_V (As := []) (v0 := some (.int (nI its.length))) hG E hw hl (m_J2_size l u1.q) u1.q rfl (cwV 0 hts (lw_V q981 q675 q676 q145 q677) rfl rfl rfl ⟨rfl, kd_J2_size⟩ ⟨(show 1 + 1 ≤ n + 1 + 6 by omega), (show 8 + (1 + 11) + 40 ≤ (n + 1) * 60 + 400 by omega)⟩) rfl (rest := [.int (nI k)]) (st1 := [.int (nI its.length), .int (nI k)]) rfl rfl rfl dX9_of_20 ⟨Nat.zero_le _, Nat.zero_le _⟩ (fun H locs hw => ?_)
    refine lv_icmp_ge (tgt := 143) hx hb dX9_of_23 (by decide) (fun c => ?_) (fun c => ?_)
    · refine lv_lload_n hx hb dX9_of_143 rfl (lv_at hl 2 rfl) ?_
      exact d_lret E hr hw hro.symm rfl dX9_of_144
    · exact absurd (nI_le (by omega) (by omega)) c
  | cons it r ihr =>
    intro k acc hd hk hro H locs ls hw hl
    obtain ⟨hkl, hkk, hd2⟩ := drop_get hd
    have hO := ih it (List.mem_of_getElem? hkk)
    obtain ⟨xs, i1, i2, i3⟩ := id h4
    have hgx : (its.map (fun it => it.2.1))[k]? = some it.2.1 := by rw [List.getElem?_map, hkk]; rfl
    have hgv : (its.map (fun it => it.1))[k]? = some it.1 := by rw [List.getElem?_map, hkk]; rfl
    have hxl : k < xs.length := by rw [i2, List.length_map]; exact hkl
    obtain ⟨y, hy⟩ : ∃ y, xs[k]? = some y := ⟨xs[k], List.getElem?_eq_getElem hxl⟩
    have hyI := i3 k y it.1 hy hgv
    have tail : ∀ (v t : Int64), ro = sChain (A 4) (sClip t) r → ∀ (b : Int64) (sg : Int32) {H : Heap} {locs : List Loc} {ls : Array Slot}, WP K (A, B, L, X, M) H locs → lv_has ls 10 [(0, .ref a), (1, .ref (K.2.1 4)), (4, .int (nI k))] → W p l e (qrm (tF (n + 1)) (tL (n + 1)) 0 0) s m args below meth c H locs 0 0 (MQ below (QE K (QR (some (.long ro)) (A, B, L, X, M))) args s 0 0 (qA K)) (F0 m 120 ls [.long t]) := by
      intro v t hro b sg H locs ls hw hl
      refine lv_lstore (lv' := [(8, .long t), (0, .ref a), (1, .ref (K.2.1 4)), (4, .int (nI k))]) hx hb dX9_of_120 hl (by decide) rfl (fun ls hl => ?_)
      refine lv_ldc2 (v := (-1000000:Int64)) hx hb hown (hts _ q989) dX9_of_122 ?_
      refine lv_ldc2 (v := (1000000:Int64)) hx hb hown (hts _ q990) dX9_of_125 ?_
      refine lv_lload hx hb dX9_of_128 (lv_at hl 0 rfl) ?_
      refine va_mmin_long hx hb (E.2.2.2.2.2.2.2.trans hl.1.symm) hown (hts _ q991) (hts _ q992) (hts _ q150) (hts _ q993) (Nat.le_trans (Nat.le_of_ble_eq_true rfl : 1 ≤ 6) (Nat.le_add_left _ _)) (Nat.le_trans (Nat.le_of_ble_eq_true rfl : _ ≤ 400) (Nat.le_add_left _ _)) (Nat.le_refl _) (Nat.le_refl _) dX9_of_130 ?_
      refine va_mmax_long hx hb (E.2.2.2.2.2.2.2.trans hl.1.symm) hown (hts _ q994) (hts _ q995) (hts _ q150) (hts _ q996) (Nat.le_trans (Nat.le_of_ble_eq_true rfl : 1 ≤ 6) (Nat.le_add_left _ _)) (Nat.le_trans (Nat.le_of_ble_eq_true rfl : _ ≤ 400) (Nat.le_add_left _ _)) (Nat.le_refl _) (Nat.le_refl _) dX9_of_133 ?_
      refine r_nml (y := sClip t) rfl ?_
      refine lv_lstore_n (lv' := [(2, .long (sClip t)), (8, .long t), (0, .ref a), (1, .ref (K.2.1 4)), (4, .int (nI k))]) hx hb dX9_of_136 rfl hl (by decide) rfl (fun ls hl => ?_)
      refine lv_iinc (v := nI (k + 1)) (lv' := [(4, .int (nI (k + 1))), (2, .long (sClip t)), (8, .long t), (0, .ref a), (1, .ref (K.2.1 4))]) (k := 4) hx hb dX9_of_137 hl rfl (by rw [nI_succ]; rfl) (by decide) rfl (fun ls hl => ?_)
      refine lv_goto (tgt := 14) hx hb dX9_of_140 (by decide) ?_
      exact ihr (k + 1) (sClip t) hd2 (by omega) hro hw (lv_sub hl [3, 4, 1, 0] rfl)
    refine lv_iload hx hb dX9_of_14 (lv_at hl 3 rfl) ?_
    refine lv_aload_n hx hb dX9_of_16 rfl (lv_at hl 0 rfl) ?_
    refine r_get (v := .ref lm) E hw h1.q (T := TX9) (N := 3) rfl in_X9 1 (by decide) q748 rfl dX9_of_17 ?_
    refine d_V (As := []) (v0 := some (.int (nI its.length))) hG E hw hl (m_J2_size l u1.q) u1.q rfl (cwV 0 hts (lw_V q981 q675 q676 q145 q677) rfl rfl rfl ⟨rfl, kd_J2_size⟩ ⟨(show 1 + 1 ≤ n + 1 + 6 by omega), (show 8 + (1 + 11) + 40 ≤ (n + 1) * 60 + 400 by omega)⟩) rfl (rest := [.int (nI k)]) (st1 := [.int (nI its.length), .int (nI k)]) rfl rfl rfl dX9_of_20 ⟨Nat.zero_le _, Nat.zero_le _⟩ (fun H locs hw => ?_)
    refine lv_icmp_ge (tgt := 143) hx hb dX9_of_23 (by decide) (fun c => ?_) (fun c => ?_)
    · exact absurd c (nI_ge hkl (by omega))
    refine lv_aload_n hx hb dX9_of_26 rfl (lv_at hl 0 rfl) ?_
    refine r_get (v := .ref lm) E hw h1.q (T := TX9) (N := 3) rfl in_X9 1 (by decide) q748 rfl dX9_of_27 ?_
    refine lv_iload hx hb dX9_of_30 (lv_at hl 3 rfl) ?_
    refine d_V (As := [.int (nI k)]) (v0 := some (.ref it.2.1)) hG E hw hl (m_J2_get l hG h3 hgx) u1.q rfl (cwV 1 hts (lw_V q982 q807 q808 q145 q809) rfl rfl rfl ⟨rfl, kd_J2_get⟩ ⟨(show 3 + 1 ≤ n + 1 + 6 by omega), (show 8 + (2 + 11) + 120 ≤ (n + 1) * 60 + 400 by omega)⟩) rfl (rest := []) (st1 := [.ref it.2.1]) rfl rfl rfl dX9_of_32 ⟨Nat.zero_le _, Nat.zero_le _⟩ (fun H locs hw => ?_)
    refine r_castO E hw hO (nm := "VaneCourt$Sum") rfl q983 dX9_of_35 ?_
    refine lv_aload_n hx hb dX9_of_38 rfl (lv_at hl 1 rfl) ?_
    refine r_F hG E hw hl hO q960 kd_xSum ⟨(show n + 6 + 1 ≤ n + 1 + 6 by omega), (show 8 + (10 + 11) + (n * 60 + 400) ≤ (n + 1) * 60 + 400 by omega)⟩ rfl (rest := []) (st1 := [.long (it.2.2.2 (A 4))]) rfl rfl rfl dX9_of_39 ⟨Nat.zero_le _, Nat.zero_le _⟩ (fun H locs hw => ?_)
    generalize hbv : it.2.2.2 (A 4) = bv
    refine lv_lstore (lv' := [(5, .long bv), (0, .ref a), (1, .ref (K.2.1 4)), (2, .long acc), (4, .int (nI k))]) hx hb dX9_of_44 hl (by decide) rfl (fun ls hl => ?_)
    refine lv_aload_n hx hb dX9_of_46 rfl (lv_at hl 1 rfl) ?_
    refine r_get (v := .ref lg) E hw h1.q (T := TX9) (N := 3) rfl in_X9 2 (by decide) q749 rfl dX9_of_47 ?_
    refine lv_iload hx hb dX9_of_50 (lv_at hl 4 rfl) ?_
    obtain ⟨mo2, ed2, cap2, g2, v1, -⟩ := id i1
    refine d_V (As := [.int (nI k)]) (v0 := some (.ref y)) hG E hw hl (m_J2_get l hG i1 hy) v1.q rfl (cwV 1 hts (lw_V q982 q807 q808 q145 q809) rfl rfl rfl ⟨rfl, kd_J2_get⟩ ⟨(show 3 + 1 ≤ n + 1 + 6 by omega), (show 8 + (2 + 11) + 120 ≤ (n + 1) * 60 + 400 by omega)⟩) rfl (rest := []) (st1 := [.ref y]) rfl rfl rfl dX9_of_52 ⟨Nat.zero_le _, Nat.zero_le _⟩ (fun H locs hw => ?_)
    refine r_castS E hw hyI.q (T := TJ14) (N := 1) rfl q984 dX9_of_55 ?_
    refine d_V (As := []) (v0 := some (.int it.1)) hG E hw hl (m_J14_intValue l hyI.q) hyI.q rfl (cwV 0 hts (lw_V q985 q986 q987 q165 q988) rfl rfl rfl ⟨rfl, kd_J14_intValue⟩ ⟨(show 1 + 1 ≤ n + 1 + 6 by omega), (show 8 + (1 + 11) + 40 ≤ (n + 1) * 60 + 400 by omega)⟩) rfl (rest := []) (st1 := [.int it.1]) rfl rfl rfl dX9_of_58 ⟨Nat.zero_le _, Nat.zero_le _⟩ (fun H locs hw => ?_)
    refine lv_istore (lv' := [(7, .int it.1), (5, .long bv), (0, .ref a), (1, .ref (K.2.1 4)), (2, .long acc), (4, .int (nI k))]) hx hb dX9_of_61 hl (by decide) rfl (fun ls hl => ?_)
    have hro2 : ro = sChain (A 4) (sTwo it.1 acc bv) r := by rw [← hbv]; exact hro
    unfold sTwo at hro2
    refine lv_iload hx hb dX9_of_63 (lv_at hl 0 rfl) ?_
    refine lv_bipush (v := (43:Int32)) hx hb dX9_of_65 (by decide) ?_
    refine lv_icmp_ne (tgt := 77) hx hb dX9_of_67 (by decide) (fun c1 => ?_) (fun c1 => ?_)
    · rw [if_neg c1] at hro2
      refine lv_iload hx hb dX9_of_77 (lv_at hl 0 rfl) ?_
      refine lv_bipush (v := (45:Int32)) hx hb dX9_of_79 (by decide) ?_
      refine lv_icmp_ne (tgt := 91) hx hb dX9_of_81 (by decide) (fun c2 => ?_) (fun c2 => ?_)
      · rw [if_neg c2] at hro2
        refine lv_iload hx hb dX9_of_91 (lv_at hl 0 rfl) ?_
        refine lv_bipush (v := (42:Int32)) hx hb dX9_of_93 (by decide) ?_
        refine lv_icmp_ne (tgt := 105) hx hb dX9_of_95 (by decide) (fun c3 => ?_) (fun c3 => ?_)
        · rw [if_neg c3] at hro2
          refine lv_lload hx hb dX9_of_105 (lv_at hl 1 rfl) ?_
          refine lv_lconst (v := (0:Int64)) hx hb dX9_of_107 (by decide) ?_
          refine W.lcmp hx hb dX9_of_108 ?_
          refine lv_if_ne (tgt := 116) hx hb dX9_of_109 (by decide) (fun c4 => ?_) (fun c4 => ?_)
          · have c5 : ¬ bv = 0 := fun z => c4 ((lg_cmp_eq _ _).mpr z)
            rw [if_neg c5] at hro2
            refine lv_lload_n hx hb dX9_of_116 rfl (lv_at hl 4 rfl) ?_
            refine lv_lload hx hb dX9_of_117 (lv_at hl 1 rfl) ?_
            refine lv_ldiv hx hb dX9_of_119 c5 ?_
            exact tail 0 _ hro2 0 0 hw (lv_sub hl [2, 3, 5] rfl)
          · rw [if_pos ((lg_cmp_eq _ _).mp c4)] at hro2
            refine lv_lconst (v := (0:Int64)) hx hb dX9_of_112 (by decide) ?_
            refine lv_goto (tgt := 120) hx hb dX9_of_113 (by decide) ?_
            exact tail 0 _ hro2 0 0 hw (lv_sub hl [2, 3, 5] rfl)
        · rw [if_pos c3] at hro2
          refine lv_lload_n hx hb dX9_of_98 rfl (lv_at hl 4 rfl) ?_
          refine lv_lload hx hb dX9_of_99 (lv_at hl 1 rfl) ?_
          refine lv_lmul hx hb dX9_of_101 ?_
          refine lv_goto (tgt := 120) hx hb dX9_of_102 (by decide) ?_
          exact tail 0 _ hro2 0 0 hw (lv_sub hl [2, 3, 5] rfl)
      · rw [if_pos c2] at hro2
        refine lv_lload_n hx hb dX9_of_84 rfl (lv_at hl 4 rfl) ?_
        refine lv_lload hx hb dX9_of_85 (lv_at hl 1 rfl) ?_
        refine lv_lsub hx hb dX9_of_87 ?_
        refine lv_goto (tgt := 120) hx hb dX9_of_88 (by decide) ?_
        exact tail 0 _ hro2 0 0 hw (lv_sub hl [2, 3, 5] rfl)
    · rw [if_pos c1] at hro2
      refine lv_lload_n hx hb dX9_of_70 rfl (lv_at hl 4 rfl) ?_
      refine lv_lload hx hb dX9_of_71 (lv_at hl 1 rfl) ?_
      refine lv_ladd hx hb dX9_of_73 ?_
      refine lv_goto (tgt := 120) hx hb dX9_of_74 (by decide) ?_
      exact tail 0 _ hro2 0 0 hw (lv_sub hl [2, 3, 5] rfl)
set_option maxHeartbeats 4000000 in
/-- every sum's tree answers its value of the names, and changes nothing -/
theorem m_sum (l : Launch) {K : QK} {G : State → Prop} (hG : QG G) (hF : QF G) (hC : QCl K) {A B : QA} {L : QL} {X : QX} {M : QM} : ∀ (n a : Nat) (c : QC) (φ : QS), SumAt K M n a c φ → OfC l K G xSum .long (tF n) (tL n) a [.ref (K.2.1 4)] (A, B, L, X, M) (.long (φ (A 4))) := by
  intro n
  induction n with
  | zero => intro a c φ h; exact h.elim
  | succ n ih =>
    intro a c φ h
    rcases h with ⟨v, h1, h2, h3⟩ | ⟨v, h1, h0, h2, h3⟩ | ⟨b, c1, φ1, h1, h2, h3, h4⟩ | ⟨f, lm, lg, c1, φ1, its, h1, h2, h3, h4, h5, h6, h7⟩
    · subst h3
      refine ⟨10, 1, RX10, TX10, _, yX10_of, cX10_of, 2, rfl, h1.q, ?_, hF.at 0 rfl, q976, q978, q161, q980, by decide⟩
      refine MC.of (by decide) (Nat.le_of_ble_eq_true rfl) (lv := [(0, .ref a), (1, .ref (K.2.1 4))]) rfl (fun p e s m below meth c ls E hr hl hw => ?_)
      have hx := E.1
      have hb := E.2.1
      refine lv_aload_n hx hb dX10_of_0 rfl (lv_at hl 0 rfl) ?_
      refine r_get (v := .int v) E hw h1.q (T := TX10) (N := 1) rfl in_X10 0 (by decide) q708 rfl dX10_of_1 ?_
      refine lv_i2l hx hb dX10_of_4 rfl ?_
      exact d_lret E hr hw rfl rfl dX10_of_5
    · subst h3
      refine ⟨11, 1, RX11, TX11, _, yX11_of, cX11_of, 2, rfl, h1.q, ?_, hF.at 1 rfl, q970, q972, q162, q974, by decide⟩
      refine MC.of (by decide) (Nat.le_of_ble_eq_true rfl) (lv := [(0, .ref a), (1, .ref (K.2.1 4))]) rfl (fun p e s m below meth c ls E hr hl hw => ?_)
      have hx := E.1
      have hb := E.2.1
      have hin : vp_in v 9 := by
        have := vp_in_iff.mp (qok_in h0)
        exact vp_in_iff.mpr ⟨this.1, by omega⟩
      refine lv_aload_n hx hb dX11_of_0 rfl (lv_at hl 1 rfl) ?_
      refine lv_aload_n hx hb dX11_of_1 rfl (lv_at hl 0 rfl) ?_
      refine r_get (v := .int v) E hw h1.q (T := TX11) (N := 1) rfl in_X11 0 (by decide) q727 rfl dX11_of_2 ?_
      refine r_iald (j := v.toNatClampNeg) E hw (qi_4 hC).at hin rfl dX11_of_5 ?_
      refine lv_i2l hx hb dX11_of_6 rfl ?_
      exact d_lret E hr hw rfl rfl dX11_of_7
    · subst h4
      refine ⟨12, 1, RX12, TX12, _, yX12_of, cX12_of, 2, rfl, h1.q, ?_, hF.at 2 rfl, q962, q964, q163, q966, by decide⟩
      refine MC.of (by decide) (Nat.le_of_ble_eq_true rfl) (lv := [(0, .ref a), (1, .ref (K.2.1 4))]) rfl (fun p e s m below meth c ls E hr hl hw => ?_)
      have hx := E.1
      have hb := E.2.1
      refine lv_aload_n hx hb dX12_of_0 rfl (lv_at hl 0 rfl) ?_
      refine r_get (v := .ref b) E hw h1.q (T := TX12) (N := 1) rfl in_X12 0 (by decide) q737 rfl dX12_of_1 ?_
      refine lv_aload_n hx hb dX12_of_4 rfl (lv_at hl 1 rfl) ?_
      refine r_F hG E hw hl (ih b c1 φ1 h2) q968 kd_xSum ⟨(show n + 6 + 1 ≤ n + 1 + 6 by omega), (show 8 + (10 + 11) + (n * 60 + 400) ≤ (n + 1) * 60 + 400 by omega)⟩ rfl (rest := []) (st1 := [.long (φ1 (A 4))]) rfl rfl rfl dX12_of_5 ⟨Nat.zero_le _, Nat.zero_le _⟩ (fun H locs hw => ?_)
      refine lv_lneg hx hb dX12_of_10 ?_
      exact d_lret E hr hw rfl rfl dX12_of_11
    · subst h7
      refine ⟨9, 3, RX9, TX9, _, yX9_of, cX9_of, 10, rfl, h1.q, ?_, hF.at 3 rfl, q954, q956, q160, q958, by decide⟩
      refine MC.of (by decide) (Nat.le_of_ble_eq_true rfl) (lv := [(0, .ref a), (1, .ref (K.2.1 4))]) rfl (fun p e s m below meth c ls E hr hl hw => ?_)
      have hx := E.1
      have hb := E.2.1
      refine lv_aload_n hx hb dX9_of_0 rfl (lv_at hl 0 rfl) ?_
      refine r_get (v := .ref f) E hw h1.q (T := TX9) (N := 3) rfl in_X9 0 (by decide) q747 rfl dX9_of_1 ?_
      refine lv_aload_n hx hb dX9_of_4 rfl (lv_at hl 1 rfl) ?_
      refine r_F hG E hw hl (ih f c1 φ1 h2) q960 kd_xSum ⟨(show n + 6 + 1 ≤ n + 1 + 6 by omega), (show 8 + (10 + 11) + (n * 60 + 400) ≤ (n + 1) * 60 + 400 by omega)⟩ rfl (rest := []) (st1 := [.long (φ1 (A 4))]) rfl rfl rfl dX9_of_5 ⟨Nat.zero_le _, Nat.zero_le _⟩ (fun H locs hw => ?_)
      refine lv_lstore_n (lv' := [(2, .long (φ1 (A 4))), (0, .ref a), (1, .ref (K.2.1 4))]) hx hb dX9_of_10 rfl hl (by decide) rfl (fun ls hl => ?_)
      refine lv_iconst (v := (0:Int32)) hx hb dX9_of_11 (by decide) ?_
      refine lv_istore (lv' := [(4, .int (nI 0)), (2, .long (φ1 (A 4))), (0, .ref a), (1, .ref (K.2.1 4))]) hx hb dX9_of_12 hl (by decide) rfl (fun ls hl => ?_)
      exact w_chain hG hC E hr h1 h3 h4 (fun it q => ih _ _ _ (h5 it q)) its 0 (φ1 (A 4)) rfl (Nat.zero_le _) rfl hw (lv_sub hl [2, 3, 1, 0] rfl)
