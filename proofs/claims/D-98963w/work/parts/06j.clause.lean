/-! code, clause, read: written, walked -/
set_option maxRecDepth 100000
theorem kd_X3_whole : yX3_whole.cls ≠ "java/lang/invoke/MethodHandle" ∧ yX3_whole.cls ≠ "java/lang/invoke/VarHandle" ∧ (parseMethodDescriptor yX3_whole.desc).map (fun d => d.parameters.length) = some 0 := by decide +kernel
def sCode (D : Nat → Int32) (n : Nat) (tt : QT) (t : QTS) : Option (PR QT) :=
  pbo (some (sNumber D n 0 3 t)) fun v t1 => match tt.1 v.toNatClampNeg with
    | some _ => some (.inl (4, t.2.1, 1))
    | none => pbo (some (sWant D n 58 t1)) fun _ t2 => pbo (sWhole D n t2) fun q t3 => some (.inr ((fun i => if i = v.toNatClampNeg then some q else tt.1 i, tt.2), t3, 0))
def sClause (D : Nat → Int32) (n : Nat) (tt : QT) (k : Nat) (t : QTS) : Option (PR QT) :=
  if t.2.2.2.2.2 = 200 then sCode D n tt t
  else if t.2.2.2.2.2 = 201 then pbo (sSum D n t) fun q t1 => some (.inr ((tt.1, some q, tt.2.2), t1, 0))
  else if t.2.2.2.2.2 = 202 then pbo (sSum D n t) fun q t1 => some (.inr ((tt.1, tt.2.1, some q, tt.2.2.2), t1, 0))
  else if t.2.2.2.2.2 = 203 then pbo (sWhole D n t) fun q t1 => some (.inr ((tt.1, tt.2.1, tt.2.2.1, tt.2.2.2.1, some q, tt.2.2.2.2.2), t1, 0))
  else if t.2.2.2.2.2 = 204 then pbo (sSum D n t) fun q t1 => some (.inr ((tt.1, tt.2.1, tt.2.2.1, some q, tt.2.2.2.2), t1, 0))
  else pbo (sDoing D n (nI k) t) fun d t1 => some (.inr ((tt.1, tt.2.1, tt.2.2.1, tt.2.2.2.1, tt.2.2.2.2.1, tt.2.2.2.2.2 ++ [d]), t1, addCost tt.2.2.2.2.2.length))
/-- told twice -/
def twice (s : Int32) (tt : QT) : Bool := (decide (s = 201) && tt.2.1.isSome) || (decide (s = 202) && tt.2.2.1.isSome) || (decide (s = 203) && tt.2.2.2.2.1.isSome) || (decide (s = 204) && tt.2.2.2.1.isSome)
abbrev tKind (t : QTS) (s : Int32) : QTS := (t.1, t.2.1, t.2.2.1, t.2.2.2.1, t.2.2.2.2.1, s)
def sReadL (D : Nat → Int32) (n : Nat) : Nat → QT → Nat → QTS → Option (PR QT)
  | 0, _, _, _ => none
  | f + 1, tt, k, t =>
    if t.2.2.1 = 301 then some (.inr (tt, t, 0))
    else if t.2.2.1 < 200 ∨ 211 < t.2.2.1 then some (.inl (1, t.2.1, 1))
    else if twice t.2.2.1 tt = true then some (.inl (4, t.2.1, 1))
    else if k = 24 then some (.inl (6, t.2.1, 1))
    else pbo (sClause D n tt k (sNext D n (tKind t t.2.2.1))) fun tt1 t1 => pbo (some (sWant D n 59 t1)) fun _ t2 => sReadL D n f tt1 (k + 1) t2
def qt0 : QT := (fun _ => none, none, none, none, none, [])
def sRead (D : Nat → Int32) (n : Nat) (t : QTS) : Option (PR QT) := pad 3 (sReadL D n 25 qt0 0 (sNext D n t))
theorem PT.code {D : Nat → Int32} {n : Nat} {tt : QT} : PT n (sCode D n tt) := by
  intro t q t' c ht h
  unfold sCode at h
  obtain ⟨v, t1, e1, d1, g1, h, -⟩ := pbo_inr h
  have k1 := PT.number _ _ _ _ ht g1
  cases hv : tt.1 v.toNatClampNeg with
  | some x => rw [hv] at h; cases h
  | none =>
    rw [hv] at h
    obtain ⟨u, t2, e2, d2, g2, h, -⟩ := pbo_inr h
    obtain ⟨q3, t3, e3, d3, g3, h, -⟩ := pbo_inr h
    cases h
    have k2 := k1.tr (PT.want _ _ _ _ k1.1 g2)
    exact k2.tr (PT.whole _ _ _ _ k2.1 g3)
theorem PT.clause {D : Nat → Int32} {n k : Nat} {tt : QT} : PT n (sClause D n tt k) := by
  intro t q t' c ht h
  unfold sClause at h
  by_cases c1 : t.2.2.2.2.2 = 200
  · rw [if_pos c1] at h; exact PT.code _ _ _ _ ht h
  rw [if_neg c1] at h
  by_cases c2 : t.2.2.2.2.2 = 201
  · rw [if_pos c2] at h
    obtain ⟨q1, t1, e1, d1, g1, h, -⟩ := pbo_inr h
    cases h
    exact PT.sum _ _ _ _ ht g1
  rw [if_neg c2] at h
  by_cases c3 : t.2.2.2.2.2 = 202
  · rw [if_pos c3] at h
    obtain ⟨q1, t1, e1, d1, g1, h, -⟩ := pbo_inr h
    cases h
    exact PT.sum _ _ _ _ ht g1
  rw [if_neg c3] at h
  by_cases c4 : t.2.2.2.2.2 = 203
  · rw [if_pos c4] at h
    obtain ⟨q1, t1, e1, d1, g1, h, -⟩ := pbo_inr h
    cases h
    exact PT.whole _ _ _ _ ht g1
  rw [if_neg c4] at h
  by_cases c5 : t.2.2.2.2.2 = 204
  · rw [if_pos c5] at h
    obtain ⟨q1, t1, e1, d1, g1, h, -⟩ := pbo_inr h
    cases h
    exact PT.sum _ _ _ _ ht g1
  rw [if_neg c5] at h
  obtain ⟨q1, t1, e1, d1, g1, h, -⟩ := pbo_inr h
  cases h
  exact PT.doing _ _ _ _ ht g1
theorem sClause_len {D : Nat → Int32} {n k c : Nat} {tt tt' : QT} {t t' : QTS} (h : sClause D n tt k t = some (.inr (tt', t', c))) : tt'.2.2.2.2.2.length ≤ tt.2.2.2.2.2.length + 1 := by
  unfold sClause at h
  by_cases c1 : t.2.2.2.2.2 = 200
  · rw [if_pos c1] at h
    unfold sCode at h
    obtain ⟨v, t1, e1, d1, g1, h, -⟩ := pbo_inr h
    cases hv : tt.1 v.toNatClampNeg with
    | some x => rw [hv] at h; cases h
    | none =>
      rw [hv] at h
      obtain ⟨u, t2, e2, d2, g2, h, -⟩ := pbo_inr h
      obtain ⟨q3, t3, e3, d3, g3, h, -⟩ := pbo_inr h
      cases h
      exact Nat.le_succ _
  rw [if_neg c1] at h
  by_cases c2 : t.2.2.2.2.2 = 201
  · rw [if_pos c2] at h
    obtain ⟨q1, t1, e1, d1, g1, h, -⟩ := pbo_inr h
    cases h
    exact Nat.le_succ _
  rw [if_neg c2] at h
  by_cases c3 : t.2.2.2.2.2 = 202
  · rw [if_pos c3] at h
    obtain ⟨q1, t1, e1, d1, g1, h, -⟩ := pbo_inr h
    cases h
    exact Nat.le_succ _
  rw [if_neg c3] at h
  by_cases c4 : t.2.2.2.2.2 = 203
  · rw [if_pos c4] at h
    obtain ⟨q1, t1, e1, d1, g1, h, -⟩ := pbo_inr h
    cases h
    exact Nat.le_succ _
  rw [if_neg c4] at h
  by_cases c5 : t.2.2.2.2.2 = 204
  · rw [if_pos c5] at h
    obtain ⟨q1, t1, e1, d1, g1, h, -⟩ := pbo_inr h
    cases h
    exact Nat.le_succ _
  rw [if_neg c5] at h
  obtain ⟨q1, t1, e1, d1, g1, h, -⟩ := pbo_inr h
  cases h
  show (tt.2.2.2.2.2 ++ [q1]).length ≤ _
  rw [List.length_append]
  exact Nat.le_refl _
theorem num_in {D : Nat → Int32} {n c : Nat} {lo hi u : Int32} {t t' : QTS} (h : some (sNumber D n lo hi t) = some (.inr (u, t', c))) : ¬ u < lo ∧ ¬ hi < u := by
  have h := Option.some.inj h
  unfold sNumber at h
  by_cases k1 : t.2.2.1 = 300
  · rw [if_pos k1] at h
    by_cases k2 : t.2.2.2.1 < lo ∨ hi < t.2.2.2.1
    · rw [if_pos k2] at h; cases h
    · rw [if_neg k2] at h
      cases h
      exact ⟨fun z => k2 (Or.inl z), fun z => k2 (Or.inr z)⟩
  · rw [if_neg k1] at h; cases h
theorem num_ok {u hi : Int32} {m : Nat} (h : ¬ u < 0 ∧ ¬ hi < u) (hm : hi.toInt < (m : Int)) : qok u m = true := by
  unfold qok
  have k3 : ¬ u.toInt < 0 := fun e9 => h.1 (Int32.lt_iff_toInt_lt.mpr e9)
  have k4 : ¬ hi.toInt < u.toInt := fun e9 => h.2 (Int32.lt_iff_toInt_lt.mpr e9)
  rw [decide_eq_true (by omega), decide_eq_true (by omega)]
  rfl
set_option maxHeartbeats 8000000 in
theorem m_X3_code (l : Launch) {K : QK} {G : State → Prop} {A B : QA} {L : QL} {X : QX} {M M0 F : QM} {n : Nat} {y : QY} {t : QTS} {ea mi ic : Nat} {ib : Nat → Nat} {a ca da ed k : Nat} {tt : QT} {r : PR QT} (hG : QG G) (hC : QCl K) (h13 : ql K 13) (hS : QSt K G y) (hWr : QWr K G) (hlst : l.stackTraces = false) (hn : n ≤ 300) (hLs : QLs K G ea mi) (hI : QIc K G ic ib) (hrd : RdS K ea M0 F M a ca da ed tt k) (ht : t.1 ≤ n) (ho : t.2.2.2.2.1 ≤ 8) (h : sCode (A 3) n tt t = some r) :
    MPw l K G yX3_code (ws_ yX3_code cX3_code 4 none) 85 3620 [.ref (K.2.1 13), .ref a] A B L X M M0 n t r (VR K ea M0 a ca da k) := by
  refine MX.of (by decide) (Nat.le_of_ble_eq_true rfl) (lv := [(0, .ref (K.2.1 13)), (1, .ref a)]) rfl (fun p e s m below meth c ls E hr hnt hl hw => ?_)
  have hx := E.1
  have hb := E.2.1
  have hown := E.2.2.1
  have hts := E.2.2.2.2.1
  unfold sCode at h
  obtain ⟨cf, ve, bl, se, fo, xs, hrd⟩ := hrd
  refine lv_aload_n hx hb dX3_code_0 rfl (lv_at hl 0 rfl) ?_
  refine r_gTok E hw hC h13 q316 dX3_code_1 ?_
  refine lv_istore_n (lv' := [(2, .int (nI t.2.1)), (0, .ref (K.2.1 13)), (1, .ref a)]) hx hb dX3_code_4 rfl hl (by decide) rfl (fun ls hl => ?_)
  refine lv_aload_n hx hb dX3_code_5 rfl (lv_at hl 1 rfl) ?_
  refine lv_iconst (v := (0:Int32)) hx hb dX3_code_6 (by decide) ?_
  refine lv_iconst (v := (3:Int32)) hx hb dX3_code_7 (by decide) ?_
  refine c_B (c0 := 0) (As := [.int 0, .int 3]) (rest := []) (V1 := fun _ a v => v = some (.int a)) hG E hnt hw h13 hrd.1.1 h padd_0.symm (Nat.le_refl _) (Nat.le_refl _) (fun r1 h1 => by cases h1; exact m_X3_number l hG hC h13 hS hWr hlst hn ht) (fun r1 => (cwV 2 hts (lw_V q551 q553 qs7 q141 q554) rfl rfl rfl ⟨rfl, kd_X3_number⟩ ⟨Nat.le_of_ble_eq_true rfl, Nat.le_of_ble_eq_true rfl⟩)) hl rfl rfl rfl dX3_code_8 (fun u t1 cst v M1 H locs y1 ho1 h hz hc hs hx1 hV hw => ?_)
  subst hV
  refine W.eq (g2 := F0 m 11 ls [.int u]) rfl ?_
  have hrd1 := hrd.call hx1
  have tk1 := PT.number _ _ _ _ ht ho1
  have hu := num_ok (m := 4) (num_in ho1) (by decide)
  have hle0 : 0 + cst ≤ pc_ r := by rw [hz, pc_add]; exact Nat.le_add_right _ _
  refine lv_istore_n (lv' := [(3, .int u), (2, .int (nI t.2.1)), (0, .ref (K.2.1 13)), (1, .ref a)]) hx hb dX3_code_11 rfl hl (by decide) rfl (fun ls hl => ?_)
  refine lv_aload_n hx hb dX3_code_12 rfl (lv_at hl 3 rfl) ?_
  refine r_getN hG E hw (QAt.dyn hrd1.2.1) (T := TX4) (N := 7) rfl in_X4 0 (by omega) q377 rfl dX3_code_13 ?_
  refine lv_iload_n hx hb dX3_code_16 rfl (lv_at hl 0 rfl) ?_
  refine r_aald (t := 6) (j := u.toNatClampNeg) E hw rfl (QAt.dyn hrd1.2.2.1) (qok_in hu) rfl dX3_code_17 ?_
  have hAo := hrd1.2.2.2.2.2.1.1 u.toNatClampNeg (qok_lt hu)
  cases hv : tt.1 u.toNatClampNeg with
  | some x =>
    obtain ⟨b, hb9, -⟩ := hAo.so hv
    rw [hv] at h
    have h := Option.some.inj h
    subst h
    rw [hb9]
    have hp : pc_ r = 0 + cst + 1 := by rw [hz]; rfl
    refine lv_ifnull hx hb dX3_code_18 ?_
    refine r_new5 E hw q479 (show _ ≤ pc_ r by omega) (show _ ≤ 12 * pc_ r by omega) dX3_code_21 (fun q H1 hw hn9 hf => ?_)
    refine lv_dup hx hb dX3_code_24 rfl ?_
    refine lv_iconst (v := (4:Int32)) hx hb dX3_code_25 (by decide) ?_
    refine lv_iload_n hx hb dX3_code_26 rfl (lv_at hl 1 rfl) ?_
    refine c_go (mc := 0) (ms := 0) (av := [.ref q, .int 4, .int (nI t.2.1)]) (rest := [.ref q]) (va_runI (Ts := lw_all) (As := [.int 4, .int (nI t.2.1)]) ⟨E.1, E.2.1, E.2.2.2.2.2.2.2, E.2.2.1, E.2.2.2.2.1⟩ (m_X5_init l hG hWr hlst (fs := dW) va_up_s) (cwI 2 hts (lw_meth q518) rfl rfl rfl (hts _ q153) (hts _ q516) (hts _ q517) rfl kd_X5_init ⟨Nat.le_of_ble_eq_true rfl, Nat.le_of_ble_eq_true rfl⟩) ⟨fr_blind hG, fr_pre hG E hw hf _⟩ rfl rfl hl.1 rfl (lv_room (Nat.le_of_ble_eq_true rfl)) dX3_code_27 ⟨(show _ ≤ pc_ r by omega), (show _ ≤ 12 * pc_ r by omega)⟩) hw (fun v w' H1 locs1 hP hw1 => ?_)
    obtain ⟨rfl, fs', h6, h7, rfl⟩ := hP
    refine x_athrow (fs := fs') E hnt ⟨4, t.2.1, 0 + cst + 1, hz, t1, _, rfl, ?_, fs', va_up_s, h6, h7⟩ hw1 va_up_s (show _ ≤ pc_ r by omega) (show _ ≤ 12 * pc_ r by omega) dX3_code_30
    exact (hrd1.1.1).trans (QExt.up2 (QExt.up hn9) hn9)
  | none =>
    have hb9 := hAo.no hv
    rw [hv] at h
    rw [hb9]
    refine lv_ifnullN (tgt := 31) hx hb dX3_code_18 (by decide) ?_
    refine lv_aload_n hx hb dX3_code_31 rfl (lv_at hl 2 rfl) ?_
    refine lv_bipush (v := (58:Int32)) hx hb dX3_code_32 (by decide) ?_
    refine c_B (c0 := 0 + cst) (As := [.int 58]) (rest := []) (V1 := fun _ _ v => v = none) hG E hnt hw h13 hrd1.1.1 h hz hc hs (fun r1 h1 => by cases h1; exact m_X3_want l hG hC h13 hS hWr hlst hn tk1.1) (fun r1 => (cwV 1 hts (lw_V q555 q557 qs8 q141 q558) rfl rfl rfl ⟨rfl, kd_X3_want⟩ ⟨Nat.le_of_ble_eq_true rfl, Nat.le_of_ble_eq_true rfl⟩)) hl rfl rfl rfl dX3_code_34 (fun u2 t2 cst2 v M2 H locs y2 ho2 h hz hc hs hx2 hV hw => ?_)
    subst hV
    refine W.eq (g2 := F0 m 37 ls []) rfl ?_
    have hrd2 := hrd1.call hx2
    have tk2 := tk1.tr (PT.want _ _ _ _ tk1.1 ho2)
    refine lv_aload_n hx hb dX3_code_37 rfl (lv_at hl 3 rfl) ?_
    refine r_getN hG E hw (QAt.dyn hrd2.2.1) (T := TX4) (N := 7) rfl in_X4 0 (by omega) q377 rfl dX3_code_38 ?_
    refine lv_iload_n hx hb dX3_code_41 rfl (lv_at hl 0 rfl) ?_
    refine lv_aload_n hx hb dX3_code_42 rfl (lv_at hl 2 rfl) ?_
    refine c_B (c0 := 0 + cst + cst2) (As := []) (rest := [.int u, .ref ca]) (V1 := VA K 50 M2) hG E hnt hw h13 hrd2.1.1 h hz hc hs (fun r1 h1 => m_X3_whole l hG hC h13 hS hWr hlst hn hLs hI tk2.1 (by rw [congrArg Prod.fst tk2.2]; exact ho) h1) (fun r1 => (cwV 0 hts (lw_V q559 q561 qs9 q141 q562) rfl rfl rfl ⟨rfl, kd_X3_whole⟩ ⟨Nat.le_of_ble_eq_true rfl, Nat.le_of_ble_eq_true rfl⟩)) hl rfl rfl rfl dX3_code_43 (fun q t3 cst3 v M3 H locs y3 ho3 h hz hc hs hx3 hV hw => ?_)
    obtain ⟨x, rfl, hT⟩ := hV
    refine W.eq (g2 := F0 m 46 ls [.ref x, .int u, .ref ca]) rfl ?_
    have h := Option.some.inj h
    subst h
    have hrd3 := hrd2.call hx3
    have hTF := AskAt.ext (qfr_new (F := qfr (qfr F M M1) M1 M2)) _ _ _ _ hT
    obtain ⟨ci, N, C9, T9, fs9, z1, z2, z3⟩ := (AskAt.ext hrd3.1.2.1 _ _ _ _ hTF).cls
    obtain ⟨cell, w1, w2, w3⟩ := in_recv E hw z2.q z1
    refine r_astO (t := 6) (j := u.toNatClampNeg) E hw rfl hrd3.2.2.1 ⟨cell, w1, w2, w3⟩ (hG.2.2 s _ E.2.2.2.2.2.1 z3 rfl) (qok_in hu) rfl dX3_code_46 (fun H locs hw => ?_)
    have hrd4 := hrd3.cod (j := u.toNatClampNeg) (hTF.le (show 50 ≤ tD by decide))
    exact p_ret (c0 := 0 + cst + cst2 + cst3) (c1 := 0) E hr hz (by omega) (by omega) hrd4.1.1 ⟨rfl, _, ed, _, ve, bl, se, fo, xs, hrd4⟩ hw dX3_code_47
