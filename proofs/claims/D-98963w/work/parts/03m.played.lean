/-! a text is played -/
set_option maxRecDepth 100000
theorem kd_X0_does : yX0_does.cls ≠ "java/lang/invoke/MethodHandle" ∧ yX0_does.cls ≠ "java/lang/invoke/VarHandle" ∧ (parseMethodDescriptor yX0_does.desc).map (fun d => d.parameters.length) = some 1 := by decide +kernel
def qplay (T : Int32 → Option QT) : List QDo → QA → Option (Int32 × QA)
  | [], A => some ((-1:Int32), A)
  | d :: ds, A => qb2 (f_X0_does T d A) fun u A' => if u = (0:Int32) then some (d.2.2.2.2, A') else qplay T ds A'
def f_X0_played (T : Int32 → Option QT) (x1 : Int32) (A : QA) : Option (Int32 × QA) :=
  qb1 (f_X0_isText x1 A) fun u =>
  if u = (0:Int32) then some ((-2:Int32), A) else (
  qif (qok x1 4) <|
  qb1 (T x1) fun t =>
  qif (decide (t.2.2.2.2.2.length ≤ 24)) <|
  qplay T t.2.2.2.2.2 A)
theorem kd_X0_played : yX0_played.cls ≠ "java/lang/invoke/MethodHandle" ∧ yX0_played.cls ≠ "java/lang/invoke/VarHandle" ∧ (parseMethodDescriptor yX0_played.desc).map (fun d => d.parameters.length) = some 1 := by decide +kernel
section MYP
variable {p : Program} {l : Launch} {e : Env} {R : Room} {s : State} {m : MethodId} {args : Array Value} {below : List Frame} {meth : Method} {c : Code} {H : Heap} {locs : List Loc} {cells slots : Nat} {Q : State → Prop}
variable {cc : ByteArray} {pc : Nat} {ls : Array Slot} {rest : List Value} {own : String} {nL : Nat}
variable {K : QK} {G : State → Prop} {w : QW} {T : Int32 → Option QT} {ta : Int32 → Nat}
theorem r_txd {A : QA} {rs : QA × QL × QX × QM} {h : Int32} {t : QT} {host : String} (hG : QG G) (E : EV K G p s m args meth c cc own nL) (hw : WP K (A, rs) H locs) (hT : QTx K G rs.2.2.1 rs.2.2.2 T ta) (ht : T h = some t) {index : Nat} (hlink : Cond.fieldLinkNest own index (TX4 6).1 (TX4 6).2.1 (TX4 6).2.2.1 host ∈ lw_tbl) (hdg : decode cc pc = .ok (.getfield index, 3))
    (kk : ∀ da : Nat, DosAt K rs.2.2.2 da t.2.2.2.2.2 → W p l e R s m args below meth c H locs cells slots Q (F0 m (pc + 3) ls (.ref da :: rest))) : W p l e R s m args below meth c H locs cells slots Q (F0 m pc ls (.ref (ta h) :: rest)) := by
  obtain ⟨ca, cf, ve, bl, se, fo, cl, da, h1, h2, h3, h4, h5, h6, h7, h8⟩ := hT.2.1 h t ht
  exact r_getN hG E hw h1.q4 (T := TX4) (N := 7) rfl in_X4 6 (by omega) hlink rfl hdg (kk da h8)
end MYP
set_option maxHeartbeats 4000000 in
theorem w_play {p : Program} {l : Launch} {e : Env} {s : State} {m : MethodId} {args : Array Value} {below : List Frame} {meth : Method} {c : Code} {K : QK} {G : State → Prop} {B : QA} {L : QL} {X : QX} {M0 : QM} {da : Nat} {ds : List QDo} {T : Int32 → Option QT} {ta : Int32 → Nat} {ro : Int32} {Ao : QA} (hG : QG G) (hC : QCl K) (E : EV K G p s m args meth c cX0_played "VaneCourt" 4) (hr : meth.sig.returnType = some .int) (h24 : ds.length ≤ 24) :
    ∀ (r : List QDo) (k : Nat) (A : QA) (M : QM), ds.drop k = r → k ≤ ds.length → DosAt K M da ds → QTx K G X M T ta → QExt M0 M → qplay T r A = some (ro, Ao) → ∀ {H : Heap} {locs : List Loc} {ls : Array Slot}, WP K (A, B, L, X, M) H locs → lv_has ls 4 [(0, .ref (K.2.1 0)), (2, .ref da), (3, .int (nI k))] → W p l e (qrm 90 5000 24 96) s m args below meth c H locs k (4 * k) (MQ below (QE K (QN (some (.int ro)) Ao B L X M0)) args s 24 96 (qA K)) (F0 m 26 ls []) := by
  have hx := E.1
  have hb := E.2.1
  have hown := E.2.2.1
  have hts := E.2.2.2.2.1
  intro r
  induction r with
  | nil =>
    intro k A M hd hk hDo hT hxt h H locs ls hw hl
    have hk2 : k = ds.length := Nat.le_antisymm hk (drop_end hd)
    obtain ⟨xs, i1, i2, i3⟩ := id hDo
    obtain ⟨mo, ed, cap, g, u1, u2, u3, u4, u5⟩ := id i1
    rw [i2] at u1 u3
    have h := Option.some.inj h
    obtain ⟨h1, h2⟩ := Prod.mk.inj h
    refine lv_iload_n hx hb dX0_played_26 rfl (lv_at hl 2 rfl) ?_
    refine lv_aload_n hx hb dX0_played_27 rfl (lv_at hl 1 rfl) ?_
    refine c_V (rest := [.int (nI k)]) hG E hw (m_J2_size l u1.q) u1.q rfl (cwV 0 hts (lw_V q1119 q675 q676 q145 q677) rfl rfl rfl ⟨rfl, kd_J2_size⟩ ⟨Nat.le_of_ble_eq_true rfl, Nat.le_of_ble_eq_true rfl⟩) hl rfl rfl (Nat.le_of_ble_eq_true rfl) dX0_played_28 ⟨(show k + 0 ≤ 24 by omega), (show 4 * k + 0 ≤ 96 by omega)⟩ (fun v w' H locs hP hw => ?_)
    obtain ⟨rfl, rfl⟩ := hP
    refine W.eq (g2 := F0 m 31 ls [.int (nI ds.length), .int (nI k)]) rfl ?_
    refine lv_icmp_ge (tgt := 67) hx hb dX0_played_31 (by decide) (fun c => ?_) (fun c => ?_)
    · refine lv_iconst (v := (-1:Int32)) hx hb dX0_played_67 (by decide) ?_
      exact r_iretN E hr rfl h1 h2 hxt hw (show k + 0 ≤ 24 by omega) (show 4 * k + 0 ≤ 96 by omega) dX0_played_68
    · exact absurd (nI_le (by omega) (by omega)) c
  | cons d r ihr =>
    intro k A M hd hk hDo hT hxt h H locs ls hw hl
    obtain ⟨hkl, hkk, hd2⟩ := drop_get hd
    obtain ⟨xs, i1, i2, i3⟩ := id hDo
    obtain ⟨mo, ed, cap, g, u1, u2, u3, u4, u5⟩ := id i1
    rw [i2] at u1 u3
    have hxl : k < xs.length := by rw [i2]; exact hkl
    obtain ⟨y, hy⟩ : ∃ y, xs[k]? = some y := ⟨xs[k], List.getElem?_eq_getElem hxl⟩
    have hyD := i3 k y d hy hkk
    rw [qplay] at h
    obtain ⟨u, A', g1, h⟩ := qb2_s h
    refine lv_iload_n hx hb dX0_played_26 rfl (lv_at hl 2 rfl) ?_
    refine lv_aload_n hx hb dX0_played_27 rfl (lv_at hl 1 rfl) ?_
    refine c_V (rest := [.int (nI k)]) hG E hw (m_J2_size l u1.q) u1.q rfl (cwV 0 hts (lw_V q1119 q675 q676 q145 q677) rfl rfl rfl ⟨rfl, kd_J2_size⟩ ⟨Nat.le_of_ble_eq_true rfl, Nat.le_of_ble_eq_true rfl⟩) hl rfl rfl (Nat.le_of_ble_eq_true rfl) dX0_played_28 ⟨(show k + 0 ≤ 24 by omega), (show 4 * k + 0 ≤ 96 by omega)⟩ (fun v w' H locs hP hw => ?_)
    obtain ⟨rfl, rfl⟩ := hP
    refine W.eq (g2 := F0 m 31 ls [.int (nI ds.length), .int (nI k)]) rfl ?_
    refine lv_icmp_ge (tgt := 67) hx hb dX0_played_31 (by decide) (fun c => ?_) (fun c => ?_)
    · exact absurd c (nI_ge hkl (by omega))
    refine lv_aload_n hx hb dX0_played_34 rfl (lv_at hl 0 rfl) ?_
    refine lv_aload_n hx hb dX0_played_35 rfl (lv_at hl 1 rfl) ?_
    refine lv_iload_n hx hb dX0_played_36 rfl (lv_at hl 2 rfl) ?_
    refine c_V (rest := [.ref (K.2.1 0)]) hG E hw (m_J2_get l hG i1 hy) u1.q rfl (cwV 1 hts (lw_V q1120 q807 q808 q145 q809) rfl rfl rfl ⟨rfl, kd_J2_get⟩ ⟨Nat.le_of_ble_eq_true rfl, Nat.le_of_ble_eq_true rfl⟩) hl rfl rfl (Nat.le_of_ble_eq_true rfl) dX0_played_37 ⟨(show k + 0 + 0 ≤ 24 by omega), (show 4 * k + 0 + 0 ≤ 96 by omega)⟩ (fun v w' H locs hP hw => ?_)
    obtain ⟨rfl, rfl⟩ := hP
    refine W.eq (g2 := F0 m 40 ls [.ref y, .ref (K.2.1 0)]) rfl ?_
    refine r_castS E hw hyD.q (T := TX16) (N := 5) rfl q1121 dX0_played_40 ?_
    refine d_VN (As := [.ref y]) (v0 := some (.int u)) hG E hw hl (m_X0_does l hG hC hT hyD g1) (qX0 hC) rfl (cwV 1 hts (lw_V q1122 q1124 qs42 q137 q1125) rfl rfl rfl ⟨rfl, kd_X0_does⟩ ⟨Nat.le_of_ble_eq_true rfl, Nat.le_of_ble_eq_true rfl⟩) rfl (rest := []) (st1 := [.int u]) rfl rfl rfl dX0_played_43 ⟨(show k + 0 + 0 + 1 ≤ 24 by omega), (show 4 * k + 0 + 0 + 4 ≤ 96 by omega)⟩ (fun M1 hx1 H locs hw => ?_)
    refine lv_if_ne (tgt := 61) hx hb dX0_played_46 (by decide) (fun c => ?_) (fun c => ?_)
    · have h := qi_f c h
      refine lv_iinc (v := nI (k + 1)) (lv' := [(3, .int (nI (k + 1))), (0, .ref (K.2.1 0)), (2, .ref da)]) (k := 2) hx hb dX0_played_61 hl rfl (by rw [nI_succ]; rfl) (by decide) rfl (fun ls hl => ?_)
      refine lv_goto (tgt := 26) hx hb dX0_played_64 (by decide) ?_
      exact ihr (k + 1) A' M1 hd2 (by omega) (hDo.ext hx1) (hT.ext hx1) (hxt.trans hx1) h hw (lv_sub hl [1, 2, 0] rfl)
    · have h := Option.some.inj (qi_t c h)
      obtain ⟨h1, h2⟩ := Prod.mk.inj h
      refine lv_aload_n hx hb dX0_played_49 rfl (lv_at hl 1 rfl) ?_
      refine lv_iload_n hx hb dX0_played_50 rfl (lv_at hl 2 rfl) ?_
      refine c_V (rest := []) hG E hw (m_J2_get l hG (i1.ext hx1) hy) (u1.ext hx1).q rfl (cwV 1 hts (lw_V q1120 q807 q808 q145 q809) rfl rfl rfl ⟨rfl, kd_J2_get⟩ ⟨Nat.le_of_ble_eq_true rfl, Nat.le_of_ble_eq_true rfl⟩) hl rfl rfl (Nat.le_of_ble_eq_true rfl) dX0_played_51 ⟨(show k + 0 + 0 + 1 + 0 ≤ 24 by omega), (show 4 * k + 0 + 0 + 4 + 0 ≤ 96 by omega)⟩ (fun v w' H locs hP hw => ?_)
      obtain ⟨rfl, rfl⟩ := hP
      refine W.eq (g2 := F0 m 54 ls [.ref y]) rfl ?_
      refine r_castS E hw (hyD.ext hx1).q (T := TX16) (N := 5) rfl q1121 dX0_played_54 ?_
      refine c_V (rest := []) hG E hw (m_X16_number l (hyD.ext hx1).q) (hyD.ext hx1).q rfl (cwV 0 hts (lw_V q1153 q1154 q1155 q171 q1156) rfl rfl rfl ⟨rfl, kd_X16_number⟩ ⟨Nat.le_of_ble_eq_true rfl, Nat.le_of_ble_eq_true rfl⟩) hl rfl rfl (Nat.le_of_ble_eq_true rfl) dX0_played_57 ⟨(show k + 0 + 0 + 1 + 0 + 0 ≤ 24 by omega), (show 4 * k + 0 + 0 + 4 + 0 + 0 ≤ 96 by omega)⟩ (fun v w' H locs hP hw => ?_)
      obtain ⟨rfl, rfl⟩ := hP
      refine W.eq (g2 := F0 m 60 ls [.int d.2.2.2.2]) rfl ?_
      exact r_iretN E hr rfl h1 h2 (hxt.trans hx1) hw (show k + 0 + 0 + 1 + 0 + 0 ≤ 24 by omega) (show 4 * k + 0 + 0 + 4 + 0 + 0 ≤ 96 by omega) dX0_played_60
set_option maxHeartbeats 4000000 in
theorem m_X0_played (l : Launch) {K : QK} {G : State → Prop} (hG : QG G) (hC : QCl K) {B : QA} {L : QL} {X : QX} {M : QM} {T : Int32 → Option QT} {ta : Int32 → Nat} (hT : QTx K G X M T ta) {x1 : Int32} {A : QA} {ro : Int32} {Ao : QA} (h : f_X0_played T x1 A = some (ro, Ao)) : MC l K G yX0_played (ws_ yX0_played cX0_played 4 (some .int)) 90 5000 24 96 [.ref (K.2.1 0), .int x1] (A, B, L, X, M) (QN (some (.int ro)) Ao B L X M) := by
  refine MC.of (by decide) (Nat.le_of_ble_eq_true rfl) (lv := [(0, .ref (K.2.1 0)), (1, .int x1)]) rfl (fun p e s m below meth c ls E hr hl hw => ?_)
  have hx := E.1
  have hb := E.2.1
  have hown := E.2.2.1
  have hts := E.2.2.2.2.1
  rw [f_X0_played] at h
  obtain ⟨u, g1, h⟩ := qb1_s h
  refine lv_aload_n hx hb dX0_played_0 rfl (lv_at hl 0 rfl) ?_
  refine lv_iload_n hx hb dX0_played_1 rfl (lv_at hl 1 rfl) ?_
  refine d_V (As := [.int x1]) (v0 := some (.int u)) hG E hw hl (m_X0_isText l hG hC g1) (qX0 hC) rfl (cwV 1 hts (lw_V q883 q885 qs26 q137 q886) rfl rfl rfl ⟨rfl, kd_X0_isText⟩ ⟨Nat.le_of_ble_eq_true rfl, Nat.le_of_ble_eq_true rfl⟩) rfl (rest := []) (st1 := [.int u]) rfl rfl rfl dX0_played_2 ⟨Nat.zero_le _, Nat.zero_le _⟩ (fun H locs hw => ?_)
  refine lv_if_ne (tgt := 11) hx hb dX0_played_5 (by decide) (fun c => ?_) (fun c => ?_)
  · have h := qi_f c h
    obtain ⟨z, h⟩ := qif_s h
    obtain ⟨t, ht, h⟩ := qb1_s h
    obtain ⟨z2, h⟩ := qif_s h
    refine lv_aload_n hx hb dX0_played_11 rfl (lv_at hl 0 rfl) ?_
    refine r_getX (v := .ref (K.2.1 1)) E hw hC 0 (by decide) q238 rfl dX0_played_12 ?_
    refine r_getS1 (v := .ref (K.2.1 107)) hG E hw hC 7 (by decide) q205 rfl dX0_played_15 ?_
    refine lv_iload_n hx hb dX0_played_18 rfl (lv_at hl 1 rfl) ?_
    refine r_txa E hw hC hT z ht dX0_played_19 ?_
    refine r_txd hG E hw hT ht q390 dX0_played_20 (fun da hDo => ?_)
    refine lv_astore_n (lv' := [(2, .ref da), (0, .ref (K.2.1 0)), (1, .int x1)]) hx hb dX0_played_23 rfl hl (by decide) rfl (fun ls hl => ?_)
    refine lv_iconst (v := nI 0) hx hb dX0_played_24 (by decide) ?_
    refine lv_istore_n (lv' := [(3, .int (nI 0)), (2, .ref da), (0, .ref (K.2.1 0)), (1, .int x1)]) hx hb dX0_played_25 rfl hl (by decide) rfl (fun ls hl => ?_)
    exact w_play hG hC E hr (of_decide_eq_true z2) t.2.2.2.2.2 0 A M rfl (Nat.zero_le _) hDo hT QExt.rfl' h hw (lv_sub hl [2, 1, 0] rfl)
  · have h := Option.some.inj (qi_t c h)
    obtain ⟨h1, h2⟩ := Prod.mk.inj h
    refine lv_bipush (v := (-2:Int32)) hx hb dX0_played_8 (by decide) ?_
    exact r_iretN E hr rfl h1 h2 QExt.rfl' hw (Nat.zero_le _) (Nat.zero_le _) dX0_played_10
