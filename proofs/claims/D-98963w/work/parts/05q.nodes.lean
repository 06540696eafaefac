/-! Integer.valueOf; the nodes' constructors (printed by mk05q.py) -/
set_option maxRecDepth 100000
theorem kd_J10_init : yJ10_init.cls ≠ "java/lang/invoke/MethodHandle" ∧ yJ10_init.cls ≠ "java/lang/invoke/VarHandle" ∧ (parseMethodDescriptor yJ10_init.desc).map (fun d => d.parameters.length) = some 0 := by decide +kernel
/-- the cache of small Integers -/
def QIc (K : QK) (G : State → Prop) (ic : Nat) (ib : Nat → Nat) : Prop := (∀ U, G U → va_Z "java/lang/Integer$IntegerCache" "high" "I" (.int 127) (qA K) U K.1) ∧ (∀ U, G U → va_Z "java/lang/Integer$IntegerCache" "cache" "[Ljava/lang/Integer;" (.ref ic) (qA K) U K.1) ∧ (∀ U, G U → va_T (.object "java/lang/Integer") ic 256 (fun i => .ref (ib i)) (qA K) U K.1) ∧ ∀ i, i < 128 → OldO K (ib (i + 128)) (.inr (18, [.int (nI i)]))
theorem QIc.el {K : QK} {G : State → Prop} {ic : Nat} {ib : Nat → Nat} (h : QIc K G ic ib) {M : QM} {i : Nat} (hi : i < 128) : DAt K M (ib (i + 128)) (.inr (18, [.int (nI i)])) := Or.inr (h.2.2.2 i hi)
set_option maxHeartbeats 4000000 in
theorem m_J14_valueOf (l : Launch) {K : QK} {G : State → Prop} {w : QW} {ic : Nat} {ib : Nat → Nat} (hI : QIc K G ic ib) {i : Nat} (hi : i < 128) : MC l K G yJ14_valueOf (ws_ yJ14_valueOf cJ14_valueOf 1 (some (.object "java/lang/Integer"))) 1 40 0 0 [.int (nI i)] w (QR (some (.ref (ib (i + 128)))) w) := by
  refine MC.of (by decide) (Nat.le_of_ble_eq_true rfl) (lv := [(0, .int (nI i))]) rfl (fun p e s m below meth c ls E hr hl hw => ?_)
  have hx := E.1
  have hb := E.2.1
  have hown := E.2.2.1
  have hts := E.2.2.2.2.1
  have hGs := E.2.2.2.2.2.1
  refine lv_iload_n hx hb dJ14_valueOf_0 rfl (lv_at hl 0 rfl) ?_
  refine lv_bipush (v := (-128:Int32)) hx hb dJ14_valueOf_1 (by decide) ?_
  refine lv_icmp_lt (tgt := 23) hx hb dJ14_valueOf_3 (by decide) (fun c => ?_) (fun c => ?_)
  · exact absurd c (Int32.not_lt.mpr (Int32.le_of_lt (Int32.lt_of_lt_of_le (show (-128 : Int32) < 0 by decide) (nI_pos' (by omega)))))
  refine lv_iload_n hx hb dJ14_valueOf_6 rfl (lv_at hl 0 rfl) ?_
  refine r_gets E hw (hI.1 s hGs) q764 dJ14_valueOf_7 ?_
  refine lv_icmp_gt (tgt := 23) hx hb dJ14_valueOf_10 (by decide) (fun c2 => ?_) (fun c2 => ?_)
  · exact absurd c2 (nI_nlt (a := 127) (show i ≤ 127 by omega) (by omega))
  refine r_gets E hw (hI.2.1 s hGs) q766 dJ14_valueOf_13 ?_
  refine lv_iload_n hx hb dJ14_valueOf_16 rfl (lv_at hl 0 rfl) ?_
  refine lv_sipush (v := (128:Int32)) hx hb dJ14_valueOf_17 (by decide) ?_
  refine lv_iadd hx hb dJ14_valueOf_20 ?_
  refine r_nm (y := nI (i + 128)) (by unfold nI; rw [Int32.ofNat_add]; rfl) ?_
  refine r_oald (v := .ref (ib (i + 128))) E hw (hI.2.2.1 s hGs) (vp_in_nI (by omega) (by omega)) (by rw [nI_clamp (by omega)]) dJ14_valueOf_21 ?_
  exact d_aret E hr (Or.inl ⟨_, rfl⟩) (Or.inr ⟨_, rfl⟩) hw rfl rfl dJ14_valueOf_22
theorem MC.ofI {l : Launch} {K : QK} {G : State → Prop} {w : QW} {y : MethodName} {fr lo mc ms : Nat} {av : List Value} {P : Option Value → QW → Prop} {bytes : ByteArray} {maxL : Nat} {ret : Option FieldType} (hy : plainName y.cls = true) (hlen : (lg_sl av).length ≤ maxL) {lv : List (Nat × Value)} (hlv : lv_args 0 av = lv)
    (body : ∀ (p : Program) (e : Env) (s : State) (m : MethodId) (below : List Frame) (meth : Method) (c : Code) (ls : Array Slot), EV K G p s m av.toArray meth c bytes y.cls maxL → meth.sig.returnType = ret → meth.name = y.name → lv_has ls maxL lv → WP K w s.heap [] →
      W p l e (qrm fr lo mc ms) s m av.toArray below meth c s.heap [] 0 0 (MQ below (QE K P) av.toArray s mc ms (qA K)) (F0 m 0 ls [])) : MC l K G y (ws_ y bytes maxL ret) fr lo mc ms av w P := by
  refine Met.ofW (cc := bytes) (maxL := maxL) (ret := ret) hy rfl ?_
  intro p e s m args below meth c s₁ B hml hv
  obtain ⟨rfl, hK, hG, hw⟩ := hv
  have hts := atoms_spec (ws := ws_ y bytes maxL ret) B.pre
  have hts : ∀ w ∈ lw_all, w.before _ s = true := fun w h => hts w (List.mem_cons_of_mem _ h)
  have hown : s.vm.findClass y.cls = some m.cls := findClass_of_methodNamed B.named
  have hl := lv_entry av (n := maxL) hlen
  rw [lg_entry_eq]
  rw [hlv] at hl
  exact body p e s m below meth c _ ⟨B.exec, B.bytes, hown, hK, hts, hG, B.notSynchronized, hml⟩ B.returns (name_of_methodNamed B.named B.method).1 hl hw
set_option maxHeartbeats 4000000 in
theorem m_J10_init (l : Launch) {K : QK} {G : State → Prop} {w : QW} {q : Nat} : MC l K G yJ10_init (ws_ yJ10_init cJ10_init 1 none) 2 40 0 0 [.ref q] w (QR none w) := by
  refine MC.of (by decide) (Nat.le_of_ble_eq_true rfl) (lv := [(0, .ref q)]) rfl (fun p e s m below meth c ls E hr hl hw => ?_)
  have hx := E.1
  have hb := E.2.1
  have hown := E.2.2.1
  have hts := E.2.2.2.2.1
  refine lv_aload_n hx hb dJ10_init_0 rfl (lv_at hl 0 rfl) ?_
  refine W.objInit hx hb hown (hts _ q589) (hts _ q178) (hts _ q179) rfl (hl.1.trans E.2.2.2.2.2.2.2.symm) rfl dJ10_init_1 (Nat.le_of_ble_eq_true rfl) (Nat.le_of_ble_eq_true rfl) ?_
  exact d_ret E hr hw rfl dJ10_init_4
set_option maxHeartbeats 4000000 in
theorem m_X10_init (l : Launch) {K : QK} {G : State → Prop} (hG : QG G) {A B : QA} {L : QL} {X : QX} {M : QM} {q : Nat} {x0 : Int32} (hq : M q = some (.inr (10, [.int 0]))) : MC l K G yX10_init (ws_ yX10_init cX10_init 2 none) 3 80 0 0 [.ref q, .int x0] (A, B, L, X, M) (QR none (A, B, L, X, va_up M q (some (.inr (10, [.int x0]))))) := by
  refine MC.ofI (by decide) (Nat.le_of_ble_eq_true rfl) (lv := [(0, .ref q), (1, .int x0)]) rfl (fun p e s m below meth c ls E hr hin hl hw => ?_)
  have hx := E.1
  have hb := E.2.1
  have hown := E.2.2.1
  have hts := E.2.2.2.2.1
  refine lv_aload_n hx hb dX10_init_0 rfl (lv_at hl 0 rfl) ?_
  refine c_I (As := []) (rest := []) hG E hw (m_J10_init l) (cwI 0 hts (lw_meth q588) rfl rfl rfl (hts _ q154) (hts _ q707) (hts _ q587) rfl kd_J10_init ⟨Nat.le_of_ble_eq_true rfl, Nat.le_of_ble_eq_true rfl⟩) hl rfl rfl (Nat.le_of_ble_eq_true rfl) dX10_init_1 ⟨Nat.le_refl _, Nat.le_refl _⟩ (fun v1 w9 H1 locs1 hP hw => ?_)
  obtain ⟨rfl, rfl⟩ := hP
  refine lv_aload_n hx hb dX10_init_4 rfl (lv_at hl 0 rfl) ?_
  refine lv_iload_n hx hb dX10_init_5 rfl (lv_at hl 1 rfl) ?_
  refine r_putF (w := (A, B, L, X, M)) E hw hq (T := TX10) (N := 1) rfl in_X10 tyX10 tyX10_ok nmX10 0 (by decide) q708 rfl hin rfl rfl rfl (show 0 < 1 by decide) dX10_init_6 (fun H locs hw => ?_)
  have hw : WP K (A, B, L, X, va_up M q (some (.inr (10, [.int x0])))) H locs := hw
  exact d_ret E hr hw rfl dX10_init_9
set_option maxHeartbeats 4000000 in
theorem m_X11_init (l : Launch) {K : QK} {G : State → Prop} (hG : QG G) {A B : QA} {L : QL} {X : QX} {M : QM} {q : Nat} {x0 : Int32} (hq : M q = some (.inr (11, [.int 0]))) : MC l K G yX11_init (ws_ yX11_init cX11_init 2 none) 3 80 0 0 [.ref q, .int x0] (A, B, L, X, M) (QR none (A, B, L, X, va_up M q (some (.inr (11, [.int x0]))))) := by
  refine MC.ofI (by decide) (Nat.le_of_ble_eq_true rfl) (lv := [(0, .ref q), (1, .int x0)]) rfl (fun p e s m below meth c ls E hr hin hl hw => ?_)
  have hx := E.1
  have hb := E.2.1
  have hown := E.2.2.1
  have hts := E.2.2.2.2.1
  refine lv_aload_n hx hb dX11_init_0 rfl (lv_at hl 0 rfl) ?_
  refine c_I (As := []) (rest := []) hG E hw (m_J10_init l) (cwI 0 hts (lw_meth q588) rfl rfl rfl (hts _ q154) (hts _ q726) (hts _ q587) rfl kd_J10_init ⟨Nat.le_of_ble_eq_true rfl, Nat.le_of_ble_eq_true rfl⟩) hl rfl rfl (Nat.le_of_ble_eq_true rfl) dX11_init_1 ⟨Nat.le_refl _, Nat.le_refl _⟩ (fun v1 w9 H1 locs1 hP hw => ?_)
  obtain ⟨rfl, rfl⟩ := hP
  refine lv_aload_n hx hb dX11_init_4 rfl (lv_at hl 0 rfl) ?_
  refine lv_iload_n hx hb dX11_init_5 rfl (lv_at hl 1 rfl) ?_
  refine r_putF (w := (A, B, L, X, M)) E hw hq (T := TX11) (N := 1) rfl in_X11 tyX11 tyX11_ok nmX11 0 (by decide) q727 rfl hin rfl rfl rfl (show 0 < 1 by decide) dX11_init_6 (fun H locs hw => ?_)
  have hw : WP K (A, B, L, X, va_up M q (some (.inr (11, [.int x0])))) H locs := hw
  exact d_ret E hr hw rfl dX11_init_9
set_option maxHeartbeats 4000000 in
theorem m_X12_init (l : Launch) {K : QK} {G : State → Prop} (hG : QG G) {A B : QA} {L : QL} {X : QX} {M : QM} {q : Nat} {x0 : Nat} (hq : M q = some (.inr (12, [.null]))) : MC l K G yX12_init (ws_ yX12_init cX12_init 2 none) 3 80 0 0 [.ref q, .ref x0] (A, B, L, X, M) (QR none (A, B, L, X, va_up M q (some (.inr (12, [.ref x0]))))) := by
  refine MC.ofI (by decide) (Nat.le_of_ble_eq_true rfl) (lv := [(0, .ref q), (1, .ref x0)]) rfl (fun p e s m below meth c ls E hr hin hl hw => ?_)
  have hx := E.1
  have hb := E.2.1
  have hown := E.2.2.1
  have hts := E.2.2.2.2.1
  refine lv_aload_n hx hb dX12_init_0 rfl (lv_at hl 0 rfl) ?_
  refine c_I (As := []) (rest := []) hG E hw (m_J10_init l) (cwI 0 hts (lw_meth q588) rfl rfl rfl (hts _ q154) (hts _ q736) (hts _ q587) rfl kd_J10_init ⟨Nat.le_of_ble_eq_true rfl, Nat.le_of_ble_eq_true rfl⟩) hl rfl rfl (Nat.le_of_ble_eq_true rfl) dX12_init_1 ⟨Nat.le_refl _, Nat.le_refl _⟩ (fun v1 w9 H1 locs1 hP hw => ?_)
  obtain ⟨rfl, rfl⟩ := hP
  refine lv_aload_n hx hb dX12_init_4 rfl (lv_at hl 0 rfl) ?_
  refine lv_aload_n hx hb dX12_init_5 rfl (lv_at hl 1 rfl) ?_
  refine r_putF (w := (A, B, L, X, M)) E hw hq (T := TX12) (N := 1) rfl in_X12 tyX12 tyX12_ok nmX12 0 (by decide) q737 rfl hin rfl rfl rfl (show 0 < 1 by decide) dX12_init_6 (fun H locs hw => ?_)
  have hw : WP K (A, B, L, X, va_up M q (some (.inr (12, [.ref x0])))) H locs := hw
  exact d_ret E hr hw rfl dX12_init_9
set_option maxHeartbeats 4000000 in
theorem m_X6_init (l : Launch) {K : QK} {G : State → Prop} (hG : QG G) {A B : QA} {L : QL} {X : QX} {M : QM} {q : Nat} {x0 : Nat} (hq : M q = some (.inr (6, [.null]))) : MC l K G yX6_init (ws_ yX6_init cX6_init 2 none) 3 80 0 0 [.ref q, .ref x0] (A, B, L, X, M) (QR none (A, B, L, X, va_up M q (some (.inr (6, [.ref x0]))))) := by
  refine MC.ofI (by decide) (Nat.le_of_ble_eq_true rfl) (lv := [(0, .ref q), (1, .ref x0)]) rfl (fun p e s m below meth c ls E hr hin hl hw => ?_)
  have hx := E.1
  have hb := E.2.1
  have hown := E.2.2.1
  have hts := E.2.2.2.2.1
  refine lv_aload_n hx hb dX6_init_0 rfl (lv_at hl 0 rfl) ?_
  refine c_I (As := []) (rest := []) hG E hw (m_J10_init l) (cwI 0 hts (lw_meth q588) rfl rfl rfl (hts _ q154) (hts _ q586) (hts _ q587) rfl kd_J10_init ⟨Nat.le_of_ble_eq_true rfl, Nat.le_of_ble_eq_true rfl⟩) hl rfl rfl (Nat.le_of_ble_eq_true rfl) dX6_init_1 ⟨Nat.le_refl _, Nat.le_refl _⟩ (fun v1 w9 H1 locs1 hP hw => ?_)
  obtain ⟨rfl, rfl⟩ := hP
  refine lv_aload_n hx hb dX6_init_4 rfl (lv_at hl 0 rfl) ?_
  refine lv_aload_n hx hb dX6_init_5 rfl (lv_at hl 1 rfl) ?_
  refine r_putF (w := (A, B, L, X, M)) E hw hq (T := TX6) (N := 1) rfl in_X6 tyX6 tyX6_ok nmX6 0 (by decide) q590 rfl hin rfl rfl rfl (show 0 < 1 by decide) dX6_init_6 (fun H locs hw => ?_)
  have hw : WP K (A, B, L, X, va_up M q (some (.inr (6, [.ref x0])))) H locs := hw
  exact d_ret E hr hw rfl dX6_init_9
set_option maxHeartbeats 4000000 in
theorem m_X7_init (l : Launch) {K : QK} {G : State → Prop} (hG : QG G) {A B : QA} {L : QL} {X : QX} {M : QM} {q : Nat} {x0 : Int32} (hq : M q = some (.inr (7, [.int 0]))) : MC l K G yX7_init (ws_ yX7_init cX7_init 2 none) 3 80 0 0 [.ref q, .int x0] (A, B, L, X, M) (QR none (A, B, L, X, va_up M q (some (.inr (7, [.int x0]))))) := by
  refine MC.ofI (by decide) (Nat.le_of_ble_eq_true rfl) (lv := [(0, .ref q), (1, .int x0)]) rfl (fun p e s m below meth c ls E hr hin hl hw => ?_)
  have hx := E.1
  have hb := E.2.1
  have hown := E.2.2.1
  have hts := E.2.2.2.2.1
  refine lv_aload_n hx hb dX7_init_0 rfl (lv_at hl 0 rfl) ?_
  refine c_I (As := []) (rest := []) hG E hw (m_J10_init l) (cwI 0 hts (lw_meth q588) rfl rfl rfl (hts _ q154) (hts _ q603) (hts _ q587) rfl kd_J10_init ⟨Nat.le_of_ble_eq_true rfl, Nat.le_of_ble_eq_true rfl⟩) hl rfl rfl (Nat.le_of_ble_eq_true rfl) dX7_init_1 ⟨Nat.le_refl _, Nat.le_refl _⟩ (fun v1 w9 H1 locs1 hP hw => ?_)
  obtain ⟨rfl, rfl⟩ := hP
  refine lv_aload_n hx hb dX7_init_4 rfl (lv_at hl 0 rfl) ?_
  refine lv_iload_n hx hb dX7_init_5 rfl (lv_at hl 1 rfl) ?_
  refine r_putF (w := (A, B, L, X, M)) E hw hq (T := TX7) (N := 1) rfl in_X7 tyX7 tyX7_ok nmX7 0 (by decide) q604 rfl hin rfl rfl rfl (show 0 < 1 by decide) dX7_init_6 (fun H locs hw => ?_)
  have hw : WP K (A, B, L, X, va_up M q (some (.inr (7, [.int x0])))) H locs := hw
  exact d_ret E hr hw rfl dX7_init_9
set_option maxHeartbeats 4000000 in
theorem m_X8_init (l : Launch) {K : QK} {G : State → Prop} (hG : QG G) {A B : QA} {L : QL} {X : QX} {M : QM} {q : Nat} {x0 : Nat} (hq : M q = some (.inr (8, [.null]))) : MC l K G yX8_init (ws_ yX8_init cX8_init 2 none) 3 80 0 0 [.ref q, .ref x0] (A, B, L, X, M) (QR none (A, B, L, X, va_up M q (some (.inr (8, [.ref x0]))))) := by
  refine MC.ofI (by decide) (Nat.le_of_ble_eq_true rfl) (lv := [(0, .ref q), (1, .ref x0)]) rfl (fun p e s m below meth c ls E hr hin hl hw => ?_)
  have hx := E.1
  have hb := E.2.1
  have hown := E.2.2.1
  have hts := E.2.2.2.2.1
  refine lv_aload_n hx hb dX8_init_0 rfl (lv_at hl 0 rfl) ?_
  refine c_I (As := []) (rest := []) hG E hw (m_J10_init l) (cwI 0 hts (lw_meth q588) rfl rfl rfl (hts _ q154) (hts _ q683) (hts _ q587) rfl kd_J10_init ⟨Nat.le_of_ble_eq_true rfl, Nat.le_of_ble_eq_true rfl⟩) hl rfl rfl (Nat.le_of_ble_eq_true rfl) dX8_init_1 ⟨Nat.le_refl _, Nat.le_refl _⟩ (fun v1 w9 H1 locs1 hP hw => ?_)
  obtain ⟨rfl, rfl⟩ := hP
  refine lv_aload_n hx hb dX8_init_4 rfl (lv_at hl 0 rfl) ?_
  refine lv_aload_n hx hb dX8_init_5 rfl (lv_at hl 1 rfl) ?_
  refine r_putF (w := (A, B, L, X, M)) E hw hq (T := TX8) (N := 1) rfl in_X8 tyX8 tyX8_ok nmX8 0 (by decide) q684 rfl hin rfl rfl rfl (show 0 < 1 by decide) dX8_init_6 (fun H locs hw => ?_)
  have hw : WP K (A, B, L, X, va_up M q (some (.inr (8, [.ref x0])))) H locs := hw
  exact d_ret E hr hw rfl dX8_init_9
set_option maxHeartbeats 4000000 in
theorem m_X13_init (l : Launch) {K : QK} {G : State → Prop} (hG : QG G) {A B : QA} {L : QL} {X : QX} {M : QM} {q : Nat} {x0 : Int32} {x1 : Nat} {x2 : Nat} (hq : M q = some (.inr (13, [.int 0, .null, .null]))) : MC l K G yX13_init (ws_ yX13_init cX13_init 4 none) 3 80 0 0 [.ref q, .int x0, .ref x1, .ref x2] (A, B, L, X, M) (QR none (A, B, L, X, va_up M q (some (.inr (13, [.int x0, .ref x1, .ref x2]))))) := by
  refine MC.ofI (by decide) (Nat.le_of_ble_eq_true rfl) (lv := [(0, .ref q), (1, .int x0), (2, .ref x1), (3, .ref x2)]) rfl (fun p e s m below meth c ls E hr hin hl hw => ?_)
  have hx := E.1
  have hb := E.2.1
  have hown := E.2.2.1
  have hts := E.2.2.2.2.1
  refine lv_aload_n hx hb dX13_init_0 rfl (lv_at hl 0 rfl) ?_
  refine c_I (As := []) (rest := []) hG E hw (m_J10_init l) (cwI 0 hts (lw_meth q588) rfl rfl rfl (hts _ q154) (hts _ q795) (hts _ q587) rfl kd_J10_init ⟨Nat.le_of_ble_eq_true rfl, Nat.le_of_ble_eq_true rfl⟩) hl rfl rfl (Nat.le_of_ble_eq_true rfl) dX13_init_1 ⟨Nat.le_refl _, Nat.le_refl _⟩ (fun v1 w9 H1 locs1 hP hw => ?_)
  obtain ⟨rfl, rfl⟩ := hP
  refine lv_aload_n hx hb dX13_init_4 rfl (lv_at hl 0 rfl) ?_
  refine lv_iload_n hx hb dX13_init_5 rfl (lv_at hl 1 rfl) ?_
  refine r_putF (w := (A, B, L, X, M)) E hw hq (T := TX13) (N := 3) rfl in_X13 tyX13 tyX13_ok nmX13 0 (by decide) q796 rfl hin rfl rfl rfl (show 0 < 3 by decide) dX13_init_6 (fun H locs hw => ?_)
  have hw : WP K (A, B, L, X, va_up M q (some (.inr (13, [.int x0, .null, .null])))) H locs := hw
  refine lv_aload_n hx hb dX13_init_9 rfl (lv_at hl 0 rfl) ?_
  refine lv_aload_n hx hb dX13_init_10 rfl (lv_at hl 2 rfl) ?_
  refine r_putF (w := (A, B, L, X, va_up M q (some (.inr (13, [.int x0, .null, .null]))))) E hw va_up_s (T := TX13) (N := 3) rfl in_X13 tyX13 tyX13_ok nmX13 1 (by decide) q797 rfl hin rfl rfl rfl (show 1 < 3 by decide) dX13_init_11 (fun H locs hw => ?_)
  simp only [va_up_up] at hw
  have hw : WP K (A, B, L, X, va_up M q (some (.inr (13, [.int x0, .ref x1, .null])))) H locs := hw
  refine lv_aload_n hx hb dX13_init_14 rfl (lv_at hl 0 rfl) ?_
  refine lv_aload_n hx hb dX13_init_15 rfl (lv_at hl 3 rfl) ?_
  refine r_putF (w := (A, B, L, X, va_up M q (some (.inr (13, [.int x0, .ref x1, .null]))))) E hw va_up_s (T := TX13) (N := 3) rfl in_X13 tyX13 tyX13_ok nmX13 2 (by decide) q798 rfl hin rfl rfl rfl (show 2 < 3 by decide) dX13_init_16 (fun H locs hw => ?_)
  simp only [va_up_up] at hw
  have hw : WP K (A, B, L, X, va_up M q (some (.inr (13, [.int x0, .ref x1, .ref x2])))) H locs := hw
  exact d_ret E hr hw rfl dX13_init_19
set_option maxHeartbeats 4000000 in
theorem m_X14_init (l : Launch) {K : QK} {G : State → Prop} (hG : QG G) {A B : QA} {L : QL} {X : QX} {M : QM} {q : Nat} {x0 : Int32} {x1 : Nat} (hz0 : qbo x0 = true) (hq : M q = some (.inr (14, [.int 0, .null]))) : MC l K G yX14_init (ws_ yX14_init cX14_init 3 none) 3 80 0 0 [.ref q, .int x0, .ref x1] (A, B, L, X, M) (QR none (A, B, L, X, va_up M q (some (.inr (14, [.int x0, .ref x1]))))) := by
  refine MC.ofI (by decide) (Nat.le_of_ble_eq_true rfl) (lv := [(0, .ref q), (1, .int x0), (2, .ref x1)]) rfl (fun p e s m below meth c ls E hr hin hl hw => ?_)
  have hx := E.1
  have hb := E.2.1
  have hown := E.2.2.1
  have hts := E.2.2.2.2.1
  refine lv_aload_n hx hb dX14_init_0 rfl (lv_at hl 0 rfl) ?_
  refine c_I (As := []) (rest := []) hG E hw (m_J10_init l) (cwI 0 hts (lw_meth q588) rfl rfl rfl (hts _ q154) (hts _ q824) (hts _ q587) rfl kd_J10_init ⟨Nat.le_of_ble_eq_true rfl, Nat.le_of_ble_eq_true rfl⟩) hl rfl rfl (Nat.le_of_ble_eq_true rfl) dX14_init_1 ⟨Nat.le_refl _, Nat.le_refl _⟩ (fun v1 w9 H1 locs1 hP hw => ?_)
  obtain ⟨rfl, rfl⟩ := hP
  refine lv_aload_n hx hb dX14_init_4 rfl (lv_at hl 0 rfl) ?_
  refine lv_iload_n hx hb dX14_init_5 rfl (lv_at hl 1 rfl) ?_
  refine r_putF (w := (A, B, L, X, M)) E hw hq (T := TX14) (N := 2) rfl in_X14 tyX14 tyX14_ok nmX14 0 (by decide) q825 rfl hin rfl (qbo_n hz0) (qbo_f hz0) (show 0 < 2 by decide) dX14_init_6 (fun H locs hw => ?_)
  have hw : WP K (A, B, L, X, va_up M q (some (.inr (14, [.int x0, .null])))) H locs := hw
  refine lv_aload_n hx hb dX14_init_9 rfl (lv_at hl 0 rfl) ?_
  refine lv_aload_n hx hb dX14_init_10 rfl (lv_at hl 2 rfl) ?_
  refine r_putF (w := (A, B, L, X, va_up M q (some (.inr (14, [.int x0, .null]))))) E hw va_up_s (T := TX14) (N := 2) rfl in_X14 tyX14 tyX14_ok nmX14 1 (by decide) q826 rfl hin rfl rfl rfl (show 1 < 2 by decide) dX14_init_11 (fun H locs hw => ?_)
  simp only [va_up_up] at hw
  have hw : WP K (A, B, L, X, va_up M q (some (.inr (14, [.int x0, .ref x1])))) H locs := hw
  exact d_ret E hr hw rfl dX14_init_14
set_option maxHeartbeats 4000000 in
theorem m_X15_init (l : Launch) {K : QK} {G : State → Prop} (hG : QG G) {A B : QA} {L : QL} {X : QX} {M : QM} {q : Nat} {x0 : Nat} {x1 : Nat} (hq : M q = some (.inr (15, [.null, .null]))) : MC l K G yX15_init (ws_ yX15_init cX15_init 3 none) 3 80 0 0 [.ref q, .ref x0, .ref x1] (A, B, L, X, M) (QR none (A, B, L, X, va_up M q (some (.inr (15, [.ref x0, .ref x1]))))) := by
  refine MC.ofI (by decide) (Nat.le_of_ble_eq_true rfl) (lv := [(0, .ref q), (1, .ref x0), (2, .ref x1)]) rfl (fun p e s m below meth c ls E hr hin hl hw => ?_)
  have hx := E.1
  have hb := E.2.1
  have hown := E.2.2.1
  have hts := E.2.2.2.2.1
  refine lv_aload_n hx hb dX15_init_0 rfl (lv_at hl 0 rfl) ?_
  refine c_I (As := []) (rest := []) hG E hw (m_J10_init l) (cwI 0 hts (lw_meth q588) rfl rfl rfl (hts _ q154) (hts _ q837) (hts _ q587) rfl kd_J10_init ⟨Nat.le_of_ble_eq_true rfl, Nat.le_of_ble_eq_true rfl⟩) hl rfl rfl (Nat.le_of_ble_eq_true rfl) dX15_init_1 ⟨Nat.le_refl _, Nat.le_refl _⟩ (fun v1 w9 H1 locs1 hP hw => ?_)
  obtain ⟨rfl, rfl⟩ := hP
  refine lv_aload_n hx hb dX15_init_4 rfl (lv_at hl 0 rfl) ?_
  refine lv_aload_n hx hb dX15_init_5 rfl (lv_at hl 1 rfl) ?_
  refine r_putF (w := (A, B, L, X, M)) E hw hq (T := TX15) (N := 2) rfl in_X15 tyX15 tyX15_ok nmX15 0 (by decide) q838 rfl hin rfl rfl rfl (show 0 < 2 by decide) dX15_init_6 (fun H locs hw => ?_)
  have hw : WP K (A, B, L, X, va_up M q (some (.inr (15, [.ref x0, .null])))) H locs := hw
  refine lv_aload_n hx hb dX15_init_9 rfl (lv_at hl 0 rfl) ?_
  refine lv_aload_n hx hb dX15_init_10 rfl (lv_at hl 2 rfl) ?_
  refine r_putF (w := (A, B, L, X, va_up M q (some (.inr (15, [.ref x0, .null]))))) E hw va_up_s (T := TX15) (N := 2) rfl in_X15 tyX15 tyX15_ok nmX15 1 (by decide) q839 rfl hin rfl rfl rfl (show 1 < 2 by decide) dX15_init_11 (fun H locs hw => ?_)
  simp only [va_up_up] at hw
  have hw : WP K (A, B, L, X, va_up M q (some (.inr (15, [.ref x0, .ref x1])))) H locs := hw
  exact d_ret E hr hw rfl dX15_init_14
set_option maxHeartbeats 4000000 in
theorem m_X16_init (l : Launch) {K : QK} {G : State → Prop} (hG : QG G) {A B : QA} {L : QL} {X : QX} {M : QM} {q : Nat} {x0 : Int32} {x1 : Int32} {x2 : Int32} {x3 : Int32} {x4 : Int32} (hq : M q = some (.inr (16, [.int 0, .int 0, .int 0, .int 0, .int 0]))) : MC l K G yX16_init (ws_ yX16_init cX16_init 6 none) 3 80 0 0 [.ref q, .int x0, .int x1, .int x2, .int x3, .int x4] (A, B, L, X, M) (QR none (A, B, L, X, va_up M q (some (.inr (16, [.int x0, .int x1, .int x2, .int x3, .int x4]))))) := by
  refine MC.ofI (by decide) (Nat.le_of_ble_eq_true rfl) (lv := [(0, .ref q), (1, .int x0), (2, .int x1), (3, .int x2), (4, .int x3), (5, .int x4)]) rfl (fun p e s m below meth c ls E hr hin hl hw => ?_)
  have hx := E.1
  have hb := E.2.1
  have hown := E.2.2.1
  have hts := E.2.2.2.2.1
  refine lv_aload_n hx hb dX16_init_0 rfl (lv_at hl 0 rfl) ?_
  refine c_I (As := []) (rest := []) hG E hw (m_J10_init l) (cwI 0 hts (lw_meth q588) rfl rfl rfl (hts _ q154) (hts _ q858) (hts _ q587) rfl kd_J10_init ⟨Nat.le_of_ble_eq_true rfl, Nat.le_of_ble_eq_true rfl⟩) hl rfl rfl (Nat.le_of_ble_eq_true rfl) dX16_init_1 ⟨Nat.le_refl _, Nat.le_refl _⟩ (fun v1 w9 H1 locs1 hP hw => ?_)
  obtain ⟨rfl, rfl⟩ := hP
  refine lv_aload_n hx hb dX16_init_4 rfl (lv_at hl 0 rfl) ?_
  refine lv_iload_n hx hb dX16_init_5 rfl (lv_at hl 1 rfl) ?_
  refine r_putF (w := (A, B, L, X, M)) E hw hq (T := TX16) (N := 5) rfl in_X16 tyX16 tyX16_ok nmX16 0 (by decide) q859 rfl hin rfl rfl rfl (show 0 < 5 by decide) dX16_init_6 (fun H locs hw => ?_)
  have hw : WP K (A, B, L, X, va_up M q (some (.inr (16, [.int x0, .int 0, .int 0, .int 0, .int 0])))) H locs := hw
  refine lv_aload_n hx hb dX16_init_9 rfl (lv_at hl 0 rfl) ?_
  refine lv_iload_n hx hb dX16_init_10 rfl (lv_at hl 2 rfl) ?_
  refine r_putF (w := (A, B, L, X, va_up M q (some (.inr (16, [.int x0, .int 0, .int 0, .int 0, .int 0]))))) E hw va_up_s (T := TX16) (N := 5) rfl in_X16 tyX16 tyX16_ok nmX16 1 (by decide) q860 rfl hin rfl rfl rfl (show 1 < 5 by decide) dX16_init_11 (fun H locs hw => ?_)
  simp only [va_up_up] at hw
  have hw : WP K (A, B, L, X, va_up M q (some (.inr (16, [.int x0, .int x1, .int 0, .int 0, .int 0])))) H locs := hw
  refine lv_aload_n hx hb dX16_init_14 rfl (lv_at hl 0 rfl) ?_
  refine lv_iload_n hx hb dX16_init_15 rfl (lv_at hl 3 rfl) ?_
  refine r_putF (w := (A, B, L, X, va_up M q (some (.inr (16, [.int x0, .int x1, .int 0, .int 0, .int 0]))))) E hw va_up_s (T := TX16) (N := 5) rfl in_X16 tyX16 tyX16_ok nmX16 2 (by decide) q861 rfl hin rfl rfl rfl (show 2 < 5 by decide) dX16_init_16 (fun H locs hw => ?_)
  simp only [va_up_up] at hw
  have hw : WP K (A, B, L, X, va_up M q (some (.inr (16, [.int x0, .int x1, .int x2, .int 0, .int 0])))) H locs := hw
  refine lv_aload_n hx hb dX16_init_19 rfl (lv_at hl 0 rfl) ?_
  refine lv_iload hx hb dX16_init_20 (lv_at hl 4 rfl) ?_
  refine r_putF (w := (A, B, L, X, va_up M q (some (.inr (16, [.int x0, .int x1, .int x2, .int 0, .int 0]))))) E hw va_up_s (T := TX16) (N := 5) rfl in_X16 tyX16 tyX16_ok nmX16 3 (by decide) q862 rfl hin rfl rfl rfl (show 3 < 5 by decide) dX16_init_22 (fun H locs hw => ?_)
  simp only [va_up_up] at hw
  have hw : WP K (A, B, L, X, va_up M q (some (.inr (16, [.int x0, .int x1, .int x2, .int x3, .int 0])))) H locs := hw
  refine lv_aload_n hx hb dX16_init_25 rfl (lv_at hl 0 rfl) ?_
  refine lv_iload hx hb dX16_init_26 (lv_at hl 5 rfl) ?_
  refine r_putF (w := (A, B, L, X, va_up M q (some (.inr (16, [.int x0, .int x1, .int x2, .int x3, .int 0]))))) E hw va_up_s (T := TX16) (N := 5) rfl in_X16 tyX16 tyX16_ok nmX16 4 (by decide) q863 rfl hin rfl rfl rfl (show 4 < 5 by decide) dX16_init_28 (fun H locs hw => ?_)
  simp only [va_up_up] at hw
  have hw : WP K (A, B, L, X, va_up M q (some (.inr (16, [.int x0, .int x1, .int x2, .int x3, .int x4])))) H locs := hw
  exact d_ret E hr hw rfl dX16_init_31
