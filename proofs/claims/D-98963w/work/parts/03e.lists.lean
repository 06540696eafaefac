/-! lists (java.util.ArrayList) as cells, reading them; calls through an interface -/
set_option maxRecDepth 100000
/-- a cell that no label has: made while running, or older than the law -/
def DAt (K : QK) (M : QM) (a : Nat) (e : va_E) : Prop := M a = some e ∨ OldO K a e
theorem DAt.q {K : QK} {A B : QA} {L : QL} {X : QX} {M : QM} {a : Nat} {e : va_E} (h : DAt K M a e) : QAt K (A, B, L, X, M) a e := by
  rcases h with h | h
  · exact QAt.dyn h
  · exact QAt.old h
theorem DAt.q4 {K : QK} {A : QA} {rs : QA × QL × QX × QM} {a : Nat} {e : va_E} (h : DAt K rs.2.2.2 a e) : QAt K (A, rs) a e := by
  rcases h with h | h
  · exact QAt.dyn h
  · exact QAt.old h
theorem DAt.ext {K : QK} {M M' : QM} {a : Nat} {e : va_E} (h : DAt K M a e) (hx : QExt M M') : DAt K M' a e := by
  rcases h with h | h
  · exact Or.inl (hx a e h)
  · exact Or.inr h
/-- the list at a holds the references xs -/
def LstAt (K : QK) (M : QM) (a : Nat) (xs : List Nat) : Prop := ∃ (mo : Int32) (ed cap : Nat) (f : Nat → Option Nat), DAt K M a (.inr (17, [.int mo, .ref ed, .int (nI xs.length)])) ∧ (xs = [] ∨ DAt K M ed (.inl (K.2.2.2.2 7, cap, .inr (.inr (.inr (.inr f)))))) ∧ xs.length ≤ cap ∧ cap < 1000000 ∧ ∀ i x, xs[i]? = some x → f i = some x
theorem LstAt.ext {K : QK} {M M' : QM} {a : Nat} {xs : List Nat} (h : LstAt K M a xs) (hx : QExt M M') : LstAt K M' a xs := by
  obtain ⟨mo, ed, cap, f, h1, h2, h3⟩ := h
  exact ⟨mo, ed, cap, f, h1.ext hx, h2.imp id (fun h => h.ext hx), h3⟩
section MYL
variable {p : Program} {l : Launch} {e : Env} {R : Room} {s : State} {m : MethodId} {args : Array Value} {below : List Frame} {meth : Method} {c : Code} {H : Heap} {locs : List Loc} {cells slots : Nat} {Q : State → Prop}
variable {cc : ByteArray} {pc : Nat} {ls : Array Slot} {rest : List Value} {a : Nat} {own : String} {nL : Nat}
variable {K : QK} {G : State → Prop} {w : QW}
/-- a call through an interface: what the receiver's class does -/
def OfC (l : Launch) (K : QK) (G : State → Prop) (x : MethodName) (rt : FieldType) (fr lo : Nat) (a : Nat) (av : List Value) (w : QW) (v0 : Value) : Prop :=
  ∃ (ci N : Nat) (C : String) (T : u_T) (fs : List Value) (y : MethodName) (bytes : ByteArray) (maxL : Nat), vcl[ci]? = some (C, T, N) ∧ QAt K w a (.inr (ci, fs)) ∧ MC l K G y (ws_ y bytes maxL (some rt)) fr lo 0 0 (.ref a :: av) w (QR (some v0) w) ∧ (∀ U, G U → va_Fw C x y U) ∧ Cond.selects C x y ∈ lw_all ∧ Cond.instanceMethod y ∈ lw_all ∧ Cond.initialized y.cls ∈ lw_all ∧ Cond.code y bytes maxL (some rt) ∈ lw_all ∧ maxL ≤ 10
theorem c_go5 {mc ms : Nat} {st0 : List Value} {av : List Value} {P : Option Value → QW → Prop} (hr : va_Run5 p l e R s m args below meth c H locs cells slots mc ms (F0 m pc ls st0) rest (QE K P av.toArray) (qA K)) (hw : WP K w H locs)
    (kk : ∀ (v : Option Value) (w' : QW) (H1 : Heap) (locs1 : List Loc), P v w' → WP K w' H1 locs1 → W p l e R s m args below meth c H1 locs1 (cells + mc) (slots + ms) Q (F0 m (pc + 5) ls (v.toList ++ rest))) : W p l e R s m args below meth c H locs cells slots Q (F0 m pc ls st0) := by
  intro T hT X
  obtain ⟨v, st₀, t, T', L, h0, X', hL, e1, e2, ⟨v', w', hv, hp, hwp⟩, st⟩ := hr T hT X
  cases hv
  have hw1 : WP K w' T'.heap (locs ++ L) := by
    rw [e1]
    refine hwp.locs (fun x hx => ?_)
    rcases List.mem_append.mp hx with h | h
    · exact hw.S.2.2 x h
    · exact hL x h
  obtain ⟨t2, a1, b1⟩ := kk v w' T'.heap (locs ++ L) hp hw1 T' rfl X'
  exact ⟨t2, st t2 a1, b1⟩
theorem r_F {x : MethodName} {rt : FieldType} {fr lo n index count : Nat} {av st1 : List Value} {v0 : Value} {lv : List (Nat × Value)} (hG : QG G) (E : EV K G p s m args meth c cc own nL) (hw : WP K w H locs) (hl : lv_has ls nL lv) (hO : OfC l K G x rt fr lo a av w v0) (hlink : Cond.methodLink own index x ∈ lw_all) (hd : x.cls ≠ "java/lang/invoke/MethodHandle" ∧ x.cls ≠ "java/lang/invoke/VarHandle" ∧ (parseMethodDescriptor x.desc).map (fun d => d.parameters.length) = some n) (hR : fr + 1 ≤ R.frames ∧ 8 + (10 + 11) + lo ≤ R.locals) (hn : av.length = n) {st0 : List Value} (hst : st0 = av.reverse ++ .ref a :: rest) (hst1 : v0 :: rest = st1) (hW : Nat.ble (rest.map fun v => v.category).sum 8 = true) (hdg : decode cc pc = .ok (.invokeinterface index count, 5)) (hf : cells ≤ R.cells ∧ slots ≤ R.slots)
    (kk : ∀ (H1 : Heap) (locs1 : List Loc), WP K w H1 locs1 → W p l e R s m args below meth c H1 locs1 cells slots Q (F0 m (pc + 5) ls st1)) : W p l e R s m args below meth c H locs cells slots Q (F0 m pc ls st0) := by
  obtain ⟨ci, N, C, T, fs, y, bytes, maxL, hc, hq, hM, hF, hsel, hinst, hini, hcode, hmax⟩ := hO
  have hgood : GoodIn lw_all (va_wsF own index C x y (ws_ y bytes maxL (some rt))) := by
    refine lw_app ?_ (lw_meth hcode)
    intro w hw
    simp only [List.mem_cons, List.not_mem_nil, or_false] at hw
    rcases hw with e | e | e | e
    · rw [e]; exact hlink
    · rw [e]; exact hsel
    · rw [e]; exact hinst
    · rw [e]; exact hini
  refine c_go5 (rest := rest) (va_runF (Ts := lw_all) (E.2.2.2.1.1 ci _ hc).2 ⟨E.1, E.2.1, E.2.2.2.2.2.2.2, E.2.2.1, E.2.2.2.2.1⟩ hM (va_cwF n E.2.2.2.2.1 hgood rfl rfl rfl (hF s E.2.2.2.2.2.1) hd ⟨hR.1, Nat.le_trans (by show 8 + (maxL + 11) + lo ≤ 8 + (10 + 11) + lo; omega) hR.2⟩) ⟨in_blind hG _ w, in_recv E hw hq hc, in_pre hG E hw _⟩ rfl hn hl.1 hst (lv_room (Nat.le_of_ble_eq_true hW)) hdg hf) hw (fun v w' H1 locs1 hP hw1 => ?_)
  obtain ⟨rfl, rfl⟩ := hP
  rw [← hst1] at kk
  exact kk H1 locs1 hw1
theorem r_castO {x : MethodName} {rt : FieldType} {fr lo index : Nat} {av : List Value} {v0 : Value} (E : EV K G p s m args meth c cc own nL) (hw : WP K w H locs) (hO : OfC l K G x rt fr lo a av w v0) {nm : String} (hnm : x.cls = nm) (hlink : Cond.classLink own index nm ∈ lw_all) (hdg : decode cc pc = .ok (.checkcast index, 3))
    (k : W p l e R s m args below meth c H locs cells slots Q (F0 m (pc + 3) ls (.ref a :: rest))) : W p l e R s m args below meth c H locs cells slots Q (F0 m pc ls (.ref a :: rest)) := by
  obtain ⟨ci, N, C, T, fs, y, bytes, maxL, hc, hq, hM, hF, hsel, hinst, hini, hcode, hmax⟩ := hO
  subst hnm
  exact va_castY E.1 E.2.1 E.2.2.1 (E.2.2.2.2.1 _ hlink) (hF s E.2.2.2.2.2.1).2.2.2.2 (in_recv E hw hq hc) hdg k
theorem r_castS {ci N index : Nat} {C : String} {T : u_T} {fs : List Value} (E : EV K G p s m args meth c cc own nL) (hw : WP K w H locs) (hq : QAt K w a (.inr (ci, fs))) (hc : vcl[ci]? = some (C, T, N)) (hlink : Cond.classLink own index C ∈ lw_all) (hdg : decode cc pc = .ok (.checkcast index, 3))
    (k : W p l e R s m args below meth c H locs cells slots Q (F0 m (pc + 3) ls (.ref a :: rest))) : W p l e R s m args below meth c H locs cells slots Q (F0 m pc ls (.ref a :: rest)) :=
  va_castS E.1 E.2.1 E.2.2.1 (E.2.2.2.2.1 _ hlink) (E.2.2.2.1.1 ci _ hc).2 (in_recv E hw hq hc) hdg k
end MYL
theorem d_aret {p : Program} {l : Launch} {e : Env} {R : Room} {s : State} {m : MethodId} {args : Array Value} {below : List Frame} {meth : Method} {c : Code} {H : Heap} {locs : List Loc} {cc : ByteArray} {pc : Nat} {ls : Array Slot} {own : String} {nL : Nat} {K : QK} {G : State → Prop} {w w0 : QW} {v v0 : Value} {rt : FieldType} (E : EV K G p s m args meth c cc own nL) (hr : meth.sig.returnType = some rt) (hrt : (∃ n, rt = .object n) ∨ ∃ t, rt = .array t) (hv : v = .null ∨ ∃ a, v = .ref a) (hw : WP K w H locs) (h1 : v = v0) (h2 : w = w0) (hdg : decode cc pc = .ok (.areturn, 1)) : W p l e R s m args below meth c H locs 0 0 (MQ below (QE K (QR (some v0) w0)) args s 0 0 (qA K)) (F0 m pc ls [v]) :=
  r_aret E hr hrt hv ⟨by rw [h1], h2⟩ hw (Nat.le_refl _) (Nat.le_refl _) hdg
theorem kd_J2_size : yJ2_size.cls ≠ "java/lang/invoke/MethodHandle" ∧ yJ2_size.cls ≠ "java/lang/invoke/VarHandle" ∧ (parseMethodDescriptor yJ2_size.desc).map (fun d => d.parameters.length) = some 0 := by decide +kernel
theorem kd_J2_get : yJ2_get.cls ≠ "java/lang/invoke/MethodHandle" ∧ yJ2_get.cls ≠ "java/lang/invoke/VarHandle" ∧ (parseMethodDescriptor yJ2_get.desc).map (fun d => d.parameters.length) = some 1 := by decide +kernel
theorem kd_J2_elementData : yJ2_elementData.cls ≠ "java/lang/invoke/MethodHandle" ∧ yJ2_elementData.cls ≠ "java/lang/invoke/VarHandle" ∧ (parseMethodDescriptor yJ2_elementData.desc).map (fun d => d.parameters.length) = some 1 := by decide +kernel
theorem kd_J15_checkIndex : yJ15_checkIndex.cls ≠ "java/lang/invoke/MethodHandle" ∧ yJ15_checkIndex.cls ≠ "java/lang/invoke/VarHandle" ∧ (parseMethodDescriptor yJ15_checkIndex.desc).map (fun d => d.parameters.length) = some 2 := by decide +kernel
theorem kd_J5_checkIndex : yJ5_checkIndex.cls ≠ "java/lang/invoke/MethodHandle" ∧ yJ5_checkIndex.cls ≠ "java/lang/invoke/VarHandle" ∧ (parseMethodDescriptor yJ5_checkIndex.desc).map (fun d => d.parameters.length) = some 3 := by decide +kernel
theorem kd_J14_intValue : yJ14_intValue.cls ≠ "java/lang/invoke/MethodHandle" ∧ yJ14_intValue.cls ≠ "java/lang/invoke/VarHandle" ∧ (parseMethodDescriptor yJ14_intValue.desc).map (fun d => d.parameters.length) = some 0 := by decide +kernel
set_option maxHeartbeats 4000000 in
theorem m_J5_checkIndex (l : Launch) {K : QK} {G : State → Prop} {w : QW} {i n : Int32} (h0 : ¬ i < 0) (h1 : i < n) : MC l K G yJ5_checkIndex (ws_ yJ5_checkIndex cJ5_checkIndex 3 (some .int)) 1 40 0 0 [.int i, .int n, .null] w (QR (some (.int i)) w) := by
  refine MC.of (by decide) (Nat.le_of_ble_eq_true rfl) (lv := [(0, .int i), (1, .int n), (2, .null)]) rfl (fun p e s m below meth c ls E hr hl hw => ?_)
  have hx := E.1
  have hb := E.2.1
  refine lv_iload_n hx hb dJ5_checkIndex_0 rfl (lv_at hl 0 rfl) ?_
  refine lv_if_lt (tgt := 9) hx hb dJ5_checkIndex_1 (by decide) (fun c => ?_) (fun c => ?_)
  · exact absurd c h0
  refine lv_iload_n hx hb dJ5_checkIndex_4 rfl (lv_at hl 0 rfl) ?_
  refine lv_iload_n hx hb dJ5_checkIndex_5 rfl (lv_at hl 1 rfl) ?_
  refine lv_icmp_lt (tgt := 16) hx hb dJ5_checkIndex_6 (by decide) (fun c => ?_) (fun c => ?_)
  · refine lv_iload_n hx hb dJ5_checkIndex_16 rfl (lv_at hl 0 rfl) ?_
    exact d_iret E hr rfl hw rfl rfl dJ5_checkIndex_17
  · exact absurd h1 c
set_option maxHeartbeats 4000000 in
theorem m_J15_checkIndex (l : Launch) {K : QK} {G : State → Prop} (hG : QG G) {w : QW} {i n : Int32} (h0 : ¬ i < 0) (h1 : i < n) : MC l K G yJ15_checkIndex (ws_ yJ15_checkIndex cJ15_checkIndex 2 (some .int)) 2 80 0 0 [.int i, .int n] w (QR (some (.int i)) w) := by
  refine MC.of (by decide) (Nat.le_of_ble_eq_true rfl) (lv := [(0, .int i), (1, .int n)]) rfl (fun p e s m below meth c ls E hr hl hw => ?_)
  have hx := E.1
  have hb := E.2.1
  have hts := E.2.2.2.2.1
  refine lv_iload_n hx hb dJ15_checkIndex_0 rfl (lv_at hl 0 rfl) ?_
  refine lv_iload_n hx hb dJ15_checkIndex_1 rfl (lv_at hl 1 rfl) ?_
  refine lv_null hx hb dJ15_checkIndex_2 ?_
  refine d_S (As := [.int i, .int n, .null]) (v0 := some (.int i)) hG E hw hl (m_J5_checkIndex l h0 h1) (va_cwS 3 hts (lw_S q813 q446 q148 q447) rfl rfl rfl kd_J5_checkIndex ⟨Nat.le_of_ble_eq_true rfl, Nat.le_of_ble_eq_true rfl⟩) rfl (rest := []) (st1 := [.int i]) rfl rfl rfl dJ15_checkIndex_3 ⟨Nat.le_of_ble_eq_true rfl, Nat.le_of_ble_eq_true rfl⟩ (fun H locs hw => ?_)
  exact d_iret E hr rfl hw rfl rfl dJ15_checkIndex_6
set_option maxHeartbeats 4000000 in
theorem m_J2_size (l : Launch) {K : QK} {G : State → Prop} {w : QW} {a : Nat} {mo sz : Int32} {ed : Nat} (h : QAt K w a (.inr (17, [.int mo, .ref ed, .int sz]))) : MC l K G yJ2_size (ws_ yJ2_size cJ2_size 1 (some .int)) 1 40 0 0 [.ref a] w (QR (some (.int sz)) w) := by
  refine MC.of (by decide) (Nat.le_of_ble_eq_true rfl) (lv := [(0, .ref a)]) rfl (fun p e s m below meth c ls E hr hl hw => ?_)
  have hx := E.1
  have hb := E.2.1
  refine lv_aload_n hx hb dJ2_size_0 rfl (lv_at hl 0 rfl) ?_
  refine r_get (v := .int sz) E hw h (T := TJ2) (N := 3) rfl in_J2 2 (by decide) q365 rfl dJ2_size_1 ?_
  exact d_iret E hr rfl hw rfl rfl dJ2_size_4
set_option maxHeartbeats 4000000 in
theorem m_J14_intValue (l : Launch) {K : QK} {G : State → Prop} {w : QW} {a : Nat} {v : Int32} (h : QAt K w a (.inr (18, [.int v]))) : MC l K G yJ14_intValue (ws_ yJ14_intValue cJ14_intValue 1 (some .int)) 1 40 0 0 [.ref a] w (QR (some (.int v)) w) := by
  refine MC.of (by decide) (Nat.le_of_ble_eq_true rfl) (lv := [(0, .ref a)]) rfl (fun p e s m below meth c ls E hr hl hw => ?_)
  have hx := E.1
  have hb := E.2.1
  refine lv_aload_n hx hb dJ14_intValue_0 rfl (lv_at hl 0 rfl) ?_
  refine r_get (v := .int v) E hw h (T := TJ14) (N := 1) rfl in_J14 0 (by decide) q777 rfl dJ14_intValue_1 ?_
  exact d_iret E hr rfl hw rfl rfl dJ14_intValue_4
set_option maxHeartbeats 4000000 in
theorem m_J2_elementData (l : Launch) {K : QK} {G : State → Prop} {w : QW} {a ed cap j x : Nat} {mo sz i : Int32} {f : Nat → Option Nat} (h : QAt K w a (.inr (17, [.int mo, .ref ed, .int sz]))) (h2 : QAt K w ed (.inl (K.2.2.2.2 7, cap, .inr (.inr (.inr (.inr f)))))) (hin : vp_in i cap) (hj : i.toNatClampNeg = j) (hf : f j = some x) : MC l K G yJ2_elementData (ws_ yJ2_elementData cJ2_elementData 2 (some (.object "java/lang/Object"))) 1 40 0 0 [.ref a, .int i] w (QR (some (.ref x)) w) := by
  refine MC.of (by decide) (Nat.le_of_ble_eq_true rfl) (lv := [(0, .ref a), (1, .int i)]) rfl (fun p e s m below meth c ls E hr hl hw => ?_)
  have hx := E.1
  have hb := E.2.1
  refine lv_aload_n hx hb dJ2_elementData_0 rfl (lv_at hl 0 rfl) ?_
  refine r_get (v := .ref ed) E hw h (T := TJ2) (N := 3) rfl in_J2 1 (by decide) q364 rfl dJ2_elementData_1 ?_
  refine lv_iload_n hx hb dJ2_elementData_4 rfl (lv_at hl 1 rfl) ?_
  refine r_aald (t := 7) (j := j) E hw rfl h2 hin hj dJ2_elementData_5 ?_
  rw [hf]
  exact d_aret E hr (Or.inl ⟨_, rfl⟩) (Or.inr ⟨_, rfl⟩) hw rfl rfl dJ2_elementData_6
set_option maxHeartbeats 4000000 in
theorem m_J2_get (l : Launch) {K : QK} {G : State → Prop} (hG : QG G) {A B : QA} {L : QL} {X : QX} {M : QM} {a x k : Nat} {xs : List Nat} (h : LstAt K M a xs) (hk : xs[k]? = some x) : MC l K G yJ2_get (ws_ yJ2_get cJ2_get 2 (some (.object "java/lang/Object"))) 3 120 0 0 [.ref a, .int (nI k)] (A, B, L, X, M) (QR (some (.ref x)) (A, B, L, X, M)) := by
  refine MC.of (by decide) (Nat.le_of_ble_eq_true rfl) (lv := [(0, .ref a), (1, .int (nI k))]) rfl (fun p e s m below meth c ls E hr hl hw => ?_)
  have hx := E.1
  have hb := E.2.1
  have hts := E.2.2.2.2.1
  obtain ⟨mo, ed, cap, f, h1, h2, h3, h4, h5⟩ := h
  have h2 := h2.resolve_left (fun z => by rw [z] at hk; cases hk)
  have hkl : k < xs.length := (List.getElem?_eq_some_iff.mp hk).1
  refine lv_iload_n hx hb dJ2_get_0 rfl (lv_at hl 1 rfl) ?_
  refine lv_aload_n hx hb dJ2_get_1 rfl (lv_at hl 0 rfl) ?_
  refine r_get (v := .int (nI xs.length)) E hw h1.q (T := TJ2) (N := 3) rfl in_J2 2 (by decide) q365 rfl dJ2_get_2 ?_
  refine d_S (As := [.int (nI k), .int (nI xs.length)]) (v0 := some (.int (nI k))) hG E hw hl (m_J15_checkIndex l hG (nI_pos (by omega)) (nI_lt hkl (by omega))) (va_cwS 2 hts (lw_S q810 q811 q168 q812) rfl rfl rfl kd_J15_checkIndex ⟨Nat.le_of_ble_eq_true rfl, Nat.le_of_ble_eq_true rfl⟩) rfl (rest := []) (st1 := [.int (nI k)]) rfl rfl rfl dJ2_get_5 ⟨Nat.le_of_ble_eq_true rfl, Nat.le_of_ble_eq_true rfl⟩ (fun H locs hw => ?_)
  refine lv_pop hx hb dJ2_get_8 rfl ?_
  refine lv_aload_n hx hb dJ2_get_9 rfl (lv_at hl 0 rfl) ?_
  refine lv_iload_n hx hb dJ2_get_10 rfl (lv_at hl 1 rfl) ?_
  refine d_V (As := [.int (nI k)]) (v0 := some (.ref x)) hG E hw hl (m_J2_elementData l h1.q h2.q (vp_in_nI (by omega) (by omega)) (nI_clamp (by omega)) (h5 k x hk)) h1.q rfl (cwV 1 hts (lw_V q814 q815 q816 q145 q817) rfl rfl rfl ⟨rfl, kd_J2_elementData⟩ ⟨Nat.le_of_ble_eq_true rfl, Nat.le_of_ble_eq_true rfl⟩) rfl (rest := []) (st1 := [.ref x]) rfl rfl rfl dJ2_get_11 ⟨Nat.le_of_ble_eq_true rfl, Nat.le_of_ble_eq_true rfl⟩ (fun H locs hw => ?_)
  exact d_aret E hr (Or.inl ⟨_, rfl⟩) (Or.inr ⟨_, rfl⟩) hw rfl rfl dJ2_get_14
