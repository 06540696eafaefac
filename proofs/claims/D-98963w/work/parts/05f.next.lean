/-! the next token: walk -/
set_option maxRecDepth 100000
theorem kd_X3_isDigit : yX3_isDigit.cls ≠ "java/lang/invoke/MethodHandle" ∧ yX3_isDigit.cls ≠ "java/lang/invoke/VarHandle" ∧ (parseMethodDescriptor yX3_isDigit.desc).map (fun d => d.parameters.length) = some 1 := by decide +kernel
theorem kd_X3_isLetter : yX3_isLetter.cls ≠ "java/lang/invoke/MethodHandle" ∧ yX3_isLetter.cls ≠ "java/lang/invoke/VarHandle" ∧ (parseMethodDescriptor yX3_isLetter.desc).map (fun d => d.parameters.length) = some 1 := by decide +kernel
theorem kd_X3_isWord : yX3_isWord.cls ≠ "java/lang/invoke/MethodHandle" ∧ yX3_isWord.cls ≠ "java/lang/invoke/VarHandle" ∧ (parseMethodDescriptor yX3_isWord.desc).map (fun d => d.parameters.length) = some 1 := by decide +kernel
theorem nI_sc {a : Nat} : nI a + 1 = nI (a + 1) := (nI_succ a).symm
theorem nI_inj {a b : Nat} (h : nI a = nI b) (ha : a < 2 ^ 31) (hb : b < 2 ^ 31) : a = b := by
  have := congrArg Int32.toNatClampNeg h
  rw [nI_clamp ha, nI_clamp hb] at this
  exact this
set_option maxHeartbeats 4000000 in
theorem wn_0 {p : Program} {l : Launch} {e : Env} {s : State} {m : MethodId} {below : List Frame} {meth : Method} {c : Code} {K : QK} {G : State → Prop} {A B : QA} {L : QL} {X : QX} {M : QM} {n : Nat} {y : QY} {Q : State → Prop} (hG : QG G) (hC : QCl K) (h13 : ql K 13) (hS : QSt K G y) (hn : n ≤ 300) (E : EV K G p s m #[.ref (K.2.1 13)] meth c cX3_next yX3_next.cls 3) : ∀ (r : Nat) (t : QTS), t.1 + r = n → (∀ {H : Heap} {locs : List Loc} {ls : Array Slot}, WP K (tw A n (lSkip (A 3) r t.1, t.2), B, L, X, M) H locs → lv_has ls 3 [(0, .ref (K.2.1 13))] → W p l e (qrm 6 240 0 0) s m #[.ref (K.2.1 13)] below meth c H locs 0 0 Q (F0 m 52 ls [])) → ∀ {H : Heap} {locs : List Loc} {ls : Array Slot}, WP K (tw A n t, B, L, X, M) H locs → lv_has ls 3 [(0, .ref (K.2.1 13))] → W p l e (qrm 6 240 0 0) s m #[.ref (K.2.1 13)] below meth c H locs 0 0 Q (F0 m 0 ls []) := by
  have hx := E.1
  have hb := E.2.1
  intro r
  induction r with
  | zero =>
    intro t ht kk H locs ls hw hl
    refine lv_aload_n hx hb dX3_next_0 rfl (lv_at hl 0 rfl) ?_
    refine r_gAt E hw hC h13 q315 dX3_next_1 ?_
    refine lv_aload_n hx hb dX3_next_4 rfl (lv_at hl 0 rfl) ?_
    refine r_gSize E hw hC h13 q314 dX3_next_5 ?_
    refine lv_icmp_ge (tgt := 52) hx hb dX3_next_8 (by decide) (fun c1 => ?_) (fun c1 => ?_)
    · exact kk hw hl
    · exact absurd (by rw [show t.1 = n by omega]; exact Int32.le_refl _) c1
  | succ r ih =>
    intro t ht kk H locs ls hw hl
    have adv : (A 3 t.1 = 32 ∨ A 3 t.1 = 10) → ∀ {H : Heap} {locs : List Loc} {ls : Array Slot}, WP K (tw A n t, B, L, X, M) H locs → lv_has ls 3 [(0, .ref (K.2.1 13))] → W p l e (qrm 6 240 0 0) s m #[.ref (K.2.1 13)] below meth c H locs 0 0 Q (F0 m 39 ls []) := by
      intro hd H locs ls hw hl
      rw [lSkip, if_pos hd] at kk
      refine lv_aload_n hx hb dX3_next_39 rfl (lv_at hl 0 rfl) ?_
      refine lv_dup hx hb dX3_next_40 rfl ?_
      refine r_gAt E hw hC h13 q315 dX3_next_41 ?_
      refine lv_iconst (v := (1:Int32)) hx hb dX3_next_44 (by decide) ?_
      refine lv_iadd hx hb dX3_next_45 ?_
      refine r_pAt (a := t.1 + 1) E hw h13 q315 nI_sc dX3_next_46 (fun H locs hw => ?_)
      refine lv_goto (tgt := 0) hx hb dX3_next_49 (by decide) ?_
      exact ih (t.1 + 1, t.2) (by show t.1 + 1 + r = n; omega) kk hw hl
    refine lv_aload_n hx hb dX3_next_0 rfl (lv_at hl 0 rfl) ?_
    refine r_gAt E hw hC h13 q315 dX3_next_1 ?_
    refine lv_aload_n hx hb dX3_next_4 rfl (lv_at hl 0 rfl) ?_
    refine r_gSize E hw hC h13 q314 dX3_next_5 ?_
    refine lv_icmp_ge (tgt := 52) hx hb dX3_next_8 (by decide) (fun c1 => ?_) (fun c1 => ?_)
    · exact absurd c1 (nI_ge (show t.1 < n by omega) (by omega))
    refine lv_aload_n hx hb dX3_next_11 rfl (lv_at hl 0 rfl) ?_
    refine r_gText E hw hC h13 q313 dX3_next_12 ?_
    refine lv_aload_n hx hb dX3_next_15 rfl (lv_at hl 0 rfl) ?_
    refine r_gAt E hw hC h13 q315 dX3_next_16 ?_
    refine r_gB (j := t.1) E hw hC rfl (by omega) dX3_next_19 ?_
    refine lv_bipush (v := (32:Int32)) hx hb dX3_next_20 (by decide) ?_
    refine lv_icmp_eq (tgt := 39) hx hb dX3_next_22 (by decide) (fun c2 => ?_) (fun c2 => ?_)
    · exact adv (Or.inl c2) hw hl
    refine lv_aload_n hx hb dX3_next_25 rfl (lv_at hl 0 rfl) ?_
    refine r_gText E hw hC h13 q313 dX3_next_26 ?_
    refine lv_aload_n hx hb dX3_next_29 rfl (lv_at hl 0 rfl) ?_
    refine r_gAt E hw hC h13 q315 dX3_next_30 ?_
    refine r_gB (j := t.1) E hw hC rfl (by omega) dX3_next_33 ?_
    refine lv_bipush (v := (10:Int32)) hx hb dX3_next_34 (by decide) ?_
    refine lv_icmp_ne (tgt := 52) hx hb dX3_next_36 (by decide) (fun c3 => ?_) (fun c3 => ?_)
    · rw [lSkip, if_neg (fun q => q.elim c2 c3)] at kk
      exact kk hw hl
    · exact adv (Or.inr c3) hw hl
set_option maxHeartbeats 4000000 in
theorem wn_96 {p : Program} {l : Launch} {e : Env} {s : State} {m : MethodId} {below : List Frame} {meth : Method} {c : Code} {K : QK} {G : State → Prop} {A B : QA} {L : QL} {X : QX} {M : QM} {n : Nat} {y : QY} {Q : State → Prop} (hG : QG G) (hC : QCl K) (h13 : ql K 13) (hS : QSt K G y) (hn : n ≤ 300) (E : EV K G p s m #[.ref (K.2.1 13)] meth c cX3_next yX3_next.cls 3) : ∀ (r : Nat) (t : QTS), t.1 + r = n → (∀ {H : Heap} {locs : List Loc} {ls : Array Slot}, WP K (tw A n (lLet (A 3) r t.1, t.2), B, L, X, M) H locs → lv_has ls 3 [(0, .ref (K.2.1 13))] → W p l e (qrm 6 240 0 0) s m #[.ref (K.2.1 13)] below meth c H locs 0 0 Q (F0 m 135 ls [])) → ∀ {H : Heap} {locs : List Loc} {ls : Array Slot}, WP K (tw A n t, B, L, X, M) H locs → lv_has ls 3 [(0, .ref (K.2.1 13))] → W p l e (qrm 6 240 0 0) s m #[.ref (K.2.1 13)] below meth c H locs 0 0 Q (F0 m 96 ls []) := by
  have hx := E.1
  have hb := E.2.1
  have hts := E.2.2.2.2.1
  intro r
  induction r with
  | zero =>
    intro t ht kk H locs ls hw hl
    refine lv_aload_n hx hb dX3_next_96 rfl (lv_at hl 0 rfl) ?_
    refine r_gAt E hw hC h13 q315 dX3_next_97 ?_
    refine lv_aload_n hx hb dX3_next_100 rfl (lv_at hl 0 rfl) ?_
    refine r_gSize E hw hC h13 q314 dX3_next_101 ?_
    refine lv_icmp_ge (tgt := 135) hx hb dX3_next_104 (by decide) (fun c1 => ?_) (fun c1 => ?_)
    · exact kk hw hl
    · exact absurd (by rw [show t.1 = n by omega]; exact Int32.le_refl _) c1
  | succ r ih =>
    intro t ht kk H locs ls hw hl
    refine lv_aload_n hx hb dX3_next_96 rfl (lv_at hl 0 rfl) ?_
    refine r_gAt E hw hC h13 q315 dX3_next_97 ?_
    refine lv_aload_n hx hb dX3_next_100 rfl (lv_at hl 0 rfl) ?_
    refine r_gSize E hw hC h13 q314 dX3_next_101 ?_
    refine lv_icmp_ge (tgt := 135) hx hb dX3_next_104 (by decide) (fun c1 => ?_) (fun c1 => ?_)
    · exact absurd c1 (nI_ge (show t.1 < n by omega) (by omega))
    refine lv_aload_n hx hb dX3_next_107 rfl (lv_at hl 0 rfl) ?_
    refine r_gText E hw hC h13 q313 dX3_next_108 ?_
    refine lv_aload_n hx hb dX3_next_111 rfl (lv_at hl 0 rfl) ?_
    refine r_gAt E hw hC h13 q315 dX3_next_112 ?_
    refine r_gB (j := t.1) E hw hC rfl (by omega) dX3_next_115 ?_
    refine d_S (As := [.int (A 3 t.1)]) (v0 := some (.int (b32 (sLet (A 3 t.1))))) hG E hw hl (m_X3_isLetter l) (va_cwS 1 hts (lw_S q410 q411 q141 q412) rfl rfl rfl kd_X3_isLetter ⟨Nat.le_of_ble_eq_true rfl, Nat.le_of_ble_eq_true rfl⟩) rfl (rest := []) (st1 := [.int (b32 (sLet (A 3 t.1)))]) rfl rfl rfl dX3_next_116 ⟨Nat.le_of_ble_eq_true rfl, Nat.le_of_ble_eq_true rfl⟩ (fun H locs hw => ?_)
    refine lv_if_eq (tgt := 135) hx hb dX3_next_119 (by decide) (fun c2 => ?_) (fun c2 => ?_)
    · rw [lLet, if_neg (b32_f c2)] at kk
      exact kk hw hl
    · rw [lLet, if_pos (b32_t c2)] at kk
      refine lv_aload_n hx hb dX3_next_122 rfl (lv_at hl 0 rfl) ?_
      refine lv_dup hx hb dX3_next_123 rfl ?_
      refine r_gAt E hw hC h13 q315 dX3_next_124 ?_
      refine lv_iconst (v := (1:Int32)) hx hb dX3_next_127 (by decide) ?_
      refine lv_iadd hx hb dX3_next_128 ?_
      refine r_pAt (a := t.1 + 1) E hw h13 q315 nI_sc dX3_next_129 (fun H locs hw => ?_)
      refine lv_goto (tgt := 96) hx hb dX3_next_132 (by decide) ?_
      exact ih (t.1 + 1, t.2) (by show t.1 + 1 + r = n; omega) kk hw hl
set_option maxHeartbeats 4000000 in
theorem wn_144 {p : Program} {l : Launch} {e : Env} {s : State} {m : MethodId} {below : List Frame} {meth : Method} {c : Code} {K : QK} {G : State → Prop} {A B : QA} {L : QL} {X : QX} {M : QM} {n : Nat} {y : QY} {Q : State → Prop} (hG : QG G) (hC : QCl K) (h13 : ql K 13) (hS : QSt K G y) (hn : n ≤ 300) (E : EV K G p s m #[.ref (K.2.1 13)] meth c cX3_next yX3_next.cls 3) (t : QTS) (h1 : t.2.1 ≤ t.1) (h2 : t.1 ≤ n) : ∀ (r : List (List Int32)) (k : Nat) (z : Int32), sWords.drop k = r → k ≤ 26 → (∀ {H : Heap} {locs : List Loc} {ls : Array Slot}, WP K (tw A n (t.1, t.2.1, sWl (A 3) t.2.1 t.1 r k z, t.2.2.2), B, L, X, M) H locs → W p l e (qrm 6 240 0 0) s m #[.ref (K.2.1 13)] below meth c H locs 0 0 Q (F0 m 402 ls [])) → ∀ {H : Heap} {locs : List Loc} {ls : Array Slot}, WP K (tw A n (t.1, t.2.1, z, t.2.2.2), B, L, X, M) H locs → lv_has ls 3 [(1, .int (nI k)), (0, .ref (K.2.1 13))] → W p l e (qrm 6 240 0 0) s m #[.ref (K.2.1 13)] below meth c H locs 0 0 Q (F0 m 144 ls []) := by
  have hx := E.1
  have hb := E.2.1
  have hts := E.2.2.2.2.1
  have hG0 := E.2.2.2.2.2.1
  intro r
  induction r with
  | nil =>
    intro k z hd hk kk H locs ls hw hl
    have h26 : (26 : Nat) ≤ k := drop_end hd
    refine lv_iload_n hx hb dX3_next_144 rfl (lv_at hl 0 rfl) ?_
    refine r_gets E hw (hS.2.2.1 s hG0) q413 dX3_next_145 ?_
    refine r_olen (v := nI 26) E hw (hS.2.2.2.1 s hG0) rfl dX3_next_148 ?_
    refine lv_icmp_ge (tgt := 179) hx hb dX3_next_149 (by decide) (fun c1 => ?_) (fun c1 => ?_)
    · refine lv_goto (tgt := 402) hx hb dX3_next_179 (by decide) ?_
      exact kk hw
    · exact absurd (nI_le h26 (by omega)) c1
  | cons w r ih =>
    intro k z hd hk kk H locs ls hw hl
    obtain ⟨hkl, hkk, hd2⟩ := drop_get hd
    have hk26 : k < 26 := hkl
    have hwk : wB.getD k [] = w := by
      have : sWords[k]? = wB[k]? := by
        unfold sWords
        rw [List.getElem?_take, if_pos hk26]
      rw [this] at hkk
      rw [List.getD_eq_getElem?_getD, hkk]
      rfl
    refine lv_iload_n hx hb dX3_next_144 rfl (lv_at hl 0 rfl) ?_
    refine r_gets E hw (hS.2.2.1 s hG0) q413 dX3_next_145 ?_
    refine r_olen (v := nI 26) E hw (hS.2.2.2.1 s hG0) rfl dX3_next_148 ?_
    refine lv_icmp_ge (tgt := 179) hx hb dX3_next_149 (by decide) (fun c1 => ?_) (fun c1 => ?_)
    · exact absurd c1 (nI_ge hk26 (by omega))
    refine lv_aload_n hx hb dX3_next_152 rfl (lv_at hl 1 rfl) ?_
    refine r_gets E hw (hS.2.2.1 s hG0) q413 dX3_next_153 ?_
    refine lv_iload_n hx hb dX3_next_156 rfl (lv_at hl 0 rfl) ?_
    refine r_oald (v := .ref (y.2.1 k)) E hw (hS.2.2.2.1 s hG0) (vp_in_nI hk26 (by omega)) (by rw [nI_clamp (by omega)]) dX3_next_157 ?_
    refine d_V (As := [.ref (y.2.1 k)]) (v0 := some (.int (b32 (sIsW (A 3) t.2.1 t.1 (wB.getD k []))))) hG E hw hl (m_X3_isWord l hG hC h13 hS (show k < 27 by omega) h1 (by omega)) (qT13 h13) rfl (cwV 1 hts (lw_V q415 q417 qs2 q141 q418) rfl rfl rfl ⟨rfl, kd_X3_isWord⟩ ⟨Nat.le_of_ble_eq_true rfl, Nat.le_of_ble_eq_true rfl⟩) rfl (rest := []) (st1 := [.int (b32 (sIsW (A 3) t.2.1 t.1 (wB.getD k [])))]) rfl rfl rfl dX3_next_158 ⟨Nat.le_of_ble_eq_true rfl, Nat.le_of_ble_eq_true rfl⟩ (fun H locs hw => ?_)
    rw [hwk]
    rw [sWl] at kk
    have go : ∀ z1 : Int32, (if sIsW (A 3) t.2.1 t.1 w = true then 200 + nI k else z) = z1 → ∀ {H : Heap} {locs : List Loc} {ls : Array Slot}, WP K (tw A n (t.1, t.2.1, z1, t.2.2.2), B, L, X, M) H locs → lv_has ls 3 [(1, .int (nI k)), (0, .ref (K.2.1 13))] → W p l e (qrm 6 240 0 0) s m #[.ref (K.2.1 13)] below meth c H locs 0 0 Q (F0 m 173 ls []) := by
      intro z1 hz H locs ls hw hl
      rw [hz] at kk
      refine lv_iinc (v := nI (k + 1)) (lv' := [(1, .int (nI (k + 1))), (0, .ref (K.2.1 13))]) (k := 0) hx hb dX3_next_173 hl rfl (by rw [nI_succ]; rfl) (by decide) rfl (fun ls hl => ?_)
      refine lv_goto (tgt := 144) hx hb dX3_next_176 (by decide) ?_
      exact ih (k + 1) z1 hd2 hk26 kk hw hl
    refine lv_if_eq (tgt := 173) hx hb dX3_next_161 (by decide) (fun c2 => ?_) (fun c2 => ?_)
    · exact go z (if_neg (b32_f c2)) hw hl
    · refine lv_aload_n hx hb dX3_next_164 rfl (lv_at hl 1 rfl) ?_
      refine lv_sipush (v := (200:Int32)) hx hb dX3_next_165 (by decide) ?_
      refine lv_iload_n hx hb dX3_next_168 rfl (lv_at hl 0 rfl) ?_
      refine lv_iadd hx hb dX3_next_169 ?_
      refine r_pSort (a := 200 + nI k) E hw h13 q317 rfl dX3_next_170 (fun H locs hw => ?_)
      exact go (200 + nI k) (if_pos (b32_t c2)) hw hl
theorem r_mmin {p : Program} {l : Launch} {e : Env} {R : Room} {s : State} {m : MethodId} {args : Array Value} {below : List Frame} {meth : Method} {c : Code} {H : Heap} {locs : List Loc} {cells slots : Nat} {Q : State → Prop} {cc : ByteArray} {pc : Nat} {ls : Array Slot} {rest : List Value} {own : String} {nL : Nat} {K : QK} {G : State → Prop} {x y v : Int32} {index : Nat} {lv : List (Nat × Value)} (E : EV K G p s m args meth c cc own nL) (hl : lv_has ls nL lv) (h1 : Cond.methodLink own index Lib.Math.min.name ∈ lw_all) (h2 : Cond.static Lib.Math.min.name ∈ lw_all) (h3 : Cond.initialized "java/lang/Math" ∈ lw_all) (h4 : Cond.code Lib.Math.min.name Lib.Math.min.code 2 (some .int) ∈ lw_all) (hframes : 1 ≤ R.frames) (hlocals : (rest.map fun v => v.category).sum + 13 ≤ R.locals) (hc : cells ≤ R.cells) (hs : slots ≤ R.slots) (hv : (if y < x then y else x) = v) (hdg : decode cc pc = .ok (.invokestatic index, 3))
    (kk : W p l e R s m args below meth c H locs cells slots Q (F0 m (pc + 3) ls (.int v :: rest))) : W p l e R s m args below meth c H locs cells slots Q (F0 m pc ls (.int y :: .int x :: rest)) := by
  rw [← hv] at kk
  exact va_mmin E.1 E.2.1 (E.2.2.2.2.2.2.2.trans hl.1.symm) E.2.2.1 (E.2.2.2.2.1 _ h1) (E.2.2.2.2.1 _ h2) (E.2.2.2.2.1 _ h3) (E.2.2.2.2.1 _ h4) hframes hlocals hc hs hdg kk
set_option maxHeartbeats 4000000 in
theorem wn_209 {p : Program} {l : Launch} {e : Env} {s : State} {m : MethodId} {below : List Frame} {meth : Method} {c : Code} {K : QK} {G : State → Prop} {A B : QA} {L : QL} {X : QX} {M : QM} {n : Nat} {y : QY} {Q : State → Prop} (hG : QG G) (hC : QCl K) (h13 : ql K 13) (hS : QSt K G y) (hn : n ≤ 300) (E : EV K G p s m #[.ref (K.2.1 13)] meth c cX3_next yX3_next.cls 3) : ∀ (r : Nat) (t : QTS), t.1 + r = n → (∀ {H : Heap} {locs : List Loc} {ls : Array Slot}, WP K (tw A n ((lNum (A 3) r t.1 t.2.2.2.1).1, t.2.1, t.2.2.1, (lNum (A 3) r t.1 t.2.2.2.1).2, t.2.2.2.2), B, L, X, M) H locs → W p l e (qrm 6 240 0 0) s m #[.ref (K.2.1 13)] below meth c H locs 0 0 Q (F0 m 402 ls [])) → ∀ {H : Heap} {locs : List Loc} {ls : Array Slot}, WP K (tw A n t, B, L, X, M) H locs → lv_has ls 3 [(0, .ref (K.2.1 13))] → W p l e (qrm 6 240 0 0) s m #[.ref (K.2.1 13)] below meth c H locs 0 0 Q (F0 m 209 ls []) := by
  have hx := E.1
  have hb := E.2.1
  have hown := E.2.2.1
  have hts := E.2.2.2.2.1
  intro r
  induction r with
  | zero =>
    intro t ht kk H locs ls hw hl
    refine lv_aload_n hx hb dX3_next_209 rfl (lv_at hl 0 rfl) ?_
    refine r_gAt E hw hC h13 q315 dX3_next_210 ?_
    refine lv_aload_n hx hb dX3_next_213 rfl (lv_at hl 0 rfl) ?_
    refine r_gSize E hw hC h13 q314 dX3_next_214 ?_
    refine lv_icmp_ge (tgt := 402) hx hb dX3_next_217 (by decide) (fun c1 => ?_) (fun c1 => ?_)
    · exact kk hw
    · exact absurd (by rw [show t.1 = n by omega]; exact Int32.le_refl _) c1
  | succ r ih =>
    intro t ht kk H locs ls hw hl
    refine lv_aload_n hx hb dX3_next_209 rfl (lv_at hl 0 rfl) ?_
    refine r_gAt E hw hC h13 q315 dX3_next_210 ?_
    refine lv_aload_n hx hb dX3_next_213 rfl (lv_at hl 0 rfl) ?_
    refine r_gSize E hw hC h13 q314 dX3_next_214 ?_
    refine lv_icmp_ge (tgt := 402) hx hb dX3_next_217 (by decide) (fun c1 => ?_) (fun c1 => ?_)
    · exact absurd c1 (nI_ge (show t.1 < n by omega) (by omega))
    refine lv_aload_n hx hb dX3_next_220 rfl (lv_at hl 0 rfl) ?_
    refine r_gText E hw hC h13 q313 dX3_next_221 ?_
    refine lv_aload_n hx hb dX3_next_224 rfl (lv_at hl 0 rfl) ?_
    refine r_gAt E hw hC h13 q315 dX3_next_225 ?_
    refine r_gB (j := t.1) E hw hC rfl (by omega) dX3_next_228 ?_
    refine d_S (As := [.int (A 3 t.1)]) (v0 := some (.int (b32 (sDig (A 3 t.1))))) hG E hw hl (m_X3_isDigit l) (va_cwS 1 hts (lw_S q467 q468 q141 q469) rfl rfl rfl kd_X3_isDigit ⟨Nat.le_of_ble_eq_true rfl, Nat.le_of_ble_eq_true rfl⟩) rfl (rest := []) (st1 := [.int (b32 (sDig (A 3 t.1)))]) rfl rfl rfl dX3_next_229 ⟨Nat.le_of_ble_eq_true rfl, Nat.le_of_ble_eq_true rfl⟩ (fun H locs hw => ?_)
    refine lv_if_eq (tgt := 402) hx hb dX3_next_232 (by decide) (fun c2 => ?_) (fun c2 => ?_)
    · rw [lNum, if_neg (b32_f c2)] at kk
      exact kk hw
    · rw [lNum, if_pos (b32_t c2)] at kk
      refine lv_aload_n hx hb dX3_next_235 rfl (lv_at hl 0 rfl) ?_
      refine lv_ldc (v := (99999:Int32)) hx hb hown (hts _ q470) dX3_next_236 ?_
      refine lv_bipush (v := (10:Int32)) hx hb dX3_next_238 (by decide) ?_
      refine lv_aload_n hx hb dX3_next_240 rfl (lv_at hl 0 rfl) ?_
      refine r_gNum E hw hC h13 q318 dX3_next_241 ?_
      refine lv_imul hx hb dX3_next_244 ?_
      refine lv_aload_n hx hb dX3_next_245 rfl (lv_at hl 0 rfl) ?_
      refine r_gText E hw hC h13 q313 dX3_next_246 ?_
      refine lv_aload_n hx hb dX3_next_249 rfl (lv_at hl 0 rfl) ?_
      refine r_gAt E hw hC h13 q315 dX3_next_250 ?_
      refine r_gB (j := t.1) E hw hC rfl (by omega) dX3_next_253 ?_
      refine lv_iadd hx hb dX3_next_254 ?_
      refine lv_bipush (v := (48:Int32)) hx hb dX3_next_255 (by decide) ?_
      refine lv_isub hx hb dX3_next_257 ?_
      refine r_mmin (v := sMin (10 * t.2.2.2.1 + A 3 t.1 - 48)) E hl q471 q472 q150 q473 (Nat.le_of_ble_eq_true rfl) (Nat.le_of_ble_eq_true rfl) (Nat.le_refl _) (Nat.le_refl _) rfl dX3_next_258 ?_
      refine r_pNum (a := sMin (10 * t.2.2.2.1 + A 3 t.1 - 48)) E hw h13 q318 rfl dX3_next_261 (fun H locs hw => ?_)
      refine lv_aload_n hx hb dX3_next_264 rfl (lv_at hl 0 rfl) ?_
      refine lv_dup hx hb dX3_next_265 rfl ?_
      refine r_gAt E hw hC h13 q315 dX3_next_266 ?_
      refine lv_iconst (v := (1:Int32)) hx hb dX3_next_269 (by decide) ?_
      refine lv_iadd hx hb dX3_next_270 ?_
      refine r_pAt (a := t.1 + 1) E hw h13 q315 nI_sc dX3_next_271 (fun H locs hw => ?_)
      refine lv_goto (tgt := 209) hx hb dX3_next_274 (by decide) ?_
      exact ih (t.1 + 1, t.2.1, t.2.2.1, sMin (10 * t.2.2.2.1 + A 3 t.1 - 48), t.2.2.2.2) (by show t.1 + 1 + r = n; omega) kk hw hl
set_option maxHeartbeats 4000000 in
theorem wn_306 {p : Program} {l : Launch} {e : Env} {s : State} {m : MethodId} {below : List Frame} {meth : Method} {c : Code} {K : QK} {G : State → Prop} {A B : QA} {L : QL} {X : QX} {M : QM} {n : Nat} {y : QY} {Q : State → Prop} (hG : QG G) (hC : QCl K) (h13 : ql K 13) (hS : QSt K G y) (hn : n ≤ 300) (E : EV K G p s m #[.ref (K.2.1 13)] meth c cX3_next yX3_next.cls 3) (t : QTS) (ch : Int32) : ∀ (r : List Int32) (k : Nat) (z : Int32), sSigns.drop k = r → k ≤ 13 → (∀ {H : Heap} {locs : List Loc} {ls : Array Slot}, WP K (tw A n (t.1, t.2.1, sSg ch r z, t.2.2.2), B, L, X, M) H locs → lv_has ls 3 [(1, .int ch), (0, .ref (K.2.1 13))] → W p l e (qrm 6 240 0 0) s m #[.ref (K.2.1 13)] below meth c H locs 0 0 Q (F0 m 336 ls [])) → ∀ {H : Heap} {locs : List Loc} {ls : Array Slot}, WP K (tw A n (t.1, t.2.1, z, t.2.2.2), B, L, X, M) H locs → lv_has ls 3 [(2, .int (nI k)), (1, .int ch), (0, .ref (K.2.1 13))] → W p l e (qrm 6 240 0 0) s m #[.ref (K.2.1 13)] below meth c H locs 0 0 Q (F0 m 306 ls []) := by
  have hx := E.1
  have hb := E.2.1
  have hown := E.2.2.1
  have hts := E.2.2.2.2.1
  have hG0 := E.2.2.2.2.2.1
  have hs := (hS.1 s hG0).1 26 (by decide)
  intro r
  induction r with
  | nil =>
    intro k z hd hk kk H locs ls hw hl
    have h13k : (13 : Nat) ≤ k := drop_end hd
    refine lv_iload_n hx hb dX3_next_306 rfl (lv_at hl 0 rfl) ?_
    refine va_ldcS hx hb hown (hS.2.1 s hG0) dX3_next_307 ?_
    refine d_VO (As := []) (v0 := some (.int (nI 13))) hG E hw hl (m_J3_length l hG hS (by decide)) hs.1 (cwV 0 hts (lw_V q419 q420 q421 q146 q422) rfl rfl rfl ⟨rfl, kd_J3_length⟩ ⟨Nat.le_of_ble_eq_true rfl, Nat.le_of_ble_eq_true rfl⟩) rfl (rest := [.int (nI k)]) (st1 := [.int (nI 13), .int (nI k)]) rfl rfl rfl dX3_next_309 ⟨Nat.le_of_ble_eq_true rfl, Nat.le_of_ble_eq_true rfl⟩ (fun H locs hw => ?_)
    refine lv_icmp_ge (tgt := 336) hx hb dX3_next_312 (by decide) (fun c1 => ?_) (fun c1 => ?_)
    · exact kk hw (lv_sub hl [1, 2] rfl)
    · exact absurd (nI_le h13k (by omega)) c1
  | cons d r ih =>
    intro k z hd hk kk H locs ls hw hl
    obtain ⟨hkl, hkk, hd2⟩ := drop_get hd
    have hk13 : k < 13 := hkl
    have hwc : wC 26 k = d := by
      unfold wC
      have hkk : (wB.getD 26 [])[k]? = some d := hkk
      rw [List.getD_eq_getElem?_getD (l := wB.getD 26 []), hkk]
      rfl
    refine lv_iload_n hx hb dX3_next_306 rfl (lv_at hl 0 rfl) ?_
    refine va_ldcS hx hb hown (hS.2.1 s hG0) dX3_next_307 ?_
    refine d_VO (As := []) (v0 := some (.int (nI 13))) hG E hw hl (m_J3_length l hG hS (by decide)) hs.1 (cwV 0 hts (lw_V q419 q420 q421 q146 q422) rfl rfl rfl ⟨rfl, kd_J3_length⟩ ⟨Nat.le_of_ble_eq_true rfl, Nat.le_of_ble_eq_true rfl⟩) rfl (rest := [.int (nI k)]) (st1 := [.int (nI 13), .int (nI k)]) rfl rfl rfl dX3_next_309 ⟨Nat.le_of_ble_eq_true rfl, Nat.le_of_ble_eq_true rfl⟩ (fun H locs hw => ?_)
    refine lv_icmp_ge (tgt := 336) hx hb dX3_next_312 (by decide) (fun c1 => ?_) (fun c1 => ?_)
    · exact absurd c1 (nI_ge hk13 (by omega))
    refine va_ldcS hx hb hown (hS.2.1 s hG0) dX3_next_315 ?_
    refine lv_iload_n hx hb dX3_next_317 rfl (lv_at hl 0 rfl) ?_
    refine d_VO (As := [.int (nI k)]) (v0 := some (.int (wC 26 k))) hG E hw hl (m_J3_charAt l hG hS (by decide) hkl) hs.1 (cwV 1 hts (lw_V q429 q430 q431 q146 q432) rfl rfl rfl ⟨rfl, kd_J3_charAt⟩ ⟨Nat.le_of_ble_eq_true rfl, Nat.le_of_ble_eq_true rfl⟩) rfl (rest := []) (st1 := [.int (wC 26 k)]) rfl rfl rfl dX3_next_318 ⟨Nat.le_of_ble_eq_true rfl, Nat.le_of_ble_eq_true rfl⟩ (fun H locs hw => ?_)
    refine lv_iload_n hx hb dX3_next_321 rfl (lv_at hl 1 rfl) ?_
    rw [hwc]
    rw [sSg] at kk
    have go : ∀ z1 : Int32, (if d = ch then ch else z) = z1 → ∀ {H : Heap} {locs : List Loc} {ls : Array Slot}, WP K (tw A n (t.1, t.2.1, z1, t.2.2.2), B, L, X, M) H locs → lv_has ls 3 [(2, .int (nI k)), (1, .int ch), (0, .ref (K.2.1 13))] → W p l e (qrm 6 240 0 0) s m #[.ref (K.2.1 13)] below meth c H locs 0 0 Q (F0 m 330 ls []) := by
      intro z1 hz H locs ls hw hl
      rw [hz] at kk
      refine lv_iinc (v := nI (k + 1)) (lv' := [(2, .int (nI (k + 1))), (1, .int ch), (0, .ref (K.2.1 13))]) (k := 0) hx hb dX3_next_330 hl rfl (by rw [nI_succ]; rfl) (by decide) rfl (fun ls hl => ?_)
      refine lv_goto (tgt := 306) hx hb dX3_next_333 (by decide) ?_
      exact ih (k + 1) z1 hd2 hk13 kk hw hl
    refine lv_icmp_ne (tgt := 330) hx hb dX3_next_322 (by decide) (fun c2 => ?_) (fun c2 => ?_)
    · exact go z (if_neg c2) hw hl
    · refine lv_aload_n hx hb dX3_next_325 rfl (lv_at hl 2 rfl) ?_
      refine lv_iload_n hx hb dX3_next_326 rfl (lv_at hl 1 rfl) ?_
      refine r_pSort (a := ch) E hw h13 q317 rfl dX3_next_327 (fun H locs hw => ?_)
      exact go ch (if_pos c2) hw hl
