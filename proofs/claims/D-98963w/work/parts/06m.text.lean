/-! text(): the tokens are made, a text is read, or a Wrong is caught -/
set_option maxRecDepth 100000
theorem kd_X3_init : yX3_init.cls ≠ "java/lang/invoke/MethodHandle" ∧ yX3_init.cls ≠ "java/lang/invoke/VarHandle" ∧ (parseMethodDescriptor yX3_init.desc).map (fun d => d.parameters.length) = some 2 := by decide +kernel
theorem kd_X3_read : yX3_read.cls ≠ "java/lang/invoke/MethodHandle" ∧ yX3_read.cls ≠ "java/lang/invoke/VarHandle" ∧ (parseMethodDescriptor yX3_read.desc).map (fun d => d.parameters.length) = some 0 := by decide +kernel
theorem SumAt.tk {K : QK} {M : QM} {ta : Nat} : ∀ (n a : Nat) (c : QC) (φ : QS), SumAt (tK K ta) M n a c φ → SumAt K M n a c φ := by
  intro n
  induction n with
  | zero => intro a c φ h; exact h
  | succ n ih =>
    intro a c φ h
    rcases h with ⟨v, h1, h2⟩ | ⟨v, h1, h2⟩ | ⟨b, c1, φ1, h1, h2, h3⟩ | ⟨f, lm, lg, c1, φ1, its, h1, h2, h3, h4, h5, h6⟩
    · exact Or.inl ⟨v, h1, h2⟩
    · exact Or.inr (Or.inl ⟨v, h1, h2⟩)
    · exact Or.inr (Or.inr (Or.inl ⟨b, c1, φ1, h1, ih _ _ _ h2, h3⟩))
    · exact Or.inr (Or.inr (Or.inr ⟨f, lm, lg, c1, φ1, its, h1, ih _ _ _ h2, h3, h4, fun it q => ih _ _ _ (h5 it q), h6⟩))
theorem AskAt.tk {K : QK} {M : QM} {ta : Nat} : ∀ (n a : Nat) (c : QC) (ψ : QB), AskAt (tK K ta) M n a c ψ → AskAt K M n a c ψ := by
  intro n
  induction n with
  | zero => intro a c ψ h; exact h
  | succ n ih =>
    intro a c ψ h
    rcases h with ⟨b, c1, ψ1, h1, h2, h3⟩ | ⟨k, h1, h2⟩ | ⟨lm, its, h1, h2, h3, h4⟩ | ⟨g, a1, b1, c1, c2, φ1, φ2, h1, h2, h3, h4⟩ | ⟨z, lm, it0, its, h1, h2, h3, h4, h5⟩ | ⟨a1, b1, c1, c2, ψ1, ψ2, h1, h2, h3, h4⟩
    · exact Or.inl ⟨b, c1, ψ1, h1, ih _ _ _ h2, h3⟩
    · exact Or.inr (Or.inl ⟨k, h1, h2⟩)
    · exact Or.inr (Or.inr (Or.inl ⟨lm, its, h1, h2, fun it q => ih _ _ _ (h3 it q), h4⟩))
    · exact Or.inr (Or.inr (Or.inr (Or.inl ⟨g, a1, b1, c1, c2, φ1, φ2, h1, SumAt.tk _ _ _ _ h2, SumAt.tk _ _ _ _ h3, h4⟩)))
    · exact Or.inr (Or.inr (Or.inr (Or.inr (Or.inl ⟨z, lm, it0, its, h1, h2, h3, fun it q => ih _ _ _ (h4 it q), h5⟩))))
    · exact Or.inr (Or.inr (Or.inr (Or.inr (Or.inr ⟨a1, b1, c1, c2, ψ1, ψ2, h1, ih _ _ _ h2, ih _ _ _ h3, h4⟩))))
theorem SOpt.tk {K : QK} {M : QM} {ta : Nat} {v : Value} {o : Option (QC × QS)} (h : SOpt (tK K ta) M v o) : SOpt K M v o := by
  rcases h with h | ⟨a, q, h1, h2, h3⟩
  · exact Or.inl h
  · exact Or.inr ⟨a, q, h1, h2, SumAt.tk _ _ _ _ h3⟩
theorem AOpt.tk {K : QK} {M : QM} {ta : Nat} {v : Value} {o : Option (QC × QB)} (h : AOpt (tK K ta) M v o) : AOpt K M v o := by
  rcases h with h | ⟨a, q, h1, h2, h3⟩
  · exact Or.inl h
  · exact Or.inr ⟨a, q, h1, h2, AskAt.tk _ _ _ _ h3⟩
theorem TextAt.tk {K : QK} {G : State → Prop} {M : QM} {ta a : Nat} {t : QT} (h : TextAt (tK K ta) G M a t) : TextAt K G M a t := by
  obtain ⟨ca, cf, ve, bl, se, fo, cl, da, h1, h2, h3, h4, h5, h6, h7, h8⟩ := h
  exact ⟨ca, cf, ve, bl, se, fo, cl, da, h1, h2, fun q hq => (h3 q hq).tk, h4.tk, h5.tk, h6.tk, h7.tk, h8⟩
/-- what stands at a label that doesn't live is nobody's -/
theorem WP.drop13 {K : QK} {A B : QA} {L : QL} {X : QX} {M : QM} {f : Nat → Int32} {H : Heap} {locs : List Loc} (hn : ¬ ql K 13) (hw : WP K (qset A 13 f, B, L, X, M) H locs) : WP K (A, B, L, X, M) H locs := by
  have e : qwl K (qset A 13 f, B, L, X, M) = qwl K (A, B, L, X, M) := by
    unfold qwl
    refine List.map_congr_left (fun l hl => ?_)
    have hl2 : K.2.2.1 l = true := (List.mem_filter.mp hl).2
    have hl3 : l ≠ 13 := fun z => hn (by rw [← z]; exact ⟨hl2, List.mem_range.mp (List.mem_filter.mp hl).1⟩)
    show (K.2.1 l, qcont K l (qset A 13 f l) (B l) (L l) (X l)) = _
    rw [qset_n hl3]
  obtain ⟨Ml, h1, h2, h3, h4⟩ := hw
  rw [e] at h2 h3
  exact ⟨Ml, h1, h2, h3, h4⟩
set_option maxHeartbeats 4000000 in
theorem m_X3_init (l : Launch) {K : QK} {G : State → Prop} {A B : QA} {L : QL} {X : QX} {M : QM} {q b : Nat} {v : Int32} (hq : M q = some (.inr (3, [.null, .int 0, .int 0, .int 0, .int 0, .int 0, .int 0, .int 0]))) : MC l K G yX3_init (ws_ yX3_init cX3_init 3 none) 2 40 0 0 [.ref q, .ref b, .int v] (A, B, L, X, M) (QR none (A, B, L, X, va_up M q (some (.inr (3, [.ref b, .int v, .int 0, .int 0, .int 0, .int 0, .int 0, .int 0]))))) := by
  refine MC.ofI (by decide) (Nat.le_of_ble_eq_true rfl) (lv := [(0, .ref q), (1, .ref b), (2, .int v)]) rfl (fun p e s m below meth c ls E hr hin hl hw => ?_)
  have hx := E.1
  have hb := E.2.1
  have hown := E.2.2.1
  have hts := E.2.2.2.2.1
  refine lv_aload_n hx hb dX3_init_0 rfl (lv_at hl 0 rfl) ?_
  refine W.objInit hx hb hown (hts _ q312) (hts _ q178) (hts _ q179) rfl (hl.1.trans E.2.2.2.2.2.2.2.symm) rfl dX3_init_1 (Nat.le_of_ble_eq_true rfl) (Nat.le_of_ble_eq_true rfl) ?_
  refine lv_aload_n hx hb dX3_init_4 rfl (lv_at hl 0 rfl) ?_
  refine lv_aload_n hx hb dX3_init_5 rfl (lv_at hl 1 rfl) ?_
  refine r_putF E hw (show (A, B, L, X, M).2.2.2.2 q = _ from hq) (T := TX3) (N := 8) rfl in_X3 tyX3 tyX3_ok nmX3 0 (by decide) q313 rfl hin rfl rfl rfl (show 0 < 8 by decide) dX3_init_6 (fun H locs hw => ?_)
  refine lv_aload_n hx hb dX3_init_9 rfl (lv_at hl 0 rfl) ?_
  refine lv_iload_n hx hb dX3_init_10 rfl (lv_at hl 2 rfl) ?_
  refine r_putF E hw va_up_s (T := TX3) (N := 8) rfl in_X3 tyX3 tyX3_ok nmX3 1 (by decide) q314 rfl hin rfl rfl rfl (show 1 < 8 by decide) dX3_init_11 (fun H locs hw => ?_)
  simp only [va_up_up] at hw
  exact d_ret E hr hw rfl dX3_init_14
theorem r_astX {p : Program} {l : Launch} {e : Env} {R : Room} {s : State} {m : MethodId} {args : Array Value} {below : List Frame} {meth : Method} {c : Code} {H : Heap} {locs : List Loc} {cells slots : Nat} {Q : State → Prop} {cc : ByteArray} {pc : Nat} {ls : Array Slot} {rest : List Value} {own : String} {nL : Nat} {K : QK} {G : State → Prop} {A B : QA} {L : QL} {X : QX} {M : QM} {j a : Nat} {i : Int32} {fs : List Value} (E : EV K G p s m args meth c cc own nL) (hw : WP K (A, B, L, X, M) H locs) (hC : QCl K) (ha : M a = some (.inr (4, fs))) (hin : vp_in i 4) (hj : i.toNatClampNeg = j) (hdg : decode cc pc = .ok (.aastore, 1))
    (kk : ∀ (H1 : Heap) (locs1 : List Loc), WP K (A, B, L, qset X 107 (va_up (X 107) j (some a)), M) H1 locs1 → W p l e R s m args below meth c H1 locs1 cells slots Q (F0 m (pc + 1) ls rest)) : W p l e R s m args below meth c H locs cells slots Q (F0 m pc ls (.ref a :: .int i :: .ref (K.2.1 107) :: rest)) := by
  subst hj
  obtain ⟨cell, g1, g2, g3⟩ := in_recv (C := RX4) (T := TX4) (N := 7) E hw (QAt.dyn ha) rfl
  obtain ⟨ws, q, hP, hD, hS, hi, back⟩ := hw.lab (hC 107 rfl)
  have hi : ws[q]? = some (K.2.1 107, .inl (K.2.2.2.2 5, 4, .inr (.inr (.inr (.inr (X 107)))))) := hi
  refine vb_astq E.1 E.2.1 E.2.2.2.1 hP hD hS q 5 hi rfl ⟨cell, g1, g2, g3⟩ vb_asgS hin hdg (fun H1 locs1 p1 d1 s1 => ?_)
  have e1 : ∀ f : Nat → Option Nat, qat K (A, B, L, qset X 107 f, M) 107 = .inl (K.2.2.2.2 5, 4, .inr (.inr (.inr (.inr f)))) := fun f => by
    show Sum.inl (_, _, Sum.inr (Sum.inr (Sum.inr (Sum.inr (qset X 107 f 107))))) = _
    rw [qset_s]
  refine kk H1 locs1 (back _ (QUp.X (f := va_up (X 107) i.toNatClampNeg (some a))) H1 locs1 ?_ ?_ s1)
  · rw [e1]; exact p1
  · rw [e1]; exact d1
def t00 : QTS := (0, 0, 0, 0, 0, 0)
/-- what text() leaves: x' fields 3 (taped), 4 (fault), 5 (where); the number of texts -/
def txA (A : QA) (f p : Int32) : QA := qu (qu (qu (qu (qu A 0 4 0) 0 5 (-1)) 0 4 f) 0 5 p) 0 3 0
def txS (A : QA) : QA := qu (qu (qu A 0 4 0) 0 5 (-1)) 0 3 0
def TXQ (K : QK) (G : State → Prop) (A B : QA) (L : QL) (X : QX) (M : QM) (k : Nat) (r : PR QT) : Option Value → QW → Prop := fun v w' =>
  match r with
  | .inl e => v = some (.int (-1)) ∧ ∃ M', w' = (txA A e.1 (nI e.2.1), B, L, X, M') ∧ QExt M M'
  | .inr x => v = some (.int (nI (k + 1) - 1)) ∧ ∃ M' a fs, w' = (qu (txS A) 100 1 (nI (k + 1)), B, L, qset X 107 (va_up (X 107) k (some a)), M') ∧ QExt M M' ∧ TextAt K G M' a x.1 ∧ M' a = some (.inr (4, fs))
abbrev hhT : List (Nat × Nat × Nat × Nat) := [(30, 62, 70, 98), (30, 62, 96, 0), (70, 89, 96, 0), (96, 98, 96, 0)]
set_option maxHeartbeats 4000000 in
theorem m_X0_text4 (l : Launch) {K : QK} {G : State → Prop} {A : QA} {rs : QA × QL × QX × QM} (hG : QG G) (hC : QCl K) (h4 : A 100 1 = 4) : MC l K G yX0_text (wsW_ yX0_text cX0_text 5 (some .int) hhT) 90 4000 0 0 [.ref (K.2.1 0)] (A, rs) (QR (some (.int (-1))) (A, rs)) := by
  refine MC.ofH (by decide) (Nat.le_of_ble_eq_true rfl) (lv := [(0, .ref (K.2.1 0))]) rfl (fun p e s m below meth c ls E hr htab hl hw => ?_)
  have hx := E.1
  have hb := E.2.1
  refine lv_aload_n hx hb dX0_text_0 rfl (lv_at hl 0 rfl) ?_
  refine r_getX (v := .ref (K.2.1 1)) E hw hC 0 (by decide) q238 rfl dX0_text_1 ?_
  refine r_getS1 (v := .ref (K.2.1 100)) hG E hw hC 0 (by decide) q191 rfl dX0_text_4 ?_
  refine lv_iconst (v := (1:Int32)) hx hb dX0_text_7 (by decide) ?_
  refine r_iald (j := 1) E hw (qi_100 hC).at (q_lit (k := 1) (n := 7) rfl rfl) (q_clamp (k := 1) rfl) dX0_text_8 ?_
  refine lv_iconst (v := (4:Int32)) hx hb dX0_text_9 (by decide) ?_
  refine lv_icmp_ne (tgt := 15) hx hb dX0_text_10 (by decide) (fun c0 => ?_) (fun c0 => ?_)
  · exact absurd h4 c0
  refine lv_iconst (v := (-1:Int32)) hx hb dX0_text_13 (by decide) ?_
  exact d_iret E hr rfl hw rfl rfl dX0_text_14
set_option maxHeartbeats 16000000 in
theorem m_X0_text (l : Launch) {K : QK} {G : State → Prop} {A B : QA} {L : QL} {X : QX} {M : QM} {n k : Nat} {y : QY} {ea mi ic : Nat} {ib : Nat → Nat} {r : PR QT} (hG : QG G) (hC : QCl K) (hn13 : ¬ ql K 13) (hS : QSt K G y) (hWr : QWr K G) (hlst : l.stackTraces = false) (hLs : QLs K G ea mi) (hI : QIc K G ic ib) (hk : A 100 1 = nI k) (hk4 : k < 4) (hnt : A 0 3 = nI n) (hn : n ≤ 300) (h : sRead (A 3) n t00 = some r) :
    MC l K G yX0_text (wsW_ yX0_text cX0_text 5 (some .int) hhT) 90 4000 (pc_ r + 1) (12 * pc_ r + 8) [.ref (K.2.1 0)] (A, B, L, X, M) (TXQ K G A B L X M k r) := by
  refine MC.ofH (by decide) (Nat.le_of_ble_eq_true rfl) (lv := [(0, .ref (K.2.1 0))]) rfl (fun p e s m below meth c ls E hr htab hl hw => ?_)
  have hx := E.1
  have hb := E.2.1
  have hown := E.2.2.1
  have hts := E.2.2.2.2.1
  refine lv_aload_n hx hb dX0_text_0 rfl (lv_at hl 0 rfl) ?_
  refine r_getX (v := .ref (K.2.1 1)) E hw hC 0 (by decide) q238 rfl dX0_text_1 ?_
  refine r_getS1 (v := .ref (K.2.1 100)) hG E hw hC 0 (by decide) q191 rfl dX0_text_4 ?_
  refine lv_iconst (v := (1:Int32)) hx hb dX0_text_7 (by decide) ?_
  refine r_iald (j := 1) E hw (qi_100 hC).at (q_lit (k := 1) (n := 7) rfl rfl) (q_clamp (k := 1) rfl) dX0_text_8 ?_
  refine lv_iconst (v := (4:Int32)) hx hb dX0_text_9 (by decide) ?_
  refine lv_icmp_ne (tgt := 15) hx hb dX0_text_10 (by decide) (fun c0 => ?_) (fun c0 => ?_)
  rotate_left
  · rw [hk] at c0
    have c9 : k = 4 := nI_inj c0 (by omega) (by decide)
    omega
  refine lv_aload_n hx hb dX0_text_15 rfl (lv_at hl 0 rfl) ?_
  refine r_getX (v := .int (A 0 3)) E hw hC 3 (by decide) q241 rfl dX0_text_16 ?_
  rw [hnt]
  refine lv_istore_n (lv' := [(1, .int (nI n)), (0, .ref (K.2.1 0))]) hx hb dX0_text_19 rfl hl (by decide) rfl (fun ls hl => ?_)
  refine lv_aload_n hx hb dX0_text_20 rfl (lv_at hl 1 rfl) ?_
  refine lv_iconst (v := (0:Int32)) hx hb dX0_text_21 (by decide) ?_
  refine r_putX E hw hC 4 (by decide) q242 rfl rfl (fun _ => rfl) dX0_text_22 (fun H locs hw => ?_)
  refine lv_aload_n hx hb dX0_text_25 rfl (lv_at hl 1 rfl) ?_
  refine lv_iconst (v := (-1:Int32)) hx hb dX0_text_26 (by decide) ?_
  refine r_putX E hw hC 5 (by decide) q243 rfl rfl (fun _ => rfl) dX0_text_27 (fun H locs hw => ?_)
  generalize hA1 : qu (qu A 0 4 0) 0 5 (-1) = A1 at hw
  have a100 : A1 100 1 = nI k := by rw [← hA1]; exact hk
  have a3 : A1 3 = A 3 := by rw [← hA1]; rfl
  refine lv_aload_n hx hb dX0_text_30 rfl (lv_at hl 1 rfl) ?_
  refine r_getX (v := .ref (K.2.1 1)) E hw hC 0 (by decide) q238 rfl dX0_text_31 ?_
  refine r_getS1 (v := .ref (K.2.1 107)) hG E hw hC 7 (by decide) q205 rfl dX0_text_34 ?_
  refine lv_aload_n hx hb dX0_text_37 rfl (lv_at hl 1 rfl) ?_
  refine r_getX (v := .ref (K.2.1 1)) E hw hC 0 (by decide) q238 rfl dX0_text_38 ?_
  refine r_getS1 (v := .ref (K.2.1 100)) hG E hw hC 0 (by decide) q191 rfl dX0_text_41 ?_
  refine lv_iconst (v := (1:Int32)) hx hb dX0_text_44 (by decide) ?_
  refine r_iald (j := 1) E hw (qi_100 hC).at (q_lit (k := 1) (n := 7) rfl rfl) (q_clamp (k := 1) rfl) dX0_text_45 ?_
  rw [a100]
  refine r_new (ci := 3) (fs := [.null, .int 0, .int 0, .int 0, .int 0, .int 0, .int 0, .int 0]) E hw (T := TX3) (N := 8) rfl in_X3 tyX3 tyX3_ok q307 q308 q141 (fun j hj => by match j, hj with
    | 0, _ => rfl
    | 1, _ => rfl
    | 2, _ => rfl
    | 3, _ => rfl
    | 4, _ => rfl
    | 5, _ => rfl
    | 6, _ => rfl
    | 7, _ => rfl
    | j + 8, hj => exact absurd hj (by omega)) (show _ ≤ pc_ r + 1 by omega) (show _ ≤ 12 * pc_ r + 8 by omega) dX0_text_46 (fun q H hw hq _ _ => ?_)
  have hq : M q = none := hq
  refine lv_dup hx hb dX0_text_49 rfl ?_
  refine lv_aload_n hx hb dX0_text_50 rfl (lv_at hl 1 rfl) ?_
  refine r_getX (v := .ref (K.2.1 3)) E hw hC 2 (by decide) q240 rfl dX0_text_51 ?_
  refine lv_iload_n hx hb dX0_text_54 rfl (lv_at hl 0 rfl) ?_
  refine c_I (As := [.ref (K.2.1 3), .int (nI n)]) (rest := [.ref q, .int (nI k), .ref (K.2.1 107)]) hG E hw (m_X3_init l va_up_s) (cwI 2 hts (lw_meth q311) rfl rfl rfl (hts _ q141) (hts _ q309) (hts _ q310) rfl kd_X3_init ⟨Nat.le_of_ble_eq_true rfl, Nat.le_of_ble_eq_true rfl⟩) hl rfl rfl (Nat.le_of_ble_eq_true rfl) dX0_text_55 ⟨(show _ ≤ pc_ r + 1 by omega), (show _ ≤ 12 * pc_ r + 8 by omega)⟩ (fun v1 w9 H1 locs1 hP hw => ?_)
  obtain ⟨rfl, rfl⟩ := hP
  refine W.eq (g2 := F0 m 58 ls [.ref q, .int (nI k), .ref (K.2.1 107)]) rfl ?_
  simp only [va_up_up] at hw
  have hw2 := WP.tok hw (hC 3 rfl) hn13 (f := tf n t00) (ta := q) va_up_s
  simp only [va_up_up] at hw2
  have hw2 : WP (tK K q) (tw A1 n t00, B, L, X, va_up M q none) H1 locs1 := hw2
  have e13 : (tK K q).2.1 13 = q := rfl
  have hMq : va_up M q none = M := by
    funext z
    by_cases hz : z = q
    · rw [hz, va_up_s, hq]
    · rw [va_up_n hz]
  rw [hMq] at hw2
  have h' : sRead (A1 3) n t00 = some r := by rw [a3]; exact h
  have hM := m_X3_read l (K := tK K q) (A := A1) (B := B) (L := L) (X := X) (M := M) (n := n) (y := y) (t := t00) (ea := ea) (mi := mi) (ic := ic) (ib := ib) hG (tK_C hC) tK_13 hS hWr hlst hn hLs hI (Nat.zero_le _) (Nat.zero_le _) h'
  have E' : EV (tK K q) G p s m #[.ref (K.2.1 0)] meth c cX0_text yX0_text.cls 5 := E
  rw [e13] at hM
  have hq13 := qT13 (A := A1) (n := n) (t := t00) (r := (B, L, X, M)) (tK_13 (K := K) (ta := q))
  rw [e13] at hq13
  refine c_XV (As := []) (rest := [.int (nI k), .ref (K.2.1 107)]) hG E' hw2 hM hq13 rfl (cwV 0 hts (lw_V q338 q339 q340 q141 q341) rfl rfl rfl ⟨rfl, kd_X3_read⟩ ⟨Nat.le_of_ble_eq_true rfl, Nat.le_of_ble_eq_true rfl⟩) hl rfl rfl (Nat.le_of_ble_eq_true rfl) dX0_text_58 ⟨(show _ ≤ pc_ r + 1 by omega), (show _ ≤ 12 * pc_ r + 8 by omega)⟩ (fun v w' H locs hP hw => ?_) (fun q9 w' H locs hP hw hq9 => ?_)
  · obtain ⟨tt, t', c9, hr9, M', rfl, hx1, a, rfl, hT, hn0, fs, hfs⟩ := hP
    refine W.eq (g2 := F0 m 61 ls [.ref a, .int (nI k), .ref (K.2.1 107)]) rfl ?_
    have hw := (hw.untok hn13).drop13 hn13
    refine r_astX (j := k) E hw hC hfs (vp_in_nI hk4 (by decide)) (nI_clamp (by omega)) dX0_text_61 (fun H locs hw => ?_)
    refine lv_aload_n hx hb dX0_text_62 rfl (lv_at hl 1 rfl) ?_
    refine lv_iconst (v := (0:Int32)) hx hb dX0_text_63 (by decide) ?_
    refine r_putX E hw hC 3 (by decide) q241 rfl rfl (fun _ => rfl) dX0_text_64 (fun H locs hw => ?_)
    refine lv_goto (tgt := 106) hx hb dX0_text_67 (by decide) ?_
    refine lv_aload_n hx hb dX0_text_106 rfl (lv_at hl 1 rfl) ?_
    refine r_getX (v := .ref (K.2.1 1)) E hw hC 0 (by decide) q238 rfl dX0_text_107 ?_
    refine r_getS1 (v := .ref (K.2.1 100)) hG E hw hC 0 (by decide) q191 rfl dX0_text_110 ?_
    refine lv_iconst (v := (1:Int32)) hx hb dX0_text_113 (by decide) ?_
    refine lv_dup2_11 hx hb dX0_text_114 rfl rfl ?_
    refine r_iald (j := 1) E hw (qi_100 hC).at (q_lit (k := 1) (n := 7) rfl rfl) (q_clamp (k := 1) rfl) dX0_text_115 ?_
    have b100 : qu A1 0 3 0 100 1 = nI k := by rw [qu_n (by decide)]; exact a100
    rw [b100]
    refine lv_iconst (v := (1:Int32)) hx hb dX0_text_116 (by decide) ?_
    refine lv_iadd hx hb dX0_text_117 ?_
    rw [nI_sc]
    refine r_iastA (j := 1) E hw (qi_100 hC) (q_lit (k := 1) (n := 7) rfl rfl) (q_clamp (k := 1) rfl) dX0_text_118 (fun H locs hw => ?_)
    refine lv_aload_n hx hb dX0_text_119 rfl (lv_at hl 1 rfl) ?_
    refine r_getX (v := .ref (K.2.1 1)) E hw hC 0 (by decide) q238 rfl dX0_text_120 ?_
    refine r_getS1 (v := .ref (K.2.1 100)) hG E hw hC 0 (by decide) q191 rfl dX0_text_123 ?_
    refine lv_iconst (v := (1:Int32)) hx hb dX0_text_126 (by decide) ?_
    refine r_iald (j := 1) E hw (qi_100 hC).at (q_lit (k := 1) (n := 7) rfl rfl) (q_clamp (k := 1) rfl) dX0_text_127 ?_
    rw [qu_s, va_up_s]
    refine lv_iconst (v := (1:Int32)) hx hb dX0_text_128 (by decide) ?_
    refine lv_isub hx hb dX0_text_129 ?_
    refine r_iret E hr rfl ?_ hw (show _ ≤ pc_ r + 1 by omega) (show _ ≤ 12 * pc_ r + 8 by omega) dX0_text_130
    rw [hr9]
    refine ⟨rfl, M', a, fs, ?_, hx1, hT.tk, hfs⟩
    rw [← hA1]
    rfl
  · obtain ⟨f, pl, c9, hr9, t', M', rfl, hx1, fs, hfs, h6, h7⟩ := hP
    obtain ⟨ce, z1, z2, z3⟩ := hq9
    refine vq_catch (own := "VaneCourt") (name := "VaneCourt$Wrong") (E := RX5) hown [] ⟨30, 62, 70, 98⟩ [⟨30, 62, 96, 0⟩, ⟨70, 89, 96, 0⟩, ⟨96, 98, 96, 0⟩] htab (fun z hz => by cases hz) rfl (by decide) (hts _ q306) (va_Nw.use rfl (hG.2.2 s _ E.2.2.2.2.2.1 q481 rfl)) z1 z2 z3 ?_
    have hw := (hw.untok hn13).drop13 hn13
    refine lv_astore_n (lv' := [(2, .ref q9), (1, .int (nI n)), (0, .ref (K.2.1 0))]) hx hb dX0_text_70 rfl hl (by decide) rfl (fun ls hl => ?_)
    refine lv_aload_n hx hb dX0_text_71 rfl (lv_at hl 2 rfl) ?_
    refine lv_aload_n hx hb dX0_text_72 rfl (lv_at hl 0 rfl) ?_
    refine r_getN hG E hw (QAt.dyn hfs) (T := TX5) (N := 8) rfl in_X5 6 (by omega) q524 h6 dX0_text_73 ?_
    refine r_putX E hw hC 4 (by decide) q242 rfl rfl (fun _ => rfl) dX0_text_76 (fun H locs hw => ?_)
    refine lv_aload_n hx hb dX0_text_79 rfl (lv_at hl 2 rfl) ?_
    refine lv_aload_n hx hb dX0_text_80 rfl (lv_at hl 0 rfl) ?_
    refine r_getN hG E hw (QAt.dyn hfs) (T := TX5) (N := 8) rfl in_X5 7 (by omega) q526 h7 dX0_text_81 ?_
    refine r_putX E hw hC 5 (by decide) q243 rfl rfl (fun _ => rfl) dX0_text_84 (fun H locs hw => ?_)
    refine lv_iconst (v := (-1:Int32)) hx hb dX0_text_87 (by decide) ?_
    refine lv_istore_n (lv' := [(3, .int (-1)), (2, .ref q9), (1, .int (nI n)), (0, .ref (K.2.1 0))]) hx hb dX0_text_88 rfl hl (by decide) rfl (fun ls hl => ?_)
    refine lv_aload_n hx hb dX0_text_89 rfl (lv_at hl 3 rfl) ?_
    refine lv_iconst (v := (0:Int32)) hx hb dX0_text_90 (by decide) ?_
    refine r_putX E hw hC 3 (by decide) q241 rfl rfl (fun _ => rfl) dX0_text_91 (fun H locs hw => ?_)
    refine lv_iload_n hx hb dX0_text_94 rfl (lv_at hl 0 rfl) ?_
    refine r_iret E hr rfl ?_ hw (show _ ≤ pc_ r + 1 by omega) (show _ ≤ 12 * pc_ r + 8 by omega) dX0_text_95
    rw [hr9]
    refine ⟨rfl, M', ?_, hx1⟩
    rw [← hA1]
    rfl
