/-! rows and contracts where cells are made while running (int arrays of the component), and the copies between the two states -/
set_option maxRecDepth 100000
/-- M' has all that M has -/
def QExt (M M' : QM) : Prop := ∀ a e, M a = some e → M' a = some e
theorem QExt.rfl' {M : QM} : QExt M M := fun _ _ h => h
theorem QExt.trans {M M' M'' : QM} (h : QExt M M') (g : QExt M' M'') : QExt M M'' := fun a e q => g a e (h a e q)
theorem QExt.add {M : QM} {q : Nat} {e : va_E} (h : M q = none) : QExt M (va_up M q (some e)) := fun a f ha => by
  unfold va_up
  rw [if_neg]
  · exact ha
  · intro z
    rw [z, h] at ha
    cases ha
theorem QExt.upd {M M' : QM} {q : Nat} {e : va_E} (h : QExt M M') (hq : M q = none) : QExt M (va_up M' q (some e)) := fun a f ha => by
  unfold va_up
  rw [if_neg]
  · exact h a f ha
  · intro z
    rw [z, hq] at ha
    cases ha
/-- one answer, one world but for cells that were made -/
abbrev QN (v0 : Option Value) (A0 B : QA) (L : QL) (X : QX) (M : QM) : Option Value → QW → Prop := fun v w => v = v0 ∧ ∃ M', w = (A0, B, L, X, M') ∧ QExt M M'
/-- a labelled cell changes, the others stand beside it -/
theorem WP.lab3 {K : QK} {w : QW} {H : Heap} {locs : List Loc} (hw : WP K w H locs) {l : Nat} (hl : ql K l) : ∃ (ws : va_W) (i : Nat), va_P K.2.2.2.1 vcl ws H ∧ va_D (qA K) ws ∧ va_S (qA K) K.1 H locs ∧ ws[i]? = some (K.2.1 l, qat K w l) ∧ (∀ b f, ((∃ k, ql K k ∧ b = K.2.1 k ∧ f = qat K w k) ∨ w.2.2.2.2 b = some f) → ∃ i2 : Nat, ws[i2]? = some (b, f)) ∧
    ∀ w' : QW, QUp w w' l → ∀ (H1 : Heap) (locs1 : List Loc), va_P K.2.2.2.1 vcl (ws.set i (K.2.1 l, qat K w' l)) H1 → va_D (qA K) (ws.set i (K.2.1 l, qat K w' l)) → va_S (qA K) K.1 H1 locs1 → WP K w' H1 locs1 := by
  obtain ⟨Ml, hM, hP, hD, hS⟩ := hw
  obtain ⟨i, hi⟩ := qmem hl
  have h1 : (qwl K w)[i]? = some (K.2.1 l, qat K w l) := by rw [qwl, List.getElem?_map, hi]; rfl
  have hlt := (List.getElem?_eq_some_iff.mp h1).1
  have h2 : (qwl K w ++ Ml)[i]? = some (K.2.1 l, qat K w l) := by rw [List.getElem?_append_left hlt]; exact h1
  have g2 : ∀ b f, ((∃ k, ql K k ∧ b = K.2.1 k ∧ f = qat K w k) ∨ w.2.2.2.2 b = some f) → ∃ i2 : Nat, (qwl K w ++ Ml)[i2]? = some (b, f) := by
    intro b f h
    rcases h with ⟨k, hk, rfl, rfl⟩ | h
    · obtain ⟨i2, hi2⟩ := qmem hk
      have g1 : (qwl K w)[i2]? = some (K.2.1 k, qat K w k) := by rw [qwl, List.getElem?_map, hi2]; rfl
      exact ⟨i2, by rw [List.getElem?_append_left (List.getElem?_eq_some_iff.mp g1).1]; exact g1⟩
    · obtain ⟨i2, hi2⟩ := List.getElem?_of_mem ((hM b f).mpr h)
      exact ⟨(qwl K w).length + i2, by rw [List.getElem?_append_right (by omega), Nat.add_sub_cancel_left]; exact hi2⟩
  refine ⟨_, i, hP, hD, hS, h2, g2, fun w' hu H1 locs1 p d s => ?_⟩
  have he : (qwl K w ++ Ml).set i (K.2.1 l, qat K w' l) = qwl K w' ++ Ml := by
    rw [List.set_append_left _ _ hlt]
    congr 1
    apply List.ext_getElem?
    intro j
    rw [List.getElem?_set]
    by_cases hj : i = j
    · subst hj
      rw [if_pos rfl, if_pos hlt, qwl, List.getElem?_map, hi]
      rfl
    · rw [if_neg hj, qwl, qwl, List.getElem?_map, List.getElem?_map]
      cases hkk : (qlabs K)[j]? with
      | none => rfl
      | some k =>
        have hne : k ≠ l := by
          intro e
          subst e
          have h3 : (qwl K w ++ Ml)[j]? = some (K.2.1 k, qat K w k) := by
            have h4 : (qwl K w)[j]? = some (K.2.1 k, qat K w k) := by rw [qwl, List.getElem?_map, hkk]; rfl
            rw [List.getElem?_append_left (List.getElem?_eq_some_iff.mp h4).1]; exact h4
          exact hj (hD.1 i j _ _ h2 h3 rfl)
        simp only [Option.map_some, qat, hu.1 k hne, hu.2.1 k hne, hu.2.2.1 k hne, hu.2.2.2.1 k hne]
  rw [he] at p d
  exact ⟨Ml, by rw [hu.2.2.2.2]; exact hM, p, d, s⟩
section MYN
variable {p : Program} {l : Launch} {e : Env} {R : Room} {s : State} {m : MethodId} {args : Array Value} {below : List Frame} {meth : Method} {c : Code} {H : Heap} {locs : List Loc} {cells slots : Nat} {Q : State → Prop}
variable {cc : ByteArray} {pc : Nat} {ls : Array Slot} {rest : List Value} {a : Nat} {own : String} {nL : Nat}
variable {K : QK} {G : State → Prop} {w : QW}
theorem r_newI {n : Int32} {N : Nat} (E : EV K G p s m args meth c cc own nL) (hw : WP K w H locs) (hn : n.toNatClampNeg = N) (h0 : ¬ n < 0) (hbytes : N * 4 ≤ 536870912) (hcells : cells + 1 ≤ R.cells) (hslots : slots + N ≤ R.slots) (hdg : decode cc pc = .ok (.newarray .int, 2))
    (kk : ∀ (q : Nat) (H1 : Heap), WP K (w.1, w.2.1, w.2.2.1, w.2.2.2.1, va_up w.2.2.2.2 q (some (.inl (K.2.2.2.2 0, N, .inl (fun _ => 0))))) H1 locs → w.2.2.2.2 q = none → (∀ j, ql K j → K.2.1 j ≠ q) → W p l e R s m args below meth c H1 locs (cells + 1) (slots + N) Q (F0 m (pc + 2) ls (.ref q :: rest))) : W p l e R s m args below meth c H locs cells slots Q (F0 m pc ls (.int n :: rest)) := by
  obtain ⟨ws, hP, hD, hS, back⟩ := hw.add
  refine va_newa (atype := .int) (ty := .int) (a0 := (N, .inl (fun _ => 0))) E.1 E.2.1 (E.2.2.2.2.1 _ q223) rfl E.2.2.2.1 hP hD hS (fun _ h => h) (fun cA => rfl) h0 hn hbytes hcells hslots hdg (fun q cA H1 k1 p1 d1 s1 => ?_)
  have e1 : cA = K.2.2.2.2 0 := by
    have h1 := (k1.2 (qtys K).length (cA, .int) (by simp)).2
    have h2 := (E.2.2.2.1.2 0 (K.2.2.2.2 0, .int) rfl).2
    exact Option.some.inj (h1.symm.trans h2)
  subst e1
  obtain ⟨g1, g2, g3, -⟩ := back q _ H1 locs p1 d1 s1
  exact kk q H1 g1 g2 g3
theorem r_iastD {n j : Nat} {f : Nat → Int32} {i v : Int32} (E : EV K G p s m args meth c cc own nL) (hw : WP K w H locs) (hq : w.2.2.2.2 a = some (.inl (K.2.2.2.2 0, n, .inl f))) (hin : vp_in i n) (hj : i.toNatClampNeg = j) (hdg : decode cc pc = .ok (.iastore, 1))
    (kk : ∀ (H1 : Heap) (locs1 : List Loc), WP K (w.1, w.2.1, w.2.2.1, w.2.2.2.1, va_up w.2.2.2.2 a (some (.inl (K.2.2.2.2 0, n, .inl (va_up f j v))))) H1 locs1 → W p l e R s m args below meth c H1 locs1 cells slots Q (F0 m (pc + 1) ls rest)) : W p l e R s m args below meth c H locs cells slots Q (F0 m pc ls (.int v :: .int i :: .ref a :: rest)) := by
  subst hj
  obtain ⟨ws, q, hP, hD, hS, hi, back⟩ := hw.dyn hq
  exact va_iast E.1 E.2.1 E.2.2.2.1 hP hD hS q 0 hi rfl hin hdg (fun H1 locs1 p1 d1 s1 => kk H1 locs1 (back _ H1 locs1 p1 d1 s1))
/-- arraycopy out of an array made while running -/
theorem r_copyD {lb n0 n1 index j0 j1 j2 : Nat} {f : Nat → Int32} {A : QA} {r : QA × QL × QX × QM} {sp dp n : Int32} {lv : List (Nat × Value)} (E : EV K G p s m args meth c cc own nL) (hl : lv_has ls nL lv) (hw : WP K (A, r) H locs) (ha : r.2.2.2 a = some (.inl (K.2.2.2.2 0, n0, .inl f))) (hb : qia K lb n1) (q1 : Cond.methodLink own index arraycopyName ∈ lw_all) (q2 : Cond.native arraycopyName ∈ lw_all) (q3 : Cond.static arraycopyName ∈ lw_all) (q4 : Cond.initialized "java/lang/System" ∈ lw_all)
    (h1 : ¬ sp < 0) (h2 : ¬ dp < 0) (h3 : ¬ n < 0) (e0 : sp.toNatClampNeg = j0) (e1 : dp.toNatClampNeg = j1) (e2 : n.toNatClampNeg = j2) (h4 : j0 + j2 ≤ n0) (h5 : j1 + j2 ≤ n1) (hframes : 1 ≤ R.frames) (hlocals : (rest.map fun v => v.category).sum + (nativeFrameWords "java/lang/System" "arraycopy" 5 + 11) ≤ R.locals) (hdg : decode cc pc = .ok (.invokestatic index, 3))
    (kk : ∀ (H1 : Heap) (locs1 : List Loc), WP K (qset A lb (va_cpy f (A lb) j0 j1 j2), r) H1 locs1 → W p l e R s m args below meth c H1 locs1 cells slots Q (F0 m (pc + 3) ls rest)) : W p l e R s m args below meth c H locs cells slots Q (F0 m pc ls (.int n :: .int dp :: .ref (K.2.1 lb) :: .int sp :: .ref a :: rest)) := by
  subst e0; subst e1; subst e2
  obtain ⟨ws, i, hP, hD, hS, hi, oth, back⟩ := hw.lab3 hb.1
  obtain ⟨i2, hi2⟩ := oth _ _ (Or.inr ha)
  rw [qat, hb.2] at hi
  refine va_copyi E.1 E.2.1 (E.2.2.2.2.2.2.2.trans hl.1.symm) E.2.2.1 (E.2.2.2.2.1 _ q1) (E.2.2.2.2.1 _ q2) (E.2.2.2.2.1 _ q3) (E.2.2.2.2.1 _ q4) E.2.2.2.1 hP hD hS i2 i 0 0 hi2 hi rfl rfl rfl h1 h2 h3 h4 h5 (fun i _ => rfl) hframes hlocals hdg (fun H1 locs1 p1 d1 s1 => ?_)
  have e1 : ∀ f : Nat → Int32, qat K (qset A lb f, r) lb = .inl (K.2.2.2.2 0, n1, .inl f) := fun f => by
    unfold qat
    rw [hb.2]
    show Sum.inl (_, _, Sum.inl (qset A lb f lb)) = _
    rw [qset_s]
  refine kk H1 locs1 (back _ QUp.A H1 locs1 ?_ ?_ s1)
  · rw [e1]; exact p1
  · rw [e1]; exact d1
/-- arraycopy between the two states' text arrays -/
def qix (K : QK) (l : Nat) : Prop := ql K l ∧ ∀ a b L x, qcont K l a b L x = .inl (K.2.2.2.2 5, 4, .inr (.inr (.inr (.inr x))))
theorem r_copyX {la lb index : Nat} {A B : QA} {L : QL} {X : QX} {M : QM} {lv : List (Nat × Value)} (E : EV K G p s m args meth c cc own nL) (hl : lv_has ls nL lv) (hw : WP K (A, B, L, X, M) H locs) (ha : qix K la) (hb : qix K lb) (hX : ∀ i, i < 4 → ∀ y, X la i = some y → ∃ fs, M y = some (.inr (4, fs))) (q1 : Cond.methodLink own index arraycopyName ∈ lw_all) (q2 : Cond.native arraycopyName ∈ lw_all) (q3 : Cond.static arraycopyName ∈ lw_all) (q4 : Cond.initialized "java/lang/System" ∈ lw_all)
    (hframes : 1 ≤ R.frames) (hlocals : (rest.map fun v => v.category).sum + (nativeFrameWords "java/lang/System" "arraycopy" 5 + 11) ≤ R.locals) (hdg : decode cc pc = .ok (.invokestatic index, 3))
    (kk : ∀ (H1 : Heap) (locs1 : List Loc), WP K (A, B, L, qset X lb (va_cpy (X la) (X lb) 0 0 4), M) H1 locs1 → W p l e R s m args below meth c H1 locs1 cells slots Q (F0 m (pc + 3) ls rest)) : W p l e R s m args below meth c H locs cells slots Q (F0 m pc ls (.int 4 :: .int 0 :: .ref (K.2.1 lb) :: .int 0 :: .ref (K.2.1 la) :: rest)) := by
  obtain ⟨ws, i, hP, hD, hS, hi, oth, back⟩ := hw.lab3 hb.1
  obtain ⟨i2, hi2⟩ := oth _ _ (Or.inl ⟨la, ha.1, rfl, rfl⟩)
  rw [qat, hb.2] at hi
  rw [qat, ha.2] at hi2
  refine va_copyq (C := "VaneCourt$Text") E.1 E.2.1 (E.2.2.2.2.2.2.2.trans hl.1.symm) E.2.2.1 (E.2.2.2.2.1 _ q1) (E.2.2.2.2.1 _ q2) (E.2.2.2.2.1 _ q3) (E.2.2.2.2.1 _ q4) E.2.2.2.1 hP hD hS i2 i 5 5 hi2 hi rfl rfl (by decide) (by decide) (by decide) (by decide) (by decide) (fun j hj y hy => ?_) (fun comp c0 h1 h2 => ?_) hframes hlocals hdg (fun H1 locs1 p1 d1 s1 => ?_)
  · have hj : j < 4 := hj
    have hy : X la (0 + j) = some y := hy
    rw [Nat.zero_add] at hy
    obtain ⟨fs, hf⟩ := hX j hj y hy
    exact in_recv E hw (QAt.dyn hf) (T := TX4) (N := 7) (ci := 4) rfl
  · have e : c0 = comp := Option.some.inj (h2.symm.trans h1)
    subst e
    have hk := (E.2.2.2.1.1 4 (RX4, TX4, 7) rfl).2
    have e2 : c0 = K.2.2.2.1.1 4 := Option.some.inj (h2.symm.trans hk.1)
    rw [e2]
    exact va_assign hk
  · have e1 : ∀ f : Nat → Option Nat, qat K (A, B, L, qset X lb f, M) lb = .inl (K.2.2.2.2 5, 4, .inr (.inr (.inr (.inr f)))) := fun f => by
      unfold qat
      rw [hb.2]
      show Sum.inl (_, _, Sum.inr (Sum.inr (Sum.inr (Sum.inr (qset X lb f lb))))) = _
      rw [qset_s]
    refine kk H1 locs1 (back _ QUp.X H1 locs1 ?_ ?_ s1)
    · rw [e1]; exact p1
    · rw [e1]; exact d1
theorem r_iretN {v : Int32} {v0 : Int32} {A A0 B : QA} {L : QL} {X : QX} {M M' : QM} {mc ms : Nat} (E : EV K G p s m args meth c cc own nL) {ty : FieldType} (hr : meth.sig.returnType = some ty) (hn : narrow ty (.int v) = .int v) (h1 : v = v0) (h2 : A = A0) (hx : QExt M M') (hw : WP K (A, B, L, X, M') H locs) (hc : cells ≤ mc) (hs : slots ≤ ms) (hdg : decode cc pc = .ok (.ireturn, 1)) : W p l e R s m args below meth c H locs cells slots (MQ below (QE K (QN (some (.int v0)) A0 B L X M)) args s mc ms (qA K)) (F0 m pc ls [.int v]) := by
  subst h1; subst h2
  exact r_iret E hr hn ⟨rfl, M', rfl, hx⟩ hw hc hs hdg
end MYN
theorem qx_107 {K : QK} (hC : QCl K) : qix K 107 := ⟨hC 107 rfl, fun _ _ _ _ => rfl⟩
theorem qx_207 {K : QK} (hC : QCl K) : qix K 207 := ⟨hC 207 rfl, fun _ _ _ _ => rfl⟩
set_option maxHeartbeats 4000000 in
/-- State.copy out of an array made while running -/
theorem m_X1_copyD (l : Launch) {K : QK} {G : State → Prop} (hG : QG G) (hC : QCl K) {rs : QA × QL × QX × QM} {a r1 n : Nat} {f : Nat → Int32} {A : QA} (h0 : rs.2.2.2 a = some (.inl (K.2.2.2.2 0, n, .inl f))) (h1 : qia K r1 n) (hn : n ≤ 100000) : MC l K G yX1_copy (ws_ yX1_copy cX1_copy 2 none) 1 40 0 0 [.ref a, .ref (K.2.1 r1)] (A, rs) (QR none (qset A r1 (va_cpy f (A r1) 0 0 n), rs)) := by
  refine MC.of (by decide) (Nat.le_of_ble_eq_true rfl) (lv := [(0, .ref a), (1, .ref (K.2.1 r1))]) rfl (fun p e s m below meth c ls E hr hl hw => ?_)
  have hx := E.1
  have hb := E.2.1
  have hown := E.2.2.1
  have hts := E.2.2.2.2.1
  refine lv_aload_n hx hb dX1_copy_0 rfl (lv_at hl 0 rfl) ?_
  refine lv_iconst (v := (0:Int32)) hx hb dX1_copy_1 (by decide) ?_
  refine lv_aload_n hx hb dX1_copy_2 rfl (lv_at hl 1 rfl) ?_
  refine lv_iconst (v := (0:Int32)) hx hb dX1_copy_3 (by decide) ?_
  refine lv_aload_n hx hb dX1_copy_4 rfl (lv_at hl 0 rfl) ?_
  refine r_alen (t := 0) (v := nI n) E hw rfl (QAt.dyn h0) rfl dX1_copy_5 ?_
  refine r_copyD (j0 := 0) (j1 := 0) (j2 := n) E hl hw h0 h1 q232 q234 q233 q139 (by decide) (by decide) (nI_pos (by omega)) (q_clamp (k := 0) rfl) (q_clamp (k := 0) rfl) (nI_clamp (by omega)) (by omega) (by omega) (Nat.le_of_ble_eq_true rfl) (Nat.le_of_ble_eq_true rfl) dX1_copy_6 (fun H locs hw => ?_)
  exact d_ret E hr hw rfl dX1_copy_9
/-- the first n rows of a grid at b0 laid over those of a grid at b1 -/
def qcps (A : QA) (b0 b1 ln : Nat) : Nat → QA
  | 0 => A
  | k + 1 => qset (qcps A b0 b1 ln k) (b1 + k) (va_cpy (qcps A b0 b1 ln k (b0 + k)) (qcps A b0 b1 ln k (b1 + k)) 0 0 ln)
theorem kd_X1_copy_2 : yX1_copy_2.cls ≠ "java/lang/invoke/MethodHandle" ∧ yX1_copy_2.cls ≠ "java/lang/invoke/VarHandle" ∧ (parseMethodDescriptor yX1_copy_2.desc).map (fun d => d.parameters.length) = some 2 := by decide +kernel
set_option maxHeartbeats 4000000 in
theorem w_X1_copy_2 {p : Program} {l : Launch} {e : Env} {s : State} {m : MethodId} {args : Array Value} {below : List Frame} {meth : Method} {c : Code} {K : QK} {G : State → Prop} {rs : QA × QL × QX × QM} {A : QA} {g0 g1 b0 b1 n ln : Nat} (hG : QG G) (hC : QCl K) (h0 : qig K g0 n b0) (h1 : qig K g1 n b1) (f0 : ∀ k, k < n → qia K (b0 + k) ln) (f1 : ∀ k, k < n → qia K (b1 + k) ln) (hn : n ≤ 1000) (hln : ln ≤ 100000) (E : EV K G p s m args meth c cX1_copy_2 "VaneCourt$State" 3) (hr : meth.sig.returnType = none) : ∀ (j k : Nat), k + j = n → ∀ {H : Heap} {locs : List Loc} {ls : Array Slot}, WP K (qcps A b0 b1 ln k, rs) H locs → lv_has ls 3 [(0, .ref (K.2.1 g0)), (1, .ref (K.2.1 g1)), (2, .int (nI k))] → W p l e (qrm 2 100 0 0) s m args below meth c H locs 0 0 (MQ below (QE K (QR none (qcps A b0 b1 ln n, rs))) args s 0 0 (qA K)) (F0 m 2 ls []) := by
  have hx := E.1
  have hb := E.2.1
  have hown := E.2.2.1
  have hts := E.2.2.2.2.1
  intro j
  induction j with
  | zero =>
    intro k hk H locs ls hw hl
    have hk : k = n := hk
    subst hk
    refine lv_iload_n hx hb dX1_copy_2_2 rfl (lv_at hl 2 rfl) ?_
    refine lv_aload_n hx hb dX1_copy_2_3 rfl (lv_at hl 0 rfl) ?_
    refine r_alen (t := 4) (v := nI k) E hw rfl h0.at rfl dX1_copy_2_4 ?_
    refine lv_icmp_ge (tgt := 23) hx hb dX1_copy_2_5 (by decide) (fun c => ?_) (fun c => ?_)
    · exact d_ret E hr hw rfl dX1_copy_2_23
    · exact absurd (nI_le (Nat.le_refl k) (by omega)) c
  | succ j ih =>
    intro k hk H locs ls hw hl
    have hkn : k < n := by omega
    refine lv_iload_n hx hb dX1_copy_2_2 rfl (lv_at hl 2 rfl) ?_
    refine lv_aload_n hx hb dX1_copy_2_3 rfl (lv_at hl 0 rfl) ?_
    refine r_alen (t := 4) (v := nI n) E hw rfl h0.at rfl dX1_copy_2_4 ?_
    refine lv_icmp_ge (tgt := 23) hx hb dX1_copy_2_5 (by decide) (fun c => ?_) (fun c => ?_)
    · exact absurd c (nI_ge hkn (by omega))
    refine lv_aload_n hx hb dX1_copy_2_8 rfl (lv_at hl 0 rfl) ?_
    refine lv_iload_n hx hb dX1_copy_2_9 rfl (lv_at hl 2 rfl) ?_
    refine r_gald (j := k) E hw h0.at (vp_in_nI hkn (by omega)) (nI_clamp (by omega)) dX1_copy_2_10 ?_
    refine lv_aload_n hx hb dX1_copy_2_11 rfl (lv_at hl 1 rfl) ?_
    refine lv_iload_n hx hb dX1_copy_2_12 rfl (lv_at hl 2 rfl) ?_
    refine r_gald (j := k) E hw h1.at (vp_in_nI hkn (by omega)) (nI_clamp (by omega)) dX1_copy_2_13 ?_
    refine d_S (As := [.ref (K.2.1 (b0 + k)), .ref (K.2.1 (b1 + k))]) (v0 := none) hG E hw hl (m_X1_copy l hG hC (f0 k hkn) (f1 k hkn) hln) (va_cwS 2 hts (lw_S q229 q230 q138 q231) rfl rfl rfl kd_X1_copy ⟨Nat.le_of_ble_eq_true rfl, Nat.le_of_ble_eq_true rfl⟩) rfl (rest := []) (st1 := []) rfl rfl rfl dX1_copy_2_14 ⟨Nat.le_of_ble_eq_true rfl, Nat.le_of_ble_eq_true rfl⟩ (fun H locs hw => ?_)
    refine lv_iinc (v := nI (k + 1)) (lv' := [(2, .int (nI (k + 1))), (0, .ref (K.2.1 g0)), (1, .ref (K.2.1 g1))]) (k := 2) hx hb dX1_copy_2_17 hl rfl (by rw [nI_succ]; rfl) (by decide) rfl (fun ls hl => ?_)
    refine lv_goto (tgt := 2) hx hb dX1_copy_2_20 (by decide) ?_
    exact ih (k + 1) (by omega) hw (lv_sub hl [1, 2, 0] rfl)
theorem m_X1_copy_2 (l : Launch) {K : QK} {G : State → Prop} (hG : QG G) (hC : QCl K) {rs : QA × QL × QX × QM} {A : QA} {g0 g1 b0 b1 n ln : Nat} (h0 : qig K g0 n b0) (h1 : qig K g1 n b1) (f0 : ∀ k, k < n → qia K (b0 + k) ln) (f1 : ∀ k, k < n → qia K (b1 + k) ln) (hn : n ≤ 1000) (hln : ln ≤ 100000) : MC l K G yX1_copy_2 (ws_ yX1_copy_2 cX1_copy_2 3 none) 2 100 0 0 [.ref (K.2.1 g0), .ref (K.2.1 g1)] (A, rs) (QR none (qcps A b0 b1 ln n, rs)) := by
  refine MC.of (by decide) (Nat.le_of_ble_eq_true rfl) (lv := [(0, .ref (K.2.1 g0)), (1, .ref (K.2.1 g1))]) rfl (fun p e s m below meth c ls E hr hl hw => ?_)
  have hx := E.1
  have hb := E.2.1
  refine lv_iconst (v := (0:Int32)) hx hb dX1_copy_2_0 (by decide) ?_
  refine lv_istore_n (lv' := [(2, .int (nI 0)), (0, .ref (K.2.1 g0)), (1, .ref (K.2.1 g1))]) hx hb dX1_copy_2_1 rfl hl (by decide) rfl (fun ls hl => ?_)
  exact w_X1_copy_2 hG hC h0 h1 f0 f1 hn hln E hr n 0 (by omega) hw (lv_sub hl [1, 2, 0] rfl)
theorem kd_X1_be : yX1_be.cls ≠ "java/lang/invoke/MethodHandle" ∧ yX1_be.cls ≠ "java/lang/invoke/VarHandle" ∧ (parseMethodDescriptor yX1_be.desc).map (fun d => d.parameters.length) = some 1 := by decide +kernel
/-- State.be, 2 out of 1 -/
def qbe2 (A : QA) : QA :=
  let A1 := qset A 200 (va_cpy (A 100) (A 200) 0 0 7)
  let A2 := qset A1 201 (va_cpy (A1 101) (A1 201) 0 0 154)
  qcps (qcps (qcps (qcps (qcps A2 110 210 4 8) 120 220 3 8) 130 230 2 8) 140 240 2 8) 150 250 154 30
set_option maxHeartbeats 4000000 in
theorem m_X1_be2 (l : Launch) {K : QK} {G : State → Prop} (hG : QG G) (hC : QCl K) {A B : QA} {L : QL} {X : QX} {M : QM} (hX : ∀ i, i < 4 → ∀ y, X 107 i = some y → ∃ fs, M y = some (.inr (4, fs))) : MC l K G yX1_be (ws_ yX1_be cX1_be 2 none) 3 200 0 0 [.ref (K.2.1 2), .ref (K.2.1 1)] (A, B, L, X, M) (QR none (qbe2 A, B, L, qset X 207 (va_cpy (X 107) (X 207) 0 0 4), M)) := by
  refine MC.of (by decide) (Nat.le_of_ble_eq_true rfl) (lv := [(0, .ref (K.2.1 2)), (1, .ref (K.2.1 1))]) rfl (fun p e s m below meth c ls E hr hl hw => ?_)
  have hx := E.1
  have hb := E.2.1
  have hown := E.2.2.1
  have hts := E.2.2.2.2.1
  refine lv_aload_n hx hb dX1_be_0 rfl (lv_at hl 1 rfl) ?_
  refine r_getT1 (v := .ref (K.2.1 100)) E hw hC 0 (by decide) q190 rfl dX1_be_1 ?_
  refine lv_aload_n hx hb dX1_be_4 rfl (lv_at hl 0 rfl) ?_
  refine r_getT2 (v := .ref (K.2.1 200)) E hw hC 0 (by decide) q190 rfl dX1_be_5 ?_
  refine d_S (As := [.ref (K.2.1 100), .ref (K.2.1 200)]) (v0 := none) hG E hw hl (m_X1_copy l hG hC (qi_100 hC) (qi_200 hC) (Nat.le_of_ble_eq_true rfl)) (va_cwS 2 hts (lw_S q229 q230 q138 q231) rfl rfl rfl kd_X1_copy ⟨Nat.le_of_ble_eq_true rfl, Nat.le_of_ble_eq_true rfl⟩) rfl (rest := []) (st1 := []) rfl rfl rfl dX1_be_8 ⟨Nat.le_of_ble_eq_true rfl, Nat.le_of_ble_eq_true rfl⟩ (fun H locs hw => ?_)
  refine lv_aload_n hx hb dX1_be_11 rfl (lv_at hl 1 rfl) ?_
  refine r_getT1 (v := .ref (K.2.1 101)) E hw hC 1 (by decide) q192 rfl dX1_be_12 ?_
  refine lv_aload_n hx hb dX1_be_15 rfl (lv_at hl 0 rfl) ?_
  refine r_getT2 (v := .ref (K.2.1 201)) E hw hC 1 (by decide) q192 rfl dX1_be_16 ?_
  refine d_S (As := [.ref (K.2.1 101), .ref (K.2.1 201)]) (v0 := none) hG E hw hl (m_X1_copy l hG hC (qi_101 hC) (qi_201 hC) (Nat.le_of_ble_eq_true rfl)) (va_cwS 2 hts (lw_S q229 q230 q138 q231) rfl rfl rfl kd_X1_copy ⟨Nat.le_of_ble_eq_true rfl, Nat.le_of_ble_eq_true rfl⟩) rfl (rest := []) (st1 := []) rfl rfl rfl dX1_be_19 ⟨Nat.le_of_ble_eq_true rfl, Nat.le_of_ble_eq_true rfl⟩ (fun H locs hw => ?_)
  refine lv_aload_n hx hb dX1_be_22 rfl (lv_at hl 1 rfl) ?_
  refine r_getT1 (v := .ref (K.2.1 102)) E hw hC 2 (by decide) q194 rfl dX1_be_23 ?_
  refine lv_aload_n hx hb dX1_be_26 rfl (lv_at hl 0 rfl) ?_
  refine r_getT2 (v := .ref (K.2.1 202)) E hw hC 2 (by decide) q194 rfl dX1_be_27 ?_
  refine d_S (As := [.ref (K.2.1 102), .ref (K.2.1 202)]) (v0 := none) hG E hw hl (m_X1_copy_2 l hG hC (qg_102 hC) (qg_202 hC) (fun k hk => qi_f110 hC hk) (fun k hk => qi_f210 hC hk) (Nat.le_of_ble_eq_true rfl) (Nat.le_of_ble_eq_true rfl)) (va_cwS 2 hts (lw_S q235 q236 q138 q237) rfl rfl rfl kd_X1_copy_2 ⟨Nat.le_of_ble_eq_true rfl, Nat.le_of_ble_eq_true rfl⟩) rfl (rest := []) (st1 := []) rfl rfl rfl dX1_be_30 ⟨Nat.le_of_ble_eq_true rfl, Nat.le_of_ble_eq_true rfl⟩ (fun H locs hw => ?_)
  refine lv_aload_n hx hb dX1_be_33 rfl (lv_at hl 1 rfl) ?_
  refine r_getT1 (v := .ref (K.2.1 103)) E hw hC 3 (by decide) q196 rfl dX1_be_34 ?_
  refine lv_aload_n hx hb dX1_be_37 rfl (lv_at hl 0 rfl) ?_
  refine r_getT2 (v := .ref (K.2.1 203)) E hw hC 3 (by decide) q196 rfl dX1_be_38 ?_
  refine d_S (As := [.ref (K.2.1 103), .ref (K.2.1 203)]) (v0 := none) hG E hw hl (m_X1_copy_2 l hG hC (qg_103 hC) (qg_203 hC) (fun k hk => qi_f120 hC hk) (fun k hk => qi_f220 hC hk) (Nat.le_of_ble_eq_true rfl) (Nat.le_of_ble_eq_true rfl)) (va_cwS 2 hts (lw_S q235 q236 q138 q237) rfl rfl rfl kd_X1_copy_2 ⟨Nat.le_of_ble_eq_true rfl, Nat.le_of_ble_eq_true rfl⟩) rfl (rest := []) (st1 := []) rfl rfl rfl dX1_be_41 ⟨Nat.le_of_ble_eq_true rfl, Nat.le_of_ble_eq_true rfl⟩ (fun H locs hw => ?_)
  refine lv_aload_n hx hb dX1_be_44 rfl (lv_at hl 1 rfl) ?_
  refine r_getT1 (v := .ref (K.2.1 104)) E hw hC 4 (by decide) q198 rfl dX1_be_45 ?_
  refine lv_aload_n hx hb dX1_be_48 rfl (lv_at hl 0 rfl) ?_
  refine r_getT2 (v := .ref (K.2.1 204)) E hw hC 4 (by decide) q198 rfl dX1_be_49 ?_
  refine d_S (As := [.ref (K.2.1 104), .ref (K.2.1 204)]) (v0 := none) hG E hw hl (m_X1_copy_2 l hG hC (qg_104 hC) (qg_204 hC) (fun k hk => qi_f130 hC hk) (fun k hk => qi_f230 hC hk) (Nat.le_of_ble_eq_true rfl) (Nat.le_of_ble_eq_true rfl)) (va_cwS 2 hts (lw_S q235 q236 q138 q237) rfl rfl rfl kd_X1_copy_2 ⟨Nat.le_of_ble_eq_true rfl, Nat.le_of_ble_eq_true rfl⟩) rfl (rest := []) (st1 := []) rfl rfl rfl dX1_be_52 ⟨Nat.le_of_ble_eq_true rfl, Nat.le_of_ble_eq_true rfl⟩ (fun H locs hw => ?_)
  refine lv_aload_n hx hb dX1_be_55 rfl (lv_at hl 1 rfl) ?_
  refine r_getT1 (v := .ref (K.2.1 105)) E hw hC 5 (by decide) q200 rfl dX1_be_56 ?_
  refine lv_aload_n hx hb dX1_be_59 rfl (lv_at hl 0 rfl) ?_
  refine r_getT2 (v := .ref (K.2.1 205)) E hw hC 5 (by decide) q200 rfl dX1_be_60 ?_
  refine d_S (As := [.ref (K.2.1 105), .ref (K.2.1 205)]) (v0 := none) hG E hw hl (m_X1_copy_2 l hG hC (qg_105 hC) (qg_205 hC) (fun k hk => qi_f140 hC hk) (fun k hk => qi_f240 hC hk) (Nat.le_of_ble_eq_true rfl) (Nat.le_of_ble_eq_true rfl)) (va_cwS 2 hts (lw_S q235 q236 q138 q237) rfl rfl rfl kd_X1_copy_2 ⟨Nat.le_of_ble_eq_true rfl, Nat.le_of_ble_eq_true rfl⟩) rfl (rest := []) (st1 := []) rfl rfl rfl dX1_be_63 ⟨Nat.le_of_ble_eq_true rfl, Nat.le_of_ble_eq_true rfl⟩ (fun H locs hw => ?_)
  refine lv_aload_n hx hb dX1_be_66 rfl (lv_at hl 1 rfl) ?_
  refine r_getT1 (v := .ref (K.2.1 106)) E hw hC 6 (by decide) q202 rfl dX1_be_67 ?_
  refine lv_aload_n hx hb dX1_be_70 rfl (lv_at hl 0 rfl) ?_
  refine r_getT2 (v := .ref (K.2.1 206)) E hw hC 6 (by decide) q202 rfl dX1_be_71 ?_
  refine d_S (As := [.ref (K.2.1 106), .ref (K.2.1 206)]) (v0 := none) hG E hw hl (m_X1_copy_2 l hG hC (qg_106 hC) (qg_206 hC) (fun k hk => qi_f150 hC hk) (fun k hk => qi_f250 hC hk) (Nat.le_of_ble_eq_true rfl) (Nat.le_of_ble_eq_true rfl)) (va_cwS 2 hts (lw_S q235 q236 q138 q237) rfl rfl rfl kd_X1_copy_2 ⟨Nat.le_of_ble_eq_true rfl, Nat.le_of_ble_eq_true rfl⟩) rfl (rest := []) (st1 := []) rfl rfl rfl dX1_be_74 ⟨Nat.le_of_ble_eq_true rfl, Nat.le_of_ble_eq_true rfl⟩ (fun H locs hw => ?_)
  refine lv_aload_n hx hb dX1_be_77 rfl (lv_at hl 1 rfl) ?_
  refine r_getT1 (v := .ref (K.2.1 107)) E hw hC 7 (by decide) q204 rfl dX1_be_78 ?_
  refine lv_iconst (v := (0:Int32)) hx hb dX1_be_81 (by decide) ?_
  refine lv_aload_n hx hb dX1_be_82 rfl (lv_at hl 0 rfl) ?_
  refine r_getT2 (v := .ref (K.2.1 207)) E hw hC 7 (by decide) q204 rfl dX1_be_83 ?_
  refine lv_iconst (v := (0:Int32)) hx hb dX1_be_86 (by decide) ?_
  refine lv_iconst (v := (4:Int32)) hx hb dX1_be_87 (by decide) ?_
  refine r_copyX E hl hw (qx_107 hC) (qx_207 hC) hX q232 q234 q233 q139 (Nat.le_of_ble_eq_true rfl) (Nat.le_of_ble_eq_true rfl) dX1_be_88 (fun H locs hw => ?_)
  exact d_ret E hr hw rfl dX1_be_91
/-- State.be, 1 out of 2 -/
def qbe1 (A : QA) : QA :=
  let A1 := qset A 100 (va_cpy (A 200) (A 100) 0 0 7)
  let A2 := qset A1 101 (va_cpy (A1 201) (A1 101) 0 0 154)
  qcps (qcps (qcps (qcps (qcps A2 210 110 4 8) 220 120 3 8) 230 130 2 8) 240 140 2 8) 250 150 154 30
set_option maxHeartbeats 4000000 in
theorem m_X1_be1 (l : Launch) {K : QK} {G : State → Prop} (hG : QG G) (hC : QCl K) {A B : QA} {L : QL} {X : QX} {M : QM} (hX : ∀ i, i < 4 → ∀ y, X 207 i = some y → ∃ fs, M y = some (.inr (4, fs))) : MC l K G yX1_be (ws_ yX1_be cX1_be 2 none) 3 200 0 0 [.ref (K.2.1 1), .ref (K.2.1 2)] (A, B, L, X, M) (QR none (qbe1 A, B, L, qset X 107 (va_cpy (X 207) (X 107) 0 0 4), M)) := by
  refine MC.of (by decide) (Nat.le_of_ble_eq_true rfl) (lv := [(0, .ref (K.2.1 1)), (1, .ref (K.2.1 2))]) rfl (fun p e s m below meth c ls E hr hl hw => ?_)
  have hx := E.1
  have hb := E.2.1
  have hown := E.2.2.1
  have hts := E.2.2.2.2.1
  refine lv_aload_n hx hb dX1_be_0 rfl (lv_at hl 1 rfl) ?_
  refine r_getT2 (v := .ref (K.2.1 200)) E hw hC 0 (by decide) q190 rfl dX1_be_1 ?_
  refine lv_aload_n hx hb dX1_be_4 rfl (lv_at hl 0 rfl) ?_
  refine r_getT1 (v := .ref (K.2.1 100)) E hw hC 0 (by decide) q190 rfl dX1_be_5 ?_
  refine d_S (As := [.ref (K.2.1 200), .ref (K.2.1 100)]) (v0 := none) hG E hw hl (m_X1_copy l hG hC (qi_200 hC) (qi_100 hC) (Nat.le_of_ble_eq_true rfl)) (va_cwS 2 hts (lw_S q229 q230 q138 q231) rfl rfl rfl kd_X1_copy ⟨Nat.le_of_ble_eq_true rfl, Nat.le_of_ble_eq_true rfl⟩) rfl (rest := []) (st1 := []) rfl rfl rfl dX1_be_8 ⟨Nat.le_of_ble_eq_true rfl, Nat.le_of_ble_eq_true rfl⟩ (fun H locs hw => ?_)
  refine lv_aload_n hx hb dX1_be_11 rfl (lv_at hl 1 rfl) ?_
  refine r_getT2 (v := .ref (K.2.1 201)) E hw hC 1 (by decide) q192 rfl dX1_be_12 ?_
  refine lv_aload_n hx hb dX1_be_15 rfl (lv_at hl 0 rfl) ?_
  refine r_getT1 (v := .ref (K.2.1 101)) E hw hC 1 (by decide) q192 rfl dX1_be_16 ?_
  refine d_S (As := [.ref (K.2.1 201), .ref (K.2.1 101)]) (v0 := none) hG E hw hl (m_X1_copy l hG hC (qi_201 hC) (qi_101 hC) (Nat.le_of_ble_eq_true rfl)) (va_cwS 2 hts (lw_S q229 q230 q138 q231) rfl rfl rfl kd_X1_copy ⟨Nat.le_of_ble_eq_true rfl, Nat.le_of_ble_eq_true rfl⟩) rfl (rest := []) (st1 := []) rfl rfl rfl dX1_be_19 ⟨Nat.le_of_ble_eq_true rfl, Nat.le_of_ble_eq_true rfl⟩ (fun H locs hw => ?_)
  refine lv_aload_n hx hb dX1_be_22 rfl (lv_at hl 1 rfl) ?_
  refine r_getT2 (v := .ref (K.2.1 202)) E hw hC 2 (by decide) q194 rfl dX1_be_23 ?_
  refine lv_aload_n hx hb dX1_be_26 rfl (lv_at hl 0 rfl) ?_
  refine r_getT1 (v := .ref (K.2.1 102)) E hw hC 2 (by decide) q194 rfl dX1_be_27 ?_
  refine d_S (As := [.ref (K.2.1 202), .ref (K.2.1 102)]) (v0 := none) hG E hw hl (m_X1_copy_2 l hG hC (qg_202 hC) (qg_102 hC) (fun k hk => qi_f210 hC hk) (fun k hk => qi_f110 hC hk) (Nat.le_of_ble_eq_true rfl) (Nat.le_of_ble_eq_true rfl)) (va_cwS 2 hts (lw_S q235 q236 q138 q237) rfl rfl rfl kd_X1_copy_2 ⟨Nat.le_of_ble_eq_true rfl, Nat.le_of_ble_eq_true rfl⟩) rfl (rest := []) (st1 := []) rfl rfl rfl dX1_be_30 ⟨Nat.le_of_ble_eq_true rfl, Nat.le_of_ble_eq_true rfl⟩ (fun H locs hw => ?_)
  refine lv_aload_n hx hb dX1_be_33 rfl (lv_at hl 1 rfl) ?_
  refine r_getT2 (v := .ref (K.2.1 203)) E hw hC 3 (by decide) q196 rfl dX1_be_34 ?_
  refine lv_aload_n hx hb dX1_be_37 rfl (lv_at hl 0 rfl) ?_
  refine r_getT1 (v := .ref (K.2.1 103)) E hw hC 3 (by decide) q196 rfl dX1_be_38 ?_
  refine d_S (As := [.ref (K.2.1 203), .ref (K.2.1 103)]) (v0 := none) hG E hw hl (m_X1_copy_2 l hG hC (qg_203 hC) (qg_103 hC) (fun k hk => qi_f220 hC hk) (fun k hk => qi_f120 hC hk) (Nat.le_of_ble_eq_true rfl) (Nat.le_of_ble_eq_true rfl)) (va_cwS 2 hts (lw_S q235 q236 q138 q237) rfl rfl rfl kd_X1_copy_2 ⟨Nat.le_of_ble_eq_true rfl, Nat.le_of_ble_eq_true rfl⟩) rfl (rest := []) (st1 := []) rfl rfl rfl dX1_be_41 ⟨Nat.le_of_ble_eq_true rfl, Nat.le_of_ble_eq_true rfl⟩ (fun H locs hw => ?_)
  refine lv_aload_n hx hb dX1_be_44 rfl (lv_at hl 1 rfl) ?_
  refine r_getT2 (v := .ref (K.2.1 204)) E hw hC 4 (by decide) q198 rfl dX1_be_45 ?_
  refine lv_aload_n hx hb dX1_be_48 rfl (lv_at hl 0 rfl) ?_
  refine r_getT1 (v := .ref (K.2.1 104)) E hw hC 4 (by decide) q198 rfl dX1_be_49 ?_
  refine d_S (As := [.ref (K.2.1 204), .ref (K.2.1 104)]) (v0 := none) hG E hw hl (m_X1_copy_2 l hG hC (qg_204 hC) (qg_104 hC) (fun k hk => qi_f230 hC hk) (fun k hk => qi_f130 hC hk) (Nat.le_of_ble_eq_true rfl) (Nat.le_of_ble_eq_true rfl)) (va_cwS 2 hts (lw_S q235 q236 q138 q237) rfl rfl rfl kd_X1_copy_2 ⟨Nat.le_of_ble_eq_true rfl, Nat.le_of_ble_eq_true rfl⟩) rfl (rest := []) (st1 := []) rfl rfl rfl dX1_be_52 ⟨Nat.le_of_ble_eq_true rfl, Nat.le_of_ble_eq_true rfl⟩ (fun H locs hw => ?_)
  refine lv_aload_n hx hb dX1_be_55 rfl (lv_at hl 1 rfl) ?_
  refine r_getT2 (v := .ref (K.2.1 205)) E hw hC 5 (by decide) q200 rfl dX1_be_56 ?_
  refine lv_aload_n hx hb dX1_be_59 rfl (lv_at hl 0 rfl) ?_
  refine r_getT1 (v := .ref (K.2.1 105)) E hw hC 5 (by decide) q200 rfl dX1_be_60 ?_
  refine d_S (As := [.ref (K.2.1 205), .ref (K.2.1 105)]) (v0 := none) hG E hw hl (m_X1_copy_2 l hG hC (qg_205 hC) (qg_105 hC) (fun k hk => qi_f240 hC hk) (fun k hk => qi_f140 hC hk) (Nat.le_of_ble_eq_true rfl) (Nat.le_of_ble_eq_true rfl)) (va_cwS 2 hts (lw_S q235 q236 q138 q237) rfl rfl rfl kd_X1_copy_2 ⟨Nat.le_of_ble_eq_true rfl, Nat.le_of_ble_eq_true rfl⟩) rfl (rest := []) (st1 := []) rfl rfl rfl dX1_be_63 ⟨Nat.le_of_ble_eq_true rfl, Nat.le_of_ble_eq_true rfl⟩ (fun H locs hw => ?_)
  refine lv_aload_n hx hb dX1_be_66 rfl (lv_at hl 1 rfl) ?_
  refine r_getT2 (v := .ref (K.2.1 206)) E hw hC 6 (by decide) q202 rfl dX1_be_67 ?_
  refine lv_aload_n hx hb dX1_be_70 rfl (lv_at hl 0 rfl) ?_
  refine r_getT1 (v := .ref (K.2.1 106)) E hw hC 6 (by decide) q202 rfl dX1_be_71 ?_
  refine d_S (As := [.ref (K.2.1 206), .ref (K.2.1 106)]) (v0 := none) hG E hw hl (m_X1_copy_2 l hG hC (qg_206 hC) (qg_106 hC) (fun k hk => qi_f250 hC hk) (fun k hk => qi_f150 hC hk) (Nat.le_of_ble_eq_true rfl) (Nat.le_of_ble_eq_true rfl)) (va_cwS 2 hts (lw_S q235 q236 q138 q237) rfl rfl rfl kd_X1_copy_2 ⟨Nat.le_of_ble_eq_true rfl, Nat.le_of_ble_eq_true rfl⟩) rfl (rest := []) (st1 := []) rfl rfl rfl dX1_be_74 ⟨Nat.le_of_ble_eq_true rfl, Nat.le_of_ble_eq_true rfl⟩ (fun H locs hw => ?_)
  refine lv_aload_n hx hb dX1_be_77 rfl (lv_at hl 1 rfl) ?_
  refine r_getT2 (v := .ref (K.2.1 207)) E hw hC 7 (by decide) q204 rfl dX1_be_78 ?_
  refine lv_iconst (v := (0:Int32)) hx hb dX1_be_81 (by decide) ?_
  refine lv_aload_n hx hb dX1_be_82 rfl (lv_at hl 0 rfl) ?_
  refine r_getT1 (v := .ref (K.2.1 107)) E hw hC 7 (by decide) q204 rfl dX1_be_83 ?_
  refine lv_iconst (v := (0:Int32)) hx hb dX1_be_86 (by decide) ?_
  refine lv_iconst (v := (4:Int32)) hx hb dX1_be_87 (by decide) ?_
  refine r_copyX E hl hw (qx_207 hC) (qx_107 hC) hX q232 q234 q233 q139 (Nat.le_of_ble_eq_true rfl) (Nat.le_of_ble_eq_true rfl) dX1_be_88 (fun H locs hw => ?_)
  exact d_ret E hr hw rfl dX1_be_91
/-- State.tells: the array f of ln ints is laid into the next row of the grid at b, by the count at place x2 of now.n -/
def f_X1_tells (b ln : Nat) (x2 : Int32) (f : Nat → Int32) (A : QA) : Option (Int32 × QA) :=
  qif (qok x2 7) <|
  qif (qok (A 100 x2.toNatClampNeg) 8) <|
  qlet (qset A (b + (A 100 x2.toNatClampNeg).toNatClampNeg) (va_cpy f (A (b + (A 100 x2.toNatClampNeg).toNatClampNeg)) 0 0 ln)) fun A1 =>
  qif (qok (A1 100 x2.toNatClampNeg) 8) <|
  qlet (qu A1 100 x2.toNatClampNeg (A1 100 x2.toNatClampNeg + 1)) fun A2 =>
  some (A2 100 x2.toNatClampNeg, A2)
theorem kd_X1_tells : yX1_tells.cls ≠ "java/lang/invoke/MethodHandle" ∧ yX1_tells.cls ≠ "java/lang/invoke/VarHandle" ∧ (parseMethodDescriptor yX1_tells.desc).map (fun d => d.parameters.length) = some 3 := by decide +kernel
set_option maxHeartbeats 4000000 in
theorem m_X1_tells (l : Launch) {K : QK} {G : State → Prop} (hG : QG G) (hC : QCl K) {rs : QA × QL × QX × QM} {A Ao : QA} {g0 b0 ln a : Nat} {x2 ro : Int32} {f : Nat → Int32} (h0 : qig K g0 8 b0) (f0 : ∀ k, k < 8 → qia K (b0 + k) ln) (hln : ln ≤ 100000) (ha : rs.2.2.2 a = some (.inl (K.2.2.2.2 0, ln, .inl f))) (h : f_X1_tells b0 ln x2 f A = some (ro, Ao)) : MC l K G yX1_tells (ws_ yX1_tells cX1_tells 4 (some .int)) 2 100 0 0 [.ref (K.2.1 1), .ref (K.2.1 g0), .int x2, .ref a] (A, rs) (QR (some (.int ro)) (Ao, rs)) := by
  refine MC.of (by decide) (Nat.le_of_ble_eq_true rfl) (lv := [(0, .ref (K.2.1 1)), (1, .ref (K.2.1 g0)), (2, .int x2), (3, .ref a)]) rfl (fun p e s m below meth c ls E hr hl hw => ?_)
  have hx := E.1
  have hb := E.2.1
  have hown := E.2.2.1
  have hts := E.2.2.2.2.1
  rw [f_X1_tells] at h
  obtain ⟨z1, h⟩ := qif_s h
  obtain ⟨z2, h⟩ := qif_s h
  obtain ⟨A1, e1, h⟩ := qlet_s h
  obtain ⟨z3, h⟩ := qif_s h
  obtain ⟨A2, e2, h⟩ := qlet_s h
  refine lv_aload_n hx hb dX1_tells_0 rfl (lv_at hl 3 rfl) ?_
  refine lv_aload_n hx hb dX1_tells_1 rfl (lv_at hl 1 rfl) ?_
  refine lv_aload_n hx hb dX1_tells_2 rfl (lv_at hl 0 rfl) ?_
  refine r_getT1 (v := .ref (K.2.1 100)) E hw hC 0 (by decide) q190 rfl dX1_tells_3 ?_
  refine lv_iload_n hx hb dX1_tells_6 rfl (lv_at hl 2 rfl) ?_
  refine r_iald (j := x2.toNatClampNeg) E hw (qi_100 hC).at (qok_in z1) rfl dX1_tells_7 ?_
  refine r_gald (j := (A 100 x2.toNatClampNeg).toNatClampNeg) E hw h0.at (qok_in z2) rfl dX1_tells_8 ?_
  refine d_S (As := [.ref a, .ref (K.2.1 (b0 + (A 100 x2.toNatClampNeg).toNatClampNeg))]) (v0 := none) hG E hw hl (m_X1_copyD l hG hC ha (f0 _ (qok_lt z2)) hln) (va_cwS 2 hts (lw_S q229 q230 q138 q231) rfl rfl rfl kd_X1_copy ⟨Nat.le_of_ble_eq_true rfl, Nat.le_of_ble_eq_true rfl⟩) rfl (rest := []) (st1 := []) rfl rfl rfl dX1_tells_9 ⟨Nat.le_of_ble_eq_true rfl, Nat.le_of_ble_eq_true rfl⟩ (fun H locs hw => ?_)
  rw [← e1] at hw
  refine lv_aload_n hx hb dX1_tells_12 rfl (lv_at hl 0 rfl) ?_
  refine r_getT1 (v := .ref (K.2.1 100)) E hw hC 0 (by decide) q190 rfl dX1_tells_13 ?_
  refine lv_iload_n hx hb dX1_tells_16 rfl (lv_at hl 2 rfl) ?_
  refine lv_dup2_11 hx hb dX1_tells_17 rfl rfl ?_
  refine r_iald (j := x2.toNatClampNeg) E hw (qi_100 hC).at (qok_in z1) rfl dX1_tells_18 ?_
  refine lv_iconst (v := (1:Int32)) hx hb dX1_tells_19 (by decide) ?_
  refine lv_iadd hx hb dX1_tells_20 ?_
  refine r_iastA (j := x2.toNatClampNeg) E hw (qi_100 hC) (qok_in z1) rfl dX1_tells_21 (fun H locs hw => ?_)
  rw [← e2] at hw
  refine lv_aload_n hx hb dX1_tells_22 rfl (lv_at hl 0 rfl) ?_
  refine r_getT1 (v := .ref (K.2.1 100)) E hw hC 0 (by decide) q190 rfl dX1_tells_23 ?_
  refine lv_iload_n hx hb dX1_tells_26 rfl (lv_at hl 2 rfl) ?_
  refine r_iald (j := x2.toNatClampNeg) E hw (qi_100 hC).at (qok_in z1) rfl dX1_tells_27 ?_
  have h := Option.some.inj h
  obtain ⟨h1, h2⟩ := Prod.mk.inj h
  exact d_iret E hr rfl hw h1 (by rw [h2]) dX1_tells_28
theorem va_up_s {α : Type} {f : Nat → α} {k : Nat} {v : α} : va_up f k v k = v := if_pos rfl
