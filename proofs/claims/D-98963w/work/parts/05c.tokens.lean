/-! the tokens of a text: rows, strings, letters, words, the next token -/
set_option maxRecDepth 100000
/-- where the tokens are: at, token, sort, number, open, kind -/
abbrev QTS : Type := Nat × Nat × Int32 × Int32 × Nat × Int32
def tf (n : Nat) (t : QTS) : Nat → Int32 := fun i => if i = 1 then nI n else if i = 2 then nI t.1 else if i = 3 then nI t.2.1 else if i = 4 then t.2.2.1 else if i = 5 then t.2.2.2.1 else if i = 6 then nI t.2.2.2.2.1 else t.2.2.2.2.2
def tw (A : QA) (n : Nat) (t : QTS) : QA := qset A 13 (tf n t)
theorem qset_qset {α : Type} {A : Nat → Nat → α} {l : Nat} {f g : Nat → α} : qset (qset A l f) l g = qset A l g := by
  funext j
  unfold qset
  by_cases h : j = l
  · rw [if_pos h, if_pos h]
  · rw [if_neg h, if_neg h, if_neg h]
theorem tw_n {A : QA} {n : Nat} {t : QTS} {j : Nat} (h : j ≠ 13) : tw A n t j = A j := if_neg h
theorem tw_tw {A : QA} {n : Nat} {t u : QTS} : qset (tw A n t) 13 (tf n u) = tw A n u := qset_qset
section TKR
variable {p : Program} {l : Launch} {e : Env} {R : Room} {s : State} {m : MethodId} {args : Array Value} {below : List Frame} {meth : Method} {c : Code} {H : Heap} {locs : List Loc} {cells slots : Nat} {Q : State → Prop}
variable {cc : ByteArray} {pc : Nat} {ls : Array Slot} {rest : List Value} {a : Nat} {own : String} {nL : Nat}
variable {K : QK} {G : State → Prop} {w : QW}
variable {A B : QA} {L : QL} {X : QX} {M : QM} {n : Nat} {t : QTS}
theorem qT13 {r : QA × QL × QX × QM} (h13 : ql K 13) : QAt K (tw A n t, r) (K.2.1 13) (.inr (3, tfl K (tf n t))) := QAt.lab h13 (by
  show Sum.inr (3, tfl K (qset A 13 (tf n t) 13)) = _
  rw [qset_s])
theorem r_gText {r : QA × QL × QX × QM} (E : EV K G p s m args meth c cc own nL) (hw : WP K (tw A n t, r) H locs) (hC : QCl K) (h13 : ql K 13) {index : Nat} (hlink : Cond.fieldLink own index "VaneCourt$Tokens" "text" "[B" ∈ lw_all) (hdg : decode cc pc = .ok (.getfield index, 3))
    (kk : W p l e R s m args below meth c H locs cells slots Q (F0 m (pc + 3) ls (.ref (K.2.1 3) :: rest))) : W p l e R s m args below meth c H locs cells slots Q (F0 m pc ls (.ref (K.2.1 13) :: rest)) :=
  r_get E hw (qT13 h13) (T := TX3) (N := 8) rfl in_X3 0 (by decide) hlink rfl hdg kk
theorem r_gSize {r : QA × QL × QX × QM} (E : EV K G p s m args meth c cc own nL) (hw : WP K (tw A n t, r) H locs) (hC : QCl K) (h13 : ql K 13) {index : Nat} (hlink : Cond.fieldLink own index "VaneCourt$Tokens" "size" "I" ∈ lw_all) (hdg : decode cc pc = .ok (.getfield index, 3))
    (kk : W p l e R s m args below meth c H locs cells slots Q (F0 m (pc + 3) ls (.int (nI n) :: rest))) : W p l e R s m args below meth c H locs cells slots Q (F0 m pc ls (.ref (K.2.1 13) :: rest)) :=
  r_get E hw (qT13 h13) (T := TX3) (N := 8) rfl in_X3 1 (by decide) hlink rfl hdg kk
theorem r_gAt {r : QA × QL × QX × QM} (E : EV K G p s m args meth c cc own nL) (hw : WP K (tw A n t, r) H locs) (hC : QCl K) (h13 : ql K 13) {index : Nat} (hlink : Cond.fieldLink own index "VaneCourt$Tokens" "at" "I" ∈ lw_all) (hdg : decode cc pc = .ok (.getfield index, 3))
    (kk : W p l e R s m args below meth c H locs cells slots Q (F0 m (pc + 3) ls (.int (nI t.1) :: rest))) : W p l e R s m args below meth c H locs cells slots Q (F0 m pc ls (.ref (K.2.1 13) :: rest)) :=
  r_get E hw (qT13 h13) (T := TX3) (N := 8) rfl in_X3 2 (by decide) hlink rfl hdg kk
theorem r_gTok {r : QA × QL × QX × QM} (E : EV K G p s m args meth c cc own nL) (hw : WP K (tw A n t, r) H locs) (hC : QCl K) (h13 : ql K 13) {index : Nat} (hlink : Cond.fieldLink own index "VaneCourt$Tokens" "token" "I" ∈ lw_all) (hdg : decode cc pc = .ok (.getfield index, 3))
    (kk : W p l e R s m args below meth c H locs cells slots Q (F0 m (pc + 3) ls (.int (nI t.2.1) :: rest))) : W p l e R s m args below meth c H locs cells slots Q (F0 m pc ls (.ref (K.2.1 13) :: rest)) :=
  r_get E hw (qT13 h13) (T := TX3) (N := 8) rfl in_X3 3 (by decide) hlink rfl hdg kk
theorem r_gSort {r : QA × QL × QX × QM} (E : EV K G p s m args meth c cc own nL) (hw : WP K (tw A n t, r) H locs) (hC : QCl K) (h13 : ql K 13) {index : Nat} (hlink : Cond.fieldLink own index "VaneCourt$Tokens" "sort" "I" ∈ lw_all) (hdg : decode cc pc = .ok (.getfield index, 3))
    (kk : W p l e R s m args below meth c H locs cells slots Q (F0 m (pc + 3) ls (.int t.2.2.1 :: rest))) : W p l e R s m args below meth c H locs cells slots Q (F0 m pc ls (.ref (K.2.1 13) :: rest)) :=
  r_get E hw (qT13 h13) (T := TX3) (N := 8) rfl in_X3 4 (by decide) hlink rfl hdg kk
theorem r_gNum {r : QA × QL × QX × QM} (E : EV K G p s m args meth c cc own nL) (hw : WP K (tw A n t, r) H locs) (hC : QCl K) (h13 : ql K 13) {index : Nat} (hlink : Cond.fieldLink own index "VaneCourt$Tokens" "number" "I" ∈ lw_all) (hdg : decode cc pc = .ok (.getfield index, 3))
    (kk : W p l e R s m args below meth c H locs cells slots Q (F0 m (pc + 3) ls (.int t.2.2.2.1 :: rest))) : W p l e R s m args below meth c H locs cells slots Q (F0 m pc ls (.ref (K.2.1 13) :: rest)) :=
  r_get E hw (qT13 h13) (T := TX3) (N := 8) rfl in_X3 5 (by decide) hlink rfl hdg kk
theorem r_gOpen {r : QA × QL × QX × QM} (E : EV K G p s m args meth c cc own nL) (hw : WP K (tw A n t, r) H locs) (hC : QCl K) (h13 : ql K 13) {index : Nat} (hlink : Cond.fieldLink own index "VaneCourt$Tokens" "open" "I" ∈ lw_all) (hdg : decode cc pc = .ok (.getfield index, 3))
    (kk : W p l e R s m args below meth c H locs cells slots Q (F0 m (pc + 3) ls (.int (nI t.2.2.2.2.1) :: rest))) : W p l e R s m args below meth c H locs cells slots Q (F0 m pc ls (.ref (K.2.1 13) :: rest)) :=
  r_get E hw (qT13 h13) (T := TX3) (N := 8) rfl in_X3 6 (by decide) hlink rfl hdg kk
theorem r_gKind {r : QA × QL × QX × QM} (E : EV K G p s m args meth c cc own nL) (hw : WP K (tw A n t, r) H locs) (hC : QCl K) (h13 : ql K 13) {index : Nat} (hlink : Cond.fieldLink own index "VaneCourt$Tokens" "kind" "I" ∈ lw_all) (hdg : decode cc pc = .ok (.getfield index, 3))
    (kk : W p l e R s m args below meth c H locs cells slots Q (F0 m (pc + 3) ls (.int t.2.2.2.2.2 :: rest))) : W p l e R s m args below meth c H locs cells slots Q (F0 m pc ls (.ref (K.2.1 13) :: rest)) :=
  r_get E hw (qT13 h13) (T := TX3) (N := 8) rfl in_X3 7 (by decide) hlink rfl hdg kk
theorem r_pAt {r : QA × QL × QX × QM} {v : Int32} {a : Nat} (E : EV K G p s m args meth c cc own nL) (hw : WP K (tw A n t, r) H locs) (h13 : ql K 13) {index : Nat} (hlink : Cond.fieldLink own index "VaneCourt$Tokens" "at" "I" ∈ lw_all) (hv : v = nI a) (hdg : decode cc pc = .ok (.putfield index, 3))
    (kk : ∀ (H1 : Heap) (locs1 : List Loc), WP K (tw A n (a, t.2), r) H1 locs1 → W p l e R s m args below meth c H1 locs1 cells slots Q (F0 m (pc + 3) ls rest)) : W p l e R s m args below meth c H locs cells slots Q (F0 m pc ls (.int v :: .ref (K.2.1 13) :: rest)) := by
  rw [hv]
  have hq : qat K (tw A n t, r) 13 = .inr (3, tfl K (tf n t)) := by
    show Sum.inr (3, tfl K (qset A 13 (tf n t) 13)) = _
    rw [qset_s]
  refine r_put E hw h13 hq (T := TX3) (N := 8) rfl in_X3 tyX3 tyX3_ok nmX3 2 (by decide) hlink rfl rfl rfl (show 2 < 8 by decide) (tw A n (a, t.2), r) ?_ ?_ hdg kk
  · have h := QUp.A (A := tw A n t) (r := r) (l := 13) (f := tf n (a, t.2))
    rw [tw_tw] at h
    exact h
  · show Sum.inr (3, tfl K (qset A 13 (tf n (a, t.2)) 13)) = _
    rw [qset_s]
    rfl
theorem r_pTok {r : QA × QL × QX × QM} {v : Int32} {a : Nat} (E : EV K G p s m args meth c cc own nL) (hw : WP K (tw A n t, r) H locs) (h13 : ql K 13) {index : Nat} (hlink : Cond.fieldLink own index "VaneCourt$Tokens" "token" "I" ∈ lw_all) (hv : v = nI a) (hdg : decode cc pc = .ok (.putfield index, 3))
    (kk : ∀ (H1 : Heap) (locs1 : List Loc), WP K (tw A n (t.1, a, t.2.2), r) H1 locs1 → W p l e R s m args below meth c H1 locs1 cells slots Q (F0 m (pc + 3) ls rest)) : W p l e R s m args below meth c H locs cells slots Q (F0 m pc ls (.int v :: .ref (K.2.1 13) :: rest)) := by
  rw [hv]
  have hq : qat K (tw A n t, r) 13 = .inr (3, tfl K (tf n t)) := by
    show Sum.inr (3, tfl K (qset A 13 (tf n t) 13)) = _
    rw [qset_s]
  refine r_put E hw h13 hq (T := TX3) (N := 8) rfl in_X3 tyX3 tyX3_ok nmX3 3 (by decide) hlink rfl rfl rfl (show 3 < 8 by decide) (tw A n (t.1, a, t.2.2), r) ?_ ?_ hdg kk
  · have h := QUp.A (A := tw A n t) (r := r) (l := 13) (f := tf n (t.1, a, t.2.2))
    rw [tw_tw] at h
    exact h
  · show Sum.inr (3, tfl K (qset A 13 (tf n (t.1, a, t.2.2)) 13)) = _
    rw [qset_s]
    rfl
theorem r_pSort {r : QA × QL × QX × QM} {v : Int32} {a : Int32} (E : EV K G p s m args meth c cc own nL) (hw : WP K (tw A n t, r) H locs) (h13 : ql K 13) {index : Nat} (hlink : Cond.fieldLink own index "VaneCourt$Tokens" "sort" "I" ∈ lw_all) (hv : v = a) (hdg : decode cc pc = .ok (.putfield index, 3))
    (kk : ∀ (H1 : Heap) (locs1 : List Loc), WP K (tw A n (t.1, t.2.1, a, t.2.2.2), r) H1 locs1 → W p l e R s m args below meth c H1 locs1 cells slots Q (F0 m (pc + 3) ls rest)) : W p l e R s m args below meth c H locs cells slots Q (F0 m pc ls (.int v :: .ref (K.2.1 13) :: rest)) := by
  rw [hv]
  have hq : qat K (tw A n t, r) 13 = .inr (3, tfl K (tf n t)) := by
    show Sum.inr (3, tfl K (qset A 13 (tf n t) 13)) = _
    rw [qset_s]
  refine r_put E hw h13 hq (T := TX3) (N := 8) rfl in_X3 tyX3 tyX3_ok nmX3 4 (by decide) hlink rfl rfl rfl (show 4 < 8 by decide) (tw A n (t.1, t.2.1, a, t.2.2.2), r) ?_ ?_ hdg kk
  · have h := QUp.A (A := tw A n t) (r := r) (l := 13) (f := tf n (t.1, t.2.1, a, t.2.2.2))
    rw [tw_tw] at h
    exact h
  · show Sum.inr (3, tfl K (qset A 13 (tf n (t.1, t.2.1, a, t.2.2.2)) 13)) = _
    rw [qset_s]
    rfl
theorem r_pNum {r : QA × QL × QX × QM} {v : Int32} {a : Int32} (E : EV K G p s m args meth c cc own nL) (hw : WP K (tw A n t, r) H locs) (h13 : ql K 13) {index : Nat} (hlink : Cond.fieldLink own index "VaneCourt$Tokens" "number" "I" ∈ lw_all) (hv : v = a) (hdg : decode cc pc = .ok (.putfield index, 3))
    (kk : ∀ (H1 : Heap) (locs1 : List Loc), WP K (tw A n (t.1, t.2.1, t.2.2.1, a, t.2.2.2.2), r) H1 locs1 → W p l e R s m args below meth c H1 locs1 cells slots Q (F0 m (pc + 3) ls rest)) : W p l e R s m args below meth c H locs cells slots Q (F0 m pc ls (.int v :: .ref (K.2.1 13) :: rest)) := by
  rw [hv]
  have hq : qat K (tw A n t, r) 13 = .inr (3, tfl K (tf n t)) := by
    show Sum.inr (3, tfl K (qset A 13 (tf n t) 13)) = _
    rw [qset_s]
  refine r_put E hw h13 hq (T := TX3) (N := 8) rfl in_X3 tyX3 tyX3_ok nmX3 5 (by decide) hlink rfl rfl rfl (show 5 < 8 by decide) (tw A n (t.1, t.2.1, t.2.2.1, a, t.2.2.2.2), r) ?_ ?_ hdg kk
  · have h := QUp.A (A := tw A n t) (r := r) (l := 13) (f := tf n (t.1, t.2.1, t.2.2.1, a, t.2.2.2.2))
    rw [tw_tw] at h
    exact h
  · show Sum.inr (3, tfl K (qset A 13 (tf n (t.1, t.2.1, t.2.2.1, a, t.2.2.2.2)) 13)) = _
    rw [qset_s]
    rfl
theorem r_pOpen {r : QA × QL × QX × QM} {v : Int32} {a : Nat} (E : EV K G p s m args meth c cc own nL) (hw : WP K (tw A n t, r) H locs) (h13 : ql K 13) {index : Nat} (hlink : Cond.fieldLink own index "VaneCourt$Tokens" "open" "I" ∈ lw_all) (hv : v = nI a) (hdg : decode cc pc = .ok (.putfield index, 3))
    (kk : ∀ (H1 : Heap) (locs1 : List Loc), WP K (tw A n (t.1, t.2.1, t.2.2.1, t.2.2.2.1, a, t.2.2.2.2.2), r) H1 locs1 → W p l e R s m args below meth c H1 locs1 cells slots Q (F0 m (pc + 3) ls rest)) : W p l e R s m args below meth c H locs cells slots Q (F0 m pc ls (.int v :: .ref (K.2.1 13) :: rest)) := by
  rw [hv]
  have hq : qat K (tw A n t, r) 13 = .inr (3, tfl K (tf n t)) := by
    show Sum.inr (3, tfl K (qset A 13 (tf n t) 13)) = _
    rw [qset_s]
  refine r_put E hw h13 hq (T := TX3) (N := 8) rfl in_X3 tyX3 tyX3_ok nmX3 6 (by decide) hlink rfl rfl rfl (show 6 < 8 by decide) (tw A n (t.1, t.2.1, t.2.2.1, t.2.2.2.1, a, t.2.2.2.2.2), r) ?_ ?_ hdg kk
  · have h := QUp.A (A := tw A n t) (r := r) (l := 13) (f := tf n (t.1, t.2.1, t.2.2.1, t.2.2.2.1, a, t.2.2.2.2.2))
    rw [tw_tw] at h
    exact h
  · show Sum.inr (3, tfl K (qset A 13 (tf n (t.1, t.2.1, t.2.2.1, t.2.2.2.1, a, t.2.2.2.2.2)) 13)) = _
    rw [qset_s]
    rfl
theorem r_pKind {r : QA × QL × QX × QM} {v : Int32} {a : Int32} (E : EV K G p s m args meth c cc own nL) (hw : WP K (tw A n t, r) H locs) (h13 : ql K 13) {index : Nat} (hlink : Cond.fieldLink own index "VaneCourt$Tokens" "kind" "I" ∈ lw_all) (hv : v = a) (hdg : decode cc pc = .ok (.putfield index, 3))
    (kk : ∀ (H1 : Heap) (locs1 : List Loc), WP K (tw A n (t.1, t.2.1, t.2.2.1, t.2.2.2.1, t.2.2.2.2.1, a), r) H1 locs1 → W p l e R s m args below meth c H1 locs1 cells slots Q (F0 m (pc + 3) ls rest)) : W p l e R s m args below meth c H locs cells slots Q (F0 m pc ls (.int v :: .ref (K.2.1 13) :: rest)) := by
  rw [hv]
  have hq : qat K (tw A n t, r) 13 = .inr (3, tfl K (tf n t)) := by
    show Sum.inr (3, tfl K (qset A 13 (tf n t) 13)) = _
    rw [qset_s]
  refine r_put E hw h13 hq (T := TX3) (N := 8) rfl in_X3 tyX3 tyX3_ok nmX3 7 (by decide) hlink rfl rfl rfl (show 7 < 8 by decide) (tw A n (t.1, t.2.1, t.2.2.1, t.2.2.2.1, t.2.2.2.2.1, a), r) ?_ ?_ hdg kk
  · have h := QUp.A (A := tw A n t) (r := r) (l := 13) (f := tf n (t.1, t.2.1, t.2.2.1, t.2.2.2.1, t.2.2.2.2.1, a))
    rw [tw_tw] at h
    exact h
  · show Sum.inr (3, tfl K (qset A 13 (tf n (t.1, t.2.1, t.2.2.1, t.2.2.2.1, t.2.2.2.2.1, a)) 13)) = _
    rw [qset_s]
    rfl
theorem r_gB {r : QA × QL × QX × QM} {j : Nat} {i : Int32} (E : EV K G p s m args meth c cc own nL) (hw : WP K (tw A n t, r) H locs) (hC : QCl K) (hi : i = nI j) (hj : j < 300) (hdg : decode cc pc = .ok (.baload, 1))
    (kk : W p l e R s m args below meth c H locs cells slots Q (F0 m (pc + 1) ls (.int (A 3 j) :: rest))) : W p l e R s m args below meth c H locs cells slots Q (F0 m pc ls (.int i :: .ref (K.2.1 3) :: rest)) := by
  subst hi
  have h3 : tw A n t 3 = A 3 := tw_n (by decide)
  rw [← h3] at kk
  exact r_bald E hw (qaT hC) (vp_in_nI hj (by omega)) (nI_clamp (by omega)) hdg kk
/-! cells older than the law -/
theorem r_rcv {C : String} {b : Nat} (hw : WP K w H locs) (hO : va_O C b (qA K) s K.1) : ∃ cellB : Cell, H[b]? = some cellB ∧ cellB.vm.isStatics = false ∧ s.vm.findClass C = some cellB.cls := by
  obtain ⟨cell, h1, h2, h3, h4⟩ := hO
  exact ⟨cell, (hw.S.2.1 b (Array.getElem?_eq_some_iff.mp h1).1 h4).trans h1, h2, h3⟩
theorem d_VO {y : MethodName} {bytes : ByteArray} {maxL fr lo nn index b : Nat} {C : String} {As st1 : List Value} {ret : Option FieldType} {v0 : Option Value} {w0 : QW} {lv : List (Nat × Value)} (hG : QG G) (E : EV K G p s m args meth c cc own nL) (hw : WP K w H locs) (hl : lv_has ls nL lv) (hM : MC l K G y (ws_ y bytes maxL ret) fr lo 0 0 (.ref b :: As) w (QR v0 w0)) (hO : va_O C b (qA K) s K.1) (cw : CallW R s args own C index y bytes maxL ret (ws_ y bytes maxL ret) (qrm fr lo 0 0) 0 0 nn) (hn : As.length = nn) {st0 : List Value} (hst : st0 = As.reverse ++ .ref b :: rest) (hst1 : v0.toList ++ rest = st1) (hW : Nat.ble (rest.map fun v => v.category).sum 8 = true) (hdg : decode cc pc = .ok (.invokevirtual index, 3)) (hf : cells ≤ R.cells ∧ slots ≤ R.slots)
    (kk : ∀ (H1 : Heap) (locs1 : List Loc), WP K w0 H1 locs1 → W p l e R s m args below meth c H1 locs1 cells slots Q (F0 m (pc + 3) ls st1)) : W p l e R s m args below meth c H locs cells slots Q (F0 m pc ls st0) := by
  refine c_go (va_runV (Ts := lw_all) ⟨E.1, E.2.1, E.2.2.2.2.2.2.2, E.2.2.1, E.2.2.2.2.1⟩ hM cw ⟨in_blind hG _ w, r_rcv hw hO, in_pre hG E hw _⟩ rfl hn hl.1 hst (lv_room (Nat.le_of_ble_eq_true hW)) hdg hf) hw (fun v w' H1 locs1 hP hw1 => ?_)
  obtain ⟨rfl, rfl⟩ := hP
  rw [hst1]
  exact kk H1 locs1 hw1
theorem r_olen {ty : FieldType} {t N : Nat} {f : Nat → Value} {v : Int32} (E : EV K G p s m args meth c cc own nL) (hw : WP K w H locs) (hT : va_T ty t N f (qA K) s K.1) (hv : Int32.ofNat N = v) (hdg : decode cc pc = .ok (.arraylength, 1))
    (kk : W p l e R s m args below meth c H locs cells slots Q (F0 m (pc + 1) ls (.int v :: rest))) : W p l e R s m args below meth c H locs cells slots Q (F0 m pc ls (.ref t :: rest)) := by
  obtain ⟨cell, h1, h2, h3, h4, h5, h6, h7⟩ := hT
  exact W.alen E.1 E.2.1 (by rw [hw.S.2.1 t (Array.getElem?_eq_some_iff.mp h1).1 h7]; exact h1) h2 (h5.trans hv) rfl rfl hdg kk
theorem r_oald {C : String} {t N : Nat} {f : Nat → Value} {i : Int32} {v : Value} (E : EV K G p s m args meth c cc own nL) (hw : WP K w H locs) (hT : va_T (.object C) t N f (qA K) s K.1) (hin : vp_in i N) (hv : f i.toNatClampNeg = v) (hdg : decode cc pc = .ok (.aaload, 1))
    (kk : W p l e R s m args below meth c H locs cells slots Q (F0 m (pc + 1) ls (v :: rest))) : W p l e R s m args below meth c H locs cells slots Q (F0 m pc ls (.int i :: .ref t :: rest)) := by
  obtain ⟨cell, h1, h2, h3, h4, h5, h6, h7⟩ := hT
  have hlt : i.toNatClampNeg < N := vp_in_lt hin
  have hin' : ¬ (i < 0 ∨ cell.slots.size ≤ i.toNatClampNeg) := by
    intro q
    rcases q with q | q
    · exact hin (Or.inl q)
    · omega
  exact W.aald (v := v) (ty := .object C) E.1 E.2.1 (by rw [hw.S.2.1 t (Array.getElem?_eq_some_iff.mp h1).1 h7]; exact h1) h2 rfl h3 hin' (by rw [h6 _ hlt, hv]) rfl rfl hdg kk
theorem r_obld {t N : Nat} {f : Nat → Value} {i : Int32} {v : Value} (E : EV K G p s m args meth c cc own nL) (hw : WP K w H locs) (hT : va_T .byte t N f (qA K) s K.1) (hin : vp_in i N) (hv : f i.toNatClampNeg = v) (hdg : decode cc pc = .ok (.baload, 1))
    (kk : W p l e R s m args below meth c H locs cells slots Q (F0 m (pc + 1) ls (v :: rest))) : W p l e R s m args below meth c H locs cells slots Q (F0 m pc ls (.int i :: .ref t :: rest)) := by
  obtain ⟨cell, h1, h2, h3, h4, h5, h6, h7⟩ := hT
  have hlt : i.toNatClampNeg < N := vp_in_lt hin
  have hin' : ¬ (i < 0 ∨ cell.slots.size ≤ i.toNatClampNeg) := by
    intro q
    rcases q with q | q
    · exact hin (Or.inl q)
    · omega
  exact W.bald (v := v) E.1 E.2.1 (by rw [hw.S.2.1 t (Array.getElem?_eq_some_iff.mp h1).1 h7]; exact h1) h2 h3 hin' (by rw [h6 _ hlt, hv]) rfl rfl hdg kk
theorem r_ogetf {o nm d : String} {q index : Nat} {v : Value} (E : EV K G p s m args meth c cc own nL) (hw : WP K w H locs) (hF : va_OF o nm d v q (qA K) s K.1) (hlink : Cond.fieldLink own index o nm d ∈ lw_all) (hdg : decode cc pc = .ok (.getfield index, 3))
    (kk : W p l e R s m args below meth c H locs cells slots Q (F0 m (pc + 3) ls (v :: rest))) : W p l e R s m args below meth c H locs cells slots Q (F0 m pc ls (.ref q :: rest)) := by
  obtain ⟨cf, k, i, f, cell, h1, h2, h3, h4, h5, h6⟩ := hF
  exact W.getf E.1 E.2.1 E.2.2.1 (E.2.2.2.2.1 _ hlink) h1 h2 (by rw [hw.S.2.1 q (Array.getElem?_eq_some_iff.mp h3).1 h6]; exact h3) h4 h5 rfl rfl hdg kk
end TKR
/-! strings: the words of the texts (the last one: the signs) -/
def wB : List (List Int32) := [[99, 111, 100, 101], [118, 101, 101, 114, 115], [98, 108, 111, 119, 115], [102, 111, 103, 115], [115, 101, 110, 116, 101, 110, 99, 101], [99, 97, 115, 101], [99, 97, 108, 108], [100, 101, 108, 97, 121], [97, 112, 112, 101, 97, 108], [103, 117, 115, 116], [119, 105, 116, 104, 100, 114, 97, 119], [104, 111, 117, 114], [103, 114, 97, 118, 105, 116, 121], [110, 101, 101, 100, 115], [102, 111, 114, 99, 101], [117, 110, 108, 101, 115, 115], [111, 114], [97, 110, 100], [110, 111, 116], [102, 97, 99, 116], [109, 111, 115, 116], [113, 117, 97, 114, 116, 101, 114], [100, 114, 97, 119], [107, 105, 110, 100], [104, 111, 117, 114, 115], [108, 97, 119, 115], [60, 62, 61, 35, 43, 45, 42, 47, 40, 41, 44, 58, 59]]
def wL : List Nat := wB.map (fun b => b.length)
def wC (i k : Nat) : Int32 := (wB.getD i []).getD k 0
/-- where they stand: the row of words, each one's cell and bytes -/
abbrev QY : Type := Nat × (Nat → Nat) × (Nat → Nat)
def QSt (K : QK) (G : State → Prop) (y : QY) : Prop :=
  (∀ U, G U → vk_S 27 wL wB y.2.1 y.2.2 (qA K) U K.1) ∧ (∀ U, G U → vk_R RX3 53 "<>=#+-*/(),:;" (y.2.1 26) U) ∧ (∀ U, G U → va_Z RX3 "WORDS" "[Ljava/lang/String;" (.ref y.1) (qA K) U K.1) ∧ (∀ U, G U → va_T (.object "java/lang/String") y.1 26 (fun i => .ref (y.2.1 i)) (qA K) U K.1) ∧ (∀ U, G U → va_Z "java/lang/String" "COMPACT_STRINGS" "Z" (.int 1) (qA K) U K.1) ∧ (∀ U, G U → va_Zq "jdk/internal/util/Preconditions" "SIOOBE_FORMATTER" "Ljava/util/function/BiFunction;" (qA K) U K.1)
theorem wL_get : ∀ i, i < 27 → wL.getD i 0 = (wB.getD i []).length := by decide +kernel
theorem wL_lt : ∀ i, i < 27 → (wB.getD i []).length < 14 := by decide +kernel
theorem wL_shr : ∀ i, i < 27 → nI (wL.getD i 0) >>> ((0 : Int32) &&& 31) = nI (wB.getD i []).length := by decide +kernel
theorem wC_ok : ∀ i, i < 27 → ∀ k, k < (wB.getD i []).length → ((((wB.getD i []).getD k 0) &&& 255).toUInt32 % 65536).toInt32 = wC i k := by decide +kernel
theorem wC_nar : ∀ i, i < 27 → ∀ k, k < (wB.getD i []).length → narrow .char (.int (wC i k)) = .int (wC i k) := by decide +kernel
