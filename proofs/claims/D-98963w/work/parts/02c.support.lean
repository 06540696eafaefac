/-! MY LAYER, 3: what the written functions are made of, and rows at the labels -/
set_option maxRecDepth 100000
def qlet {α β : Type} (v : α) (k : α → Option β) : Option β := k v
theorem qlet_s {α β : Type} {v : α} {k : α → Option β} {z : β} (h : qlet v k = some z) : ∃ a, a = v ∧ k a = some z := ⟨v, rfl, h⟩
def qif {β : Type} (b : Bool) (o : Option β) : Option β := match b with
  | true => o
  | false => none
theorem qif_s {β : Type} {b : Bool} {o : Option β} {z : β} (h : qif b o = some z) : b = true ∧ o = some z := by
  cases b with
  | true => exact ⟨rfl, h⟩
  | false => cases h
def qb1 {α γ : Type} (o : Option α) (k : α → Option γ) : Option γ := match o with
  | none => none
  | some a => k a
def qb2 {α β γ : Type} (o : Option (α × β)) (k : α → β → Option γ) : Option γ := match o with
  | none => none
  | some (a, b) => k a b
def qb3 {α β δ γ : Type} (o : Option (α × β × δ)) (k : α → β → δ → Option γ) : Option γ := match o with
  | none => none
  | some (a, b, c) => k a b c
theorem qb1_s {α γ : Type} {o : Option α} {k : α → Option γ} {z : γ} (h : qb1 o k = some z) : ∃ a, o = some a ∧ k a = some z := by
  cases o with
  | none => cases h
  | some a => exact ⟨a, rfl, h⟩
theorem qb2_s {α β γ : Type} {o : Option (α × β)} {k : α → β → Option γ} {z : γ} (h : qb2 o k = some z) : ∃ a b, o = some (a, b) ∧ k a b = some z := by
  cases o with
  | none => cases h
  | some a => exact ⟨a.1, a.2, rfl, h⟩
theorem qb3_s {α β δ γ : Type} {o : Option (α × β × δ)} {k : α → β → δ → Option γ} {z : γ} (h : qb3 o k = some z) : ∃ a b c, o = some (a, b, c) ∧ k a b c = some z := by
  cases o with
  | none => cases h
  | some a => exact ⟨a.1, a.2.1, a.2.2, rfl, h⟩
theorem qi_t {P : Prop} [Decidable P] {β : Type} {a b : Option β} {z : β} (c : P) (h : (if P then a else b) = some z) : a = some z := by rw [if_pos c] at h; exact h
theorem qi_f {P : Prop} [Decidable P] {β : Type} {a b : Option β} {z : β} (c : ¬ P) (h : (if P then a else b) = some z) : b = some z := by rw [if_neg c] at h; exact h
/-- loops' fuel -/
def FU : Nat := 5000
def qok (i : Int32) (n : Nat) : Bool := decide (0 ≤ i.toInt) && decide (i.toInt < n)
theorem qok_in {i : Int32} {n : Nat} (h : qok i n = true) : vp_in i n := by
  simp only [qok, Bool.and_eq_true, decide_eq_true_eq] at h
  exact vp_in_iff.mpr h
theorem vp_in_lt {i : Int32} {n : Nat} (h : vp_in i n) : i.toNatClampNeg < n := Nat.not_le.mp fun q => h (Or.inr q)
theorem qok_lt {i : Int32} {n : Nat} (h : qok i n = true) : i.toNatClampNeg < n := vp_in_lt (qok_in h)
def qbo (v : Int32) : Bool := decide (v &&& 1 = v)
theorem qbo_n {v : Int32} (h : qbo v = true) : narrow .boolean (.int v) = .int v := by
  have h := of_decide_eq_true h
  show Value.int (v &&& 1) = .int v
  rw [h]
def QCl (K : QK) : Prop := ∀ l, (decide (l < 13) || (decide (100 ≤ l) && (decide (l < 108) || (decide (110 ≤ l) && decide (l < 118)) || (decide (120 ≤ l) && decide (l < 128)) || (decide (130 ≤ l) && decide (l < 138)) || (decide (140 ≤ l) && decide (l < 148)) || (decide (150 ≤ l) && decide (l < 180)) || (decide (200 ≤ l) && decide (l < 208)) || (decide (210 ≤ l) && decide (l < 218)) || (decide (220 ≤ l) && decide (l < 228)) || (decide (230 ≤ l) && decide (l < 238)) || (decide (240 ≤ l) && decide (l < 248)) || (decide (250 ≤ l) && decide (l < 280))))) = true → ql K l
def QMl (K : QK) : Prop := ∀ l, (decide (1000 ≤ l) && decide (l < 1018)) = true → ql K l
theorem q_not {P : Prop} [Decidable P] (h : decide P = true) : P := of_decide_eq_true h
theorem qne32 {x y : Int32} (h : ¬ x = y) : x.toInt ≠ y.toInt := fun e => h (Int32.toInt_inj.mp e)
theorem q_clamp {k : Nat} (h : Nat.ble (k + 1) 2147483648 = true) : (Int32.ofNat k).toNatClampNeg = k := nI_clamp (Nat.le_of_ble_eq_true h)
theorem q_lit {k n : Nat} (h : Nat.ble (k + 1) n = true) (hn : Nat.ble (n + 1) 2147483648 = true) : vp_in (Int32.ofNat k) n := vp_in_nI (Nat.le_of_ble_eq_true h) (Nat.le_of_ble_eq_true hn)
def qig (K : QK) (h n b : Nat) : Prop := ql K h ∧ ∀ a c L x, qcont K h a c L x = .inl (K.2.2.2.2 4, n, .inr (.inr (.inr (.inr (qgrid K.2.1 b)))))
theorem qig.at {w : QW} {K : QK} {h n b : Nat} (q : qig K h n b) : QAt K w (K.2.1 h) (.inl (K.2.2.2.2 4, n, .inr (.inr (.inr (.inr (qgrid K.2.1 b)))))) := QAt.lab q.1 (q.2 _ _ _ _)
section MYS
variable {p : Program} {l : Launch} {e : Env} {R : Room} {s : State} {m : MethodId} {args : Array Value} {below : List Frame} {meth : Method} {c : Code} {H : Heap} {locs : List Loc} {cells slots : Nat} {Q : State → Prop}
variable {cc : ByteArray} {pc : Nat} {ls : Array Slot} {rest : List Value} {a : Nat} {own : String} {nL : Nat}
variable {K : QK} {G : State → Prop} {w : QW}
theorem r_getX {A : QA} {r : QA × QL × QX × QM} (E : EV K G p s m args meth c cc own nL) (hw : WP K (A, r) H locs) (hC : QCl K) (k : Nat) (hk : k < 13) {index : Nat} (hlink : Cond.fieldLink own index (TX0 k).1 (TX0 k).2.1 (TX0 k).2.2.1 ∈ lw_all) {v : Value} (hv : (xfl K (A 0))[k]? = some v) (hdg : decode cc pc = .ok (.getfield index, 3))
    (kk : W p l e R s m args below meth c H locs cells slots Q (F0 m (pc + 3) ls (v :: rest))) : W p l e R s m args below meth c H locs cells slots Q (F0 m pc ls (.ref (K.2.1 0) :: rest)) :=
  r_get E hw (QAt.lab (hC 0 rfl) (show qat K (A, r) 0 = .inr (0, xfl K (A 0)) from rfl)) rfl in_X0 k hk hlink hv hdg kk
theorem r_putX {A : QA} {r : QA × QL × QX × QM} (E : EV K G p s m args meth c cc own nL) (hw : WP K (A, r) H locs) (hC : QCl K) (k : Nat) (hk : k < 13) {index : Nat} (hlink : Cond.fieldLink own index (TX0 k).1 (TX0 k).2.1 (TX0 k).2.2.1 ∈ lw_all) (hfin : (TX0 k).2.2.2 = false) {v : Int32} (hty : tyX0 k = .int) (hs : ∀ a : Nat → Int32, xfl K (va_up a k v) = (xfl K a).set k (.int v)) (hdg : decode cc pc = .ok (.putfield index, 3))
    (kk : ∀ (H1 : Heap) (locs1 : List Loc), WP K (qu A 0 k v, r) H1 locs1 → W p l e R s m args below meth c H1 locs1 cells slots Q (F0 m (pc + 3) ls rest)) : W p l e R s m args below meth c H locs cells slots Q (F0 m pc ls (.int v :: .ref (K.2.1 0) :: rest)) :=
  r_put E hw (hC 0 rfl) (show qat K (A, r) 0 = .inr (0, xfl K (A 0)) from rfl) rfl in_X0 tyX0 tyX0_ok nmX0 k hk hlink hfin (by rw [hty]; rfl) (by rw [hty]; rfl) hk (qu A 0 k v, r) QUp.A (by
    show Sum.inr (0, xfl K (qu A 0 k v 0)) = _
    rw [qu_s, hs]) hdg kk
/-- 'now', from the outer class -/
theorem r_getS1 {host : String} {A : QA} {r : QA × QL × QX × QM} (hG : QG G) (E : EV K G p s m args meth c cc own nL) (hw : WP K (A, r) H locs) (hC : QCl K) (k : Nat) (hk : k < 8) {index : Nat} (hlink : Cond.fieldLinkNest own index (TX1 k).1 (TX1 k).2.1 (TX1 k).2.2.1 host ∈ lw_tbl) {v : Value} (hv : (sfl1 K)[k]? = some v) (hdg : decode cc pc = .ok (.getfield index, 3))
    (kk : W p l e R s m args below meth c H locs cells slots Q (F0 m (pc + 3) ls (v :: rest))) : W p l e R s m args below meth c H locs cells slots Q (F0 m pc ls (.ref (K.2.1 1) :: rest)) :=
  r_getN hG E hw (QAt.lab (hC 1 rfl) (show qat K (A, r) 1 = .inr (1, sfl1 K) from rfl)) rfl in_X1 k hk hlink hv hdg kk
theorem r_getT1 {A : QA} {r : QA × QL × QX × QM} (E : EV K G p s m args meth c cc own nL) (hw : WP K (A, r) H locs) (hC : QCl K) (k : Nat) (hk : k < 8) {index : Nat} (hlink : Cond.fieldLink own index (TX1 k).1 (TX1 k).2.1 (TX1 k).2.2.1 ∈ lw_all) {v : Value} (hv : (sfl1 K)[k]? = some v) (hdg : decode cc pc = .ok (.getfield index, 3))
    (kk : W p l e R s m args below meth c H locs cells slots Q (F0 m (pc + 3) ls (v :: rest))) : W p l e R s m args below meth c H locs cells slots Q (F0 m pc ls (.ref (K.2.1 1) :: rest)) :=
  r_get E hw (QAt.lab (hC 1 rfl) (show qat K (A, r) 1 = .inr (1, sfl1 K) from rfl)) rfl in_X1 k hk hlink hv hdg kk
theorem r_getT2 {A : QA} {r : QA × QL × QX × QM} (E : EV K G p s m args meth c cc own nL) (hw : WP K (A, r) H locs) (hC : QCl K) (k : Nat) (hk : k < 8) {index : Nat} (hlink : Cond.fieldLink own index (TX1 k).1 (TX1 k).2.1 (TX1 k).2.2.1 ∈ lw_all) {v : Value} (hv : (sfl2 K)[k]? = some v) (hdg : decode cc pc = .ok (.getfield index, 3))
    (kk : W p l e R s m args below meth c H locs cells slots Q (F0 m (pc + 3) ls (v :: rest))) : W p l e R s m args below meth c H locs cells slots Q (F0 m pc ls (.ref (K.2.1 2) :: rest)) :=
  r_get E hw (QAt.lab (hC 2 rfl) (show qat K (A, r) 2 = .inr (1, sfl2 K) from rfl)) rfl in_X1 k hk hlink hv hdg kk
theorem r_getM {A B : QA} {L : QL} {r : QX × QM} (E : EV K G p s m args meth c cc own nL) (hw : WP K (A, B, L, r) H locs) (hM : QMl K) (k : Nat) (hk : k < 40) {index : Nat} (hlink : Cond.fieldLink own index (TX2 k).1 (TX2 k).2.1 (TX2 k).2.2.1 ∈ lw_all) {v : Value} (hv : (mfl K (B 1000) (L 1000))[k]? = some v) (hdg : decode cc pc = .ok (.getfield index, 3))
    (kk : W p l e R s m args below meth c H locs cells slots Q (F0 m (pc + 3) ls (v :: rest))) : W p l e R s m args below meth c H locs cells slots Q (F0 m pc ls (.ref (K.2.1 1000) :: rest)) :=
  r_get E hw (QAt.lab (hM 1000 rfl) (show qat K (A, B, L, r) 1000 = .inr (2, mfl K (B 1000) (L 1000)) from rfl)) rfl in_X2 k hk hlink hv hdg kk
theorem r_putM {A B : QA} {L : QL} {r : QX × QM} (E : EV K G p s m args meth c cc own nL) (hw : WP K (A, B, L, r) H locs) (hM : QMl K) (k : Nat) (hk : k < 40) {index : Nat} (hlink : Cond.fieldLink own index (TX2 k).1 (TX2 k).2.1 (TX2 k).2.2.1 ∈ lw_all) (hfin : (TX2 k).2.2.2 = false) {v : Int32} (hn : narrow (tyX2 k) (.int v) = .int v) (hf : fits (tyX2 k) (.int v) = true) (hs : ∀ (a : Nat → Int32) (L : Nat → Int64), mfl K (va_up a k v) L = (mfl K a L).set k (.int v)) (hdg : decode cc pc = .ok (.putfield index, 3))
    (kk : ∀ (H1 : Heap) (locs1 : List Loc), WP K (A, qu B 1000 k v, L, r) H1 locs1 → W p l e R s m args below meth c H1 locs1 cells slots Q (F0 m (pc + 3) ls rest)) : W p l e R s m args below meth c H locs cells slots Q (F0 m pc ls (.int v :: .ref (K.2.1 1000) :: rest)) :=
  r_put E hw (hM 1000 rfl) (show qat K (A, B, L, r) 1000 = .inr (2, mfl K (B 1000) (L 1000)) from rfl) rfl in_X2 tyX2 tyX2_ok nmX2 k hk hlink hfin hn hf hk (A, qu B 1000 k v, L, r) QUp.B (by
    show Sum.inr (2, mfl K (qu B 1000 k v 1000) (L 1000)) = _
    rw [qu_s, hs]) hdg kk
theorem r_putML {A B : QA} {L : QL} {r : QX × QM} (E : EV K G p s m args meth c cc own nL) (hw : WP K (A, B, L, r) H locs) (hM : QMl K) (k : Nat) (hk : k < 40) {index : Nat} (hlink : Cond.fieldLink own index (TX2 k).1 (TX2 k).2.1 (TX2 k).2.2.1 ∈ lw_all) (hfin : (TX2 k).2.2.2 = false) {v : Int64} (hn : narrow (tyX2 k) (.long v) = .long v) (hf : fits (tyX2 k) (.long v) = true) (hs : ∀ (a : Nat → Int32) (L : Nat → Int64), mfl K a (va_up L k v) = (mfl K a L).set k (.long v)) (hdg : decode cc pc = .ok (.putfield index, 3))
    (kk : ∀ (H1 : Heap) (locs1 : List Loc), WP K (A, B, qu L 1000 k v, r) H1 locs1 → W p l e R s m args below meth c H1 locs1 cells slots Q (F0 m (pc + 3) ls rest)) : W p l e R s m args below meth c H locs cells slots Q (F0 m pc ls (.long v :: .ref (K.2.1 1000) :: rest)) :=
  r_put E hw (hM 1000 rfl) (show qat K (A, B, L, r) 1000 = .inr (2, mfl K (B 1000) (L 1000)) from rfl) rfl in_X2 tyX2 tyX2_ok nmX2 k hk hlink hfin hn hf hk (A, B, qu L 1000 k v, r) QUp.L (by
    show Sum.inr (2, mfl K (B 1000) (qu L 1000 k v 1000)) = _
    rw [qu_s, hs]) hdg kk
theorem r_bastZ {A B : QA} {r : QL × QX × QM} {j : Nat} {i v : Int32} (E : EV K G p s m args meth c cc own nL) (hw : WP K (A, B, r) H locs) (hM : QMl K) (hin : vp_in i 330) (hj : i.toNatClampNeg = j) (hdg : decode cc pc = .ok (.bastore, 1))
    (kk : ∀ (H1 : Heap) (locs1 : List Loc), WP K (A, qu B 1009 j (v &&& 1), r) H1 locs1 → W p l e R s m args below meth c H1 locs1 cells slots Q (F0 m (pc + 1) ls rest)) : W p l e R s m args below meth c H locs cells slots Q (F0 m pc ls (.int v :: .int i :: .ref (K.2.1 1009) :: rest)) := by
  subst hj
  obtain ⟨ws, q, hP, hD, hS, hi, back⟩ := hw.lab (hM 1009 rfl)
  have hi : ws[q]? = some (K.2.1 1009, .inl (K.2.2.2.2 3, 330, .inl (B 1009))) := hi
  refine va_zast E.1 E.2.1 E.2.2.2.1 hP hD hS q 3 hi rfl hin hdg (fun H1 locs1 p1 d1 s1 => ?_)
  have e1 : ∀ f : Nat → Int32, qat K (A, qset B 1009 f, r) 1009 = .inl (K.2.2.2.2 3, 330, .inl f) := fun f => by
    show Sum.inl (_, _, Sum.inl (qset B 1009 f 1009)) = _
    rw [qset_s]
  refine kk H1 locs1 (back _ (QUp.B (f := va_up (B 1009) i.toNatClampNeg (v &&& 1))) H1 locs1 ?_ ?_ s1)
  · rw [e1]; exact p1
  · rw [e1]; exact d1
theorem r_lastL {A B : QA} {L : QL} {r : QX × QM} {j : Nat} {i : Int32} {v : Int64} (E : EV K G p s m args meth c cc own nL) (hw : WP K (A, B, L, r) H locs) (hM : QMl K) (hin : vp_in i 330) (hj : i.toNatClampNeg = j) (hdg : decode cc pc = .ok (.lastore, 1))
    (kk : ∀ (H1 : Heap) (locs1 : List Loc), WP K (A, B, qu L 1008 j v, r) H1 locs1 → W p l e R s m args below meth c H1 locs1 cells slots Q (F0 m (pc + 1) ls rest)) : W p l e R s m args below meth c H locs cells slots Q (F0 m pc ls (.long v :: .int i :: .ref (K.2.1 1008) :: rest)) := by
  subst hj
  obtain ⟨ws, q, hP, hD, hS, hi, back⟩ := hw.lab (hM 1008 rfl)
  have hi : ws[q]? = some (K.2.1 1008, .inl (K.2.2.2.2 2, 330, .inr (.inl (L 1008)))) := hi
  refine va_last E.1 E.2.1 E.2.2.2.1 hP hD hS q 2 hi rfl hin hdg (fun H1 locs1 p1 d1 s1 => ?_)
  have e1 : ∀ f : Nat → Int64, qat K (A, B, qset L 1008 f, r) 1008 = .inl (K.2.2.2.2 2, 330, .inr (.inl f)) := fun f => by
    show Sum.inl (_, _, Sum.inr (Sum.inl (qset L 1008 f 1008))) = _
    rw [qset_s]
  refine kk H1 locs1 (back _ (QUp.L (f := va_up (L 1008) i.toNatClampNeg v)) H1 locs1 ?_ ?_ s1)
  · rw [e1]; exact p1
  · rw [e1]; exact d1
theorem qaL {w : QW} (hM : QMl K) : QAt K w (K.2.1 1008) (.inl (K.2.2.2.2 2, 330, .inr (.inl (w.2.2.1 1008)))) := QAt.lab (hM 1008 rfl) rfl
theorem qaZ {w : QW} (hM : QMl K) : QAt K w (K.2.1 1009) (.inl (K.2.2.2.2 3, 330, .inl (w.2.1 1009))) := QAt.lab (hM 1009 rfl) rfl
theorem qaT {w : QW} (hC : QCl K) : QAt K w (K.2.1 3) (.inl (K.2.2.2.2 1, 300, .inl (w.1 3))) := QAt.lab (hC 3 rfl) rfl
theorem r_mmax {x y : Int32} {index : Nat} {lv : List (Nat × Value)} (E : EV K G p s m args meth c cc own nL) (hl : lv_has ls nL lv) (h1 : Cond.methodLink own index Lib.Math.max.name ∈ lw_all) (h2 : Cond.static Lib.Math.max.name ∈ lw_all) (h3 : Cond.initialized "java/lang/Math" ∈ lw_all) (h4 : Cond.code Lib.Math.max.name Lib.Math.max.code 2 (some .int) ∈ lw_all) (hframes : 1 ≤ R.frames) (hlocals : (rest.map fun v => v.category).sum + 13 ≤ R.locals) (hc : cells ≤ R.cells) (hs : slots ≤ R.slots) (hdg : decode cc pc = .ok (.invokestatic index, 3))
    (kk : W p l e R s m args below meth c H locs cells slots Q (F0 m (pc + 3) ls (.int (if x < y then y else x) :: rest))) : W p l e R s m args below meth c H locs cells slots Q (F0 m pc ls (.int y :: .int x :: rest)) :=
  va_mmax E.1 E.2.1 (E.2.2.2.2.2.2.2.trans hl.1.symm) E.2.2.1 (E.2.2.2.2.1 _ h1) (E.2.2.2.2.1 _ h2) (E.2.2.2.2.1 _ h3) (E.2.2.2.2.1 _ h4) hframes hlocals hc hs hdg kk
theorem r_copyA {la lb n0 n1 index j0 j1 j2 : Nat} {A : QA} {r : QA × QL × QX × QM} {sp dp n : Int32} {lv : List (Nat × Value)} (E : EV K G p s m args meth c cc own nL) (hl : lv_has ls nL lv) (hw : WP K (A, r) H locs) (ha : qia K la n0) (hb : qia K lb n1) (q1 : Cond.methodLink own index arraycopyName ∈ lw_all) (q2 : Cond.native arraycopyName ∈ lw_all) (q3 : Cond.static arraycopyName ∈ lw_all) (q4 : Cond.initialized "java/lang/System" ∈ lw_all)
    (h1 : ¬ sp < 0) (h2 : ¬ dp < 0) (h3 : ¬ n < 0) (e0 : sp.toNatClampNeg = j0) (e1 : dp.toNatClampNeg = j1) (e2 : n.toNatClampNeg = j2) (h4 : j0 + j2 ≤ n0) (h5 : j1 + j2 ≤ n1) (hframes : 1 ≤ R.frames) (hlocals : (rest.map fun v => v.category).sum + (nativeFrameWords "java/lang/System" "arraycopy" 5 + 11) ≤ R.locals) (hdg : decode cc pc = .ok (.invokestatic index, 3))
    (kk : ∀ (H1 : Heap) (locs1 : List Loc), WP K (qset A lb (va_cpy (A la) (A lb) j0 j1 j2), r) H1 locs1 → W p l e R s m args below meth c H1 locs1 cells slots Q (F0 m (pc + 3) ls rest)) : W p l e R s m args below meth c H locs cells slots Q (F0 m pc ls (.int n :: .int dp :: .ref (K.2.1 lb) :: .int sp :: .ref (K.2.1 la) :: rest)) := by
  subst e0; subst e1; subst e2
  obtain ⟨ws, i, i2, hP, hD, hS, hi, hi2, back⟩ := hw.lab2 hb.1 ha.1
  rw [qat, hb.2] at hi
  rw [qat, ha.2] at hi2
  refine va_copyi E.1 E.2.1 (E.2.2.2.2.2.2.2.trans hl.1.symm) E.2.2.1 (E.2.2.2.2.1 _ q1) (E.2.2.2.2.1 _ q2) (E.2.2.2.2.1 _ q3) (E.2.2.2.2.1 _ q4) E.2.2.2.1 hP hD hS i2 i 0 0 hi2 hi rfl rfl rfl h1 h2 h3 h4 h5 (fun i _ => rfl) hframes hlocals hdg (fun H1 locs1 p1 d1 s1 => ?_)
  have e1 : ∀ f : Nat → Int32, qat K (qset A lb f, r) lb = .inl (K.2.2.2.2 0, n1, .inl f) := fun f => by
    unfold qat
    rw [hb.2]
    show Sum.inl (_, _, Sum.inl (qset A lb f lb)) = _
    rw [qset_s]
  refine kk H1 locs1 (back _ QUp.A H1 locs1 ?_ ?_ s1)
  · rw [e1]; exact p1
  · rw [e1]; exact d1
end MYS
section MYC
variable {p : Program} {l : Launch} {e : Env} {R : Room} {s : State} {m : MethodId} {args : Array Value} {below : List Frame} {meth : Method} {c : Code} {H : Heap} {locs : List Loc} {cells slots : Nat} {Q : State → Prop}
variable {cc : ByteArray} {pc : Nat} {ls : Array Slot} {rest : List Value} {a : Nat} {own : String} {nL : Nat}
variable {K : QK} {G : State → Prop} {w : QW}
theorem r_nm {x y : Int32} (h : y = x) (k : W p l e R s m args below meth c H locs cells slots Q (F0 m pc ls (.int y :: rest))) : W p l e R s m args below meth c H locs cells slots Q (F0 m pc ls (.int x :: rest)) := h ▸ k
theorem r_nml {x y : Int64} (h : y = x) (k : W p l e R s m args below meth c H locs cells slots Q (F0 m pc ls (.long y :: rest))) : W p l e R s m args below meth c H locs cells slots Q (F0 m pc ls (.long x :: rest)) := h ▸ k
/-- calls with one answer and one world -/
theorem d_V {y : MethodName} {bytes : ByteArray} {maxL fr lo n index b ci N : Nat} {C : String} {T : u_T} {fs As st1 : List Value} {ret : Option FieldType} {v0 : Option Value} {w0 : QW} {lv : List (Nat × Value)} (hG : QG G) (E : EV K G p s m args meth c cc own nL) (hw : WP K w H locs) (hl : lv_has ls nL lv) (hM : MC l K G y (ws_ y bytes maxL ret) fr lo 0 0 (.ref b :: As) w (QR v0 w0)) (hq : QAt K w b (.inr (ci, fs))) (hc : vcl[ci]? = some (C, T, N)) (cw : CallW R s args own C index y bytes maxL ret (ws_ y bytes maxL ret) (qrm fr lo 0 0) 0 0 n) (hn : As.length = n) {st0 : List Value} (hst : st0 = As.reverse ++ .ref b :: rest) (hst1 : v0.toList ++ rest = st1) (hW : Nat.ble (rest.map fun v => v.category).sum 8 = true) (hdg : decode cc pc = .ok (.invokevirtual index, 3)) (hf : cells ≤ R.cells ∧ slots ≤ R.slots)
    (kk : ∀ (H1 : Heap) (locs1 : List Loc), WP K w0 H1 locs1 → W p l e R s m args below meth c H1 locs1 cells slots Q (F0 m (pc + 3) ls st1)) : W p l e R s m args below meth c H locs cells slots Q (F0 m pc ls st0) := by
  refine c_V (fs := fs) (rest := rest) hG E hw hM hq hc cw hl hn hst (Nat.le_of_ble_eq_true hW) hdg hf (fun v w' H1 locs1 hP hw1 => ?_)
  obtain ⟨rfl, rfl⟩ := hP
  rw [hst1]
  exact kk H1 locs1 hw1
theorem d_S {y : MethodName} {bytes : ByteArray} {maxL fr lo n index : Nat} {As st1 : List Value} {ret : Option FieldType} {v0 : Option Value} {w0 : QW} {lv : List (Nat × Value)} (hG : QG G) (E : EV K G p s m args meth c cc own nL) (hw : WP K w H locs) (hl : lv_has ls nL lv) (hM : MC l K G y (ws_ y bytes maxL ret) fr lo 0 0 As w (QR v0 w0)) (cw : CallB R s args own index y bytes maxL ret (ws_ y bytes maxL ret) (qrm fr lo 0 0) 0 0 n ∧ (Cond.static y).before args s = true) (hn : As.length = n) {st0 : List Value} (hst : st0 = As.reverse ++ rest) (hst1 : v0.toList ++ rest = st1) (hW : Nat.ble (rest.map fun v => v.category).sum 8 = true) (hdg : decode cc pc = .ok (.invokestatic index, 3)) (hf : cells ≤ R.cells ∧ slots ≤ R.slots)
    (kk : ∀ (H1 : Heap) (locs1 : List Loc), WP K w0 H1 locs1 → W p l e R s m args below meth c H1 locs1 cells slots Q (F0 m (pc + 3) ls st1)) : W p l e R s m args below meth c H locs cells slots Q (F0 m pc ls st0) := by
  refine c_S (rest := rest) hG E hw hM cw hl hn hst (Nat.le_of_ble_eq_true hW) hdg hf (fun v w' H1 locs1 hP hw1 => ?_)
  obtain ⟨rfl, rfl⟩ := hP
  rw [hst1]
  exact kk H1 locs1 hw1
theorem d_SN {y : MethodName} {bytes : ByteArray} {maxL fr lo n index : Nat} {host : String} {As st1 : List Value} {ret : Option FieldType} {v0 : Option Value} {w0 : QW} {lv : List (Nat × Value)} (hG : QG G) (E : EV K G p s m args meth c cc own nL) (hw : WP K w H locs) (hl : lv_has ls nL lv) (hM : MC l K G y (ws_ y bytes maxL ret) fr lo 0 0 As w (QR v0 w0)) (cw : va_CN R s args own index y host bytes maxL ret (ws_ y bytes maxL ret) (qrm fr lo 0 0) 0 0 n ∧ (Cond.static y).before args s = true ∧ True) (hn : As.length = n) {st0 : List Value} (hst : st0 = As.reverse ++ rest) (hst1 : v0.toList ++ rest = st1) (hW : Nat.ble (rest.map fun v => v.category).sum 8 = true) (hdg : decode cc pc = .ok (.invokestatic index, 3)) (hf : cells ≤ R.cells ∧ slots ≤ R.slots)
    (kk : ∀ (H1 : Heap) (locs1 : List Loc), WP K w0 H1 locs1 → W p l e R s m args below meth c H1 locs1 cells slots Q (F0 m (pc + 3) ls st1)) : W p l e R s m args below meth c H locs cells slots Q (F0 m pc ls st0) := by
  refine c_SN (rest := rest) hG E hw hM cw hl hn hst (Nat.le_of_ble_eq_true hW) hdg hf (fun v w' H1 locs1 hP hw1 => ?_)
  obtain ⟨rfl, rfl⟩ := hP
  rw [hst1]
  exact kk H1 locs1 hw1
theorem d_iret {v r0 : Int32} {w0 : QW} {ty : FieldType} (E : EV K G p s m args meth c cc own nL) (hr : meth.sig.returnType = some ty) (hn : narrow ty (.int v) = .int v) (hw : WP K w H locs) (h1 : v = r0) (h2 : w = w0) (hdg : decode cc pc = .ok (.ireturn, 1)) : W p l e R s m args below meth c H locs 0 0 (MQ below (QE K (QR (some (.int r0)) w0)) args s 0 0 (qA K)) (F0 m pc ls [.int v]) :=
  r_iret E hr hn ⟨by rw [h1], h2⟩ hw (Nat.le_refl _) (Nat.le_refl _) hdg
theorem d_lret {v r0 : Int64} {w0 : QW} (E : EV K G p s m args meth c cc own nL) (hr : meth.sig.returnType = some .long) (hw : WP K w H locs) (h1 : v = r0) (h2 : w = w0) (hdg : decode cc pc = .ok (.lreturn, 1)) : W p l e R s m args below meth c H locs 0 0 (MQ below (QE K (QR (some (.long r0)) w0)) args s 0 0 (qA K)) (F0 m pc ls [.long v]) :=
  r_lret E hr ⟨by rw [h1], h2⟩ hw (Nat.le_refl _) (Nat.le_refl _) hdg
theorem d_ret {w0 : QW} (E : EV K G p s m args meth c cc own nL) (hr : meth.sig.returnType = none) (hw : WP K w H locs) (h2 : w = w0) (hdg : decode cc pc = .ok (.return_, 1)) : W p l e R s m args below meth c H locs 0 0 (MQ below (QE K (QR none w0)) args s 0 0 (qA K)) (F0 m pc ls []) :=
  r_ret E hr ⟨rfl, h2⟩ hw (Nat.le_refl _) (Nat.le_refl _) hdg
theorem qX0 {A : QA} {r : QA × QL × QX × QM} (hC : QCl K) : QAt K (A, r) (K.2.1 0) (.inr (0, xfl K (A 0))) := QAt.lab (hC 0 rfl) rfl
theorem qS1 {w : QW} (hC : QCl K) : QAt K w (K.2.1 1) (.inr (1, sfl1 K)) := QAt.lab (hC 1 rfl) rfl
theorem qM0 {A B : QA} {L : QL} {r : QX × QM} (hM : QMl K) : QAt K (A, B, L, r) (K.2.1 1000) (.inr (2, mfl K (B 1000) (L 1000))) := QAt.lab (hM 1000 rfl) rfl
end MYC
theorem qi_4 {K : QK} (hC : QCl K) : qia K 4 9 := ⟨hC 4 rfl, fun _ _ _ _ => rfl⟩
theorem qi_5 {K : QK} (hC : QCl K) : qia K 5 154 := ⟨hC 5 rfl, fun _ _ _ _ => rfl⟩
theorem qi_10 {K : QK} (hC : QCl K) : qia K 10 4 := ⟨hC 10 rfl, fun _ _ _ _ => rfl⟩
theorem qi_11 {K : QK} (hC : QCl K) : qia K 11 5 := ⟨hC 11 rfl, fun _ _ _ _ => rfl⟩
theorem qi_12 {K : QK} (hC : QCl K) : qia K 12 5 := ⟨hC 12 rfl, fun _ _ _ _ => rfl⟩
theorem qi_100 {K : QK} (hC : QCl K) : qia K 100 7 := ⟨hC 100 rfl, fun _ _ _ _ => rfl⟩
theorem qi_101 {K : QK} (hC : QCl K) : qia K 101 154 := ⟨hC 101 rfl, fun _ _ _ _ => rfl⟩
theorem qi_200 {K : QK} (hC : QCl K) : qia K 200 7 := ⟨hC 200 rfl, fun _ _ _ _ => rfl⟩
theorem qi_201 {K : QK} (hC : QCl K) : qia K 201 154 := ⟨hC 201 rfl, fun _ _ _ _ => rfl⟩
theorem qi_tape {K : QK} (hC : QCl K) : ql K 3 ∧ ∀ a b L x, qcont K 3 a b L x = .inl (K.2.2.2.2 1, 300, .inl a) := ⟨hC 3 rfl, fun _ _ _ _ => rfl⟩
theorem qi_f110 {K : QK} (hC : QCl K) {k : Nat} (hk : k < 8) : qia K (110 + k) 4 := by
  match k, hk with
  | 0, _ => exact ⟨hC 110 rfl, fun _ _ _ _ => rfl⟩
  | 1, _ => exact ⟨hC 111 rfl, fun _ _ _ _ => rfl⟩
  | 2, _ => exact ⟨hC 112 rfl, fun _ _ _ _ => rfl⟩
  | 3, _ => exact ⟨hC 113 rfl, fun _ _ _ _ => rfl⟩
  | 4, _ => exact ⟨hC 114 rfl, fun _ _ _ _ => rfl⟩
  | 5, _ => exact ⟨hC 115 rfl, fun _ _ _ _ => rfl⟩
  | 6, _ => exact ⟨hC 116 rfl, fun _ _ _ _ => rfl⟩
  | 7, _ => exact ⟨hC 117 rfl, fun _ _ _ _ => rfl⟩
  | k + 8, hk => exact absurd hk (by omega)
theorem qi_f120 {K : QK} (hC : QCl K) {k : Nat} (hk : k < 8) : qia K (120 + k) 3 := by
  match k, hk with
  | 0, _ => exact ⟨hC 120 rfl, fun _ _ _ _ => rfl⟩
  | 1, _ => exact ⟨hC 121 rfl, fun _ _ _ _ => rfl⟩
  | 2, _ => exact ⟨hC 122 rfl, fun _ _ _ _ => rfl⟩
  | 3, _ => exact ⟨hC 123 rfl, fun _ _ _ _ => rfl⟩
  | 4, _ => exact ⟨hC 124 rfl, fun _ _ _ _ => rfl⟩
  | 5, _ => exact ⟨hC 125 rfl, fun _ _ _ _ => rfl⟩
  | 6, _ => exact ⟨hC 126 rfl, fun _ _ _ _ => rfl⟩
  | 7, _ => exact ⟨hC 127 rfl, fun _ _ _ _ => rfl⟩
  | k + 8, hk => exact absurd hk (by omega)
theorem qi_f130 {K : QK} (hC : QCl K) {k : Nat} (hk : k < 8) : qia K (130 + k) 2 := by
  match k, hk with
  | 0, _ => exact ⟨hC 130 rfl, fun _ _ _ _ => rfl⟩
  | 1, _ => exact ⟨hC 131 rfl, fun _ _ _ _ => rfl⟩
  | 2, _ => exact ⟨hC 132 rfl, fun _ _ _ _ => rfl⟩
  | 3, _ => exact ⟨hC 133 rfl, fun _ _ _ _ => rfl⟩
  | 4, _ => exact ⟨hC 134 rfl, fun _ _ _ _ => rfl⟩
  | 5, _ => exact ⟨hC 135 rfl, fun _ _ _ _ => rfl⟩
  | 6, _ => exact ⟨hC 136 rfl, fun _ _ _ _ => rfl⟩
  | 7, _ => exact ⟨hC 137 rfl, fun _ _ _ _ => rfl⟩
  | k + 8, hk => exact absurd hk (by omega)
theorem qi_f140 {K : QK} (hC : QCl K) {k : Nat} (hk : k < 8) : qia K (140 + k) 2 := by
  match k, hk with
  | 0, _ => exact ⟨hC 140 rfl, fun _ _ _ _ => rfl⟩
  | 1, _ => exact ⟨hC 141 rfl, fun _ _ _ _ => rfl⟩
  | 2, _ => exact ⟨hC 142 rfl, fun _ _ _ _ => rfl⟩
  | 3, _ => exact ⟨hC 143 rfl, fun _ _ _ _ => rfl⟩
  | 4, _ => exact ⟨hC 144 rfl, fun _ _ _ _ => rfl⟩
  | 5, _ => exact ⟨hC 145 rfl, fun _ _ _ _ => rfl⟩
  | 6, _ => exact ⟨hC 146 rfl, fun _ _ _ _ => rfl⟩
  | 7, _ => exact ⟨hC 147 rfl, fun _ _ _ _ => rfl⟩
  | k + 8, hk => exact absurd hk (by omega)
theorem qi_f150 {K : QK} (hC : QCl K) {k : Nat} (hk : k < 30) : qia K (150 + k) 154 := by
  match k, hk with
  | 0, _ => exact ⟨hC 150 rfl, fun _ _ _ _ => rfl⟩
  | 1, _ => exact ⟨hC 151 rfl, fun _ _ _ _ => rfl⟩
  | 2, _ => exact ⟨hC 152 rfl, fun _ _ _ _ => rfl⟩
  | 3, _ => exact ⟨hC 153 rfl, fun _ _ _ _ => rfl⟩
  | 4, _ => exact ⟨hC 154 rfl, fun _ _ _ _ => rfl⟩
  | 5, _ => exact ⟨hC 155 rfl, fun _ _ _ _ => rfl⟩
  | 6, _ => exact ⟨hC 156 rfl, fun _ _ _ _ => rfl⟩
  | 7, _ => exact ⟨hC 157 rfl, fun _ _ _ _ => rfl⟩
  | 8, _ => exact ⟨hC 158 rfl, fun _ _ _ _ => rfl⟩
  | 9, _ => exact ⟨hC 159 rfl, fun _ _ _ _ => rfl⟩
  | 10, _ => exact ⟨hC 160 rfl, fun _ _ _ _ => rfl⟩
  | 11, _ => exact ⟨hC 161 rfl, fun _ _ _ _ => rfl⟩
  | 12, _ => exact ⟨hC 162 rfl, fun _ _ _ _ => rfl⟩
  | 13, _ => exact ⟨hC 163 rfl, fun _ _ _ _ => rfl⟩
  | 14, _ => exact ⟨hC 164 rfl, fun _ _ _ _ => rfl⟩
  | 15, _ => exact ⟨hC 165 rfl, fun _ _ _ _ => rfl⟩
  | 16, _ => exact ⟨hC 166 rfl, fun _ _ _ _ => rfl⟩
  | 17, _ => exact ⟨hC 167 rfl, fun _ _ _ _ => rfl⟩
  | 18, _ => exact ⟨hC 168 rfl, fun _ _ _ _ => rfl⟩
  | 19, _ => exact ⟨hC 169 rfl, fun _ _ _ _ => rfl⟩
  | 20, _ => exact ⟨hC 170 rfl, fun _ _ _ _ => rfl⟩
  | 21, _ => exact ⟨hC 171 rfl, fun _ _ _ _ => rfl⟩
  | 22, _ => exact ⟨hC 172 rfl, fun _ _ _ _ => rfl⟩
  | 23, _ => exact ⟨hC 173 rfl, fun _ _ _ _ => rfl⟩
  | 24, _ => exact ⟨hC 174 rfl, fun _ _ _ _ => rfl⟩
  | 25, _ => exact ⟨hC 175 rfl, fun _ _ _ _ => rfl⟩
  | 26, _ => exact ⟨hC 176 rfl, fun _ _ _ _ => rfl⟩
  | 27, _ => exact ⟨hC 177 rfl, fun _ _ _ _ => rfl⟩
  | 28, _ => exact ⟨hC 178 rfl, fun _ _ _ _ => rfl⟩
  | 29, _ => exact ⟨hC 179 rfl, fun _ _ _ _ => rfl⟩
  | k + 30, hk => exact absurd hk (by omega)
theorem qi_f210 {K : QK} (hC : QCl K) {k : Nat} (hk : k < 8) : qia K (210 + k) 4 := by
  match k, hk with
  | 0, _ => exact ⟨hC 210 rfl, fun _ _ _ _ => rfl⟩
  | 1, _ => exact ⟨hC 211 rfl, fun _ _ _ _ => rfl⟩
  | 2, _ => exact ⟨hC 212 rfl, fun _ _ _ _ => rfl⟩
  | 3, _ => exact ⟨hC 213 rfl, fun _ _ _ _ => rfl⟩
  | 4, _ => exact ⟨hC 214 rfl, fun _ _ _ _ => rfl⟩
  | 5, _ => exact ⟨hC 215 rfl, fun _ _ _ _ => rfl⟩
  | 6, _ => exact ⟨hC 216 rfl, fun _ _ _ _ => rfl⟩
  | 7, _ => exact ⟨hC 217 rfl, fun _ _ _ _ => rfl⟩
  | k + 8, hk => exact absurd hk (by omega)
theorem qi_f220 {K : QK} (hC : QCl K) {k : Nat} (hk : k < 8) : qia K (220 + k) 3 := by
  match k, hk with
  | 0, _ => exact ⟨hC 220 rfl, fun _ _ _ _ => rfl⟩
  | 1, _ => exact ⟨hC 221 rfl, fun _ _ _ _ => rfl⟩
  | 2, _ => exact ⟨hC 222 rfl, fun _ _ _ _ => rfl⟩
  | 3, _ => exact ⟨hC 223 rfl, fun _ _ _ _ => rfl⟩
  | 4, _ => exact ⟨hC 224 rfl, fun _ _ _ _ => rfl⟩
  | 5, _ => exact ⟨hC 225 rfl, fun _ _ _ _ => rfl⟩
  | 6, _ => exact ⟨hC 226 rfl, fun _ _ _ _ => rfl⟩
  | 7, _ => exact ⟨hC 227 rfl, fun _ _ _ _ => rfl⟩
  | k + 8, hk => exact absurd hk (by omega)
theorem qi_f230 {K : QK} (hC : QCl K) {k : Nat} (hk : k < 8) : qia K (230 + k) 2 := by
  match k, hk with
  | 0, _ => exact ⟨hC 230 rfl, fun _ _ _ _ => rfl⟩
  | 1, _ => exact ⟨hC 231 rfl, fun _ _ _ _ => rfl⟩
  | 2, _ => exact ⟨hC 232 rfl, fun _ _ _ _ => rfl⟩
  | 3, _ => exact ⟨hC 233 rfl, fun _ _ _ _ => rfl⟩
  | 4, _ => exact ⟨hC 234 rfl, fun _ _ _ _ => rfl⟩
  | 5, _ => exact ⟨hC 235 rfl, fun _ _ _ _ => rfl⟩
  | 6, _ => exact ⟨hC 236 rfl, fun _ _ _ _ => rfl⟩
  | 7, _ => exact ⟨hC 237 rfl, fun _ _ _ _ => rfl⟩
  | k + 8, hk => exact absurd hk (by omega)
theorem qi_f240 {K : QK} (hC : QCl K) {k : Nat} (hk : k < 8) : qia K (240 + k) 2 := by
  match k, hk with
  | 0, _ => exact ⟨hC 240 rfl, fun _ _ _ _ => rfl⟩
  | 1, _ => exact ⟨hC 241 rfl, fun _ _ _ _ => rfl⟩
  | 2, _ => exact ⟨hC 242 rfl, fun _ _ _ _ => rfl⟩
  | 3, _ => exact ⟨hC 243 rfl, fun _ _ _ _ => rfl⟩
  | 4, _ => exact ⟨hC 244 rfl, fun _ _ _ _ => rfl⟩
  | 5, _ => exact ⟨hC 245 rfl, fun _ _ _ _ => rfl⟩
  | 6, _ => exact ⟨hC 246 rfl, fun _ _ _ _ => rfl⟩
  | 7, _ => exact ⟨hC 247 rfl, fun _ _ _ _ => rfl⟩
  | k + 8, hk => exact absurd hk (by omega)
theorem qi_f250 {K : QK} (hC : QCl K) {k : Nat} (hk : k < 30) : qia K (250 + k) 154 := by
  match k, hk with
  | 0, _ => exact ⟨hC 250 rfl, fun _ _ _ _ => rfl⟩
  | 1, _ => exact ⟨hC 251 rfl, fun _ _ _ _ => rfl⟩
  | 2, _ => exact ⟨hC 252 rfl, fun _ _ _ _ => rfl⟩
  | 3, _ => exact ⟨hC 253 rfl, fun _ _ _ _ => rfl⟩
  | 4, _ => exact ⟨hC 254 rfl, fun _ _ _ _ => rfl⟩
  | 5, _ => exact ⟨hC 255 rfl, fun _ _ _ _ => rfl⟩
  | 6, _ => exact ⟨hC 256 rfl, fun _ _ _ _ => rfl⟩
  | 7, _ => exact ⟨hC 257 rfl, fun _ _ _ _ => rfl⟩
  | 8, _ => exact ⟨hC 258 rfl, fun _ _ _ _ => rfl⟩
  | 9, _ => exact ⟨hC 259 rfl, fun _ _ _ _ => rfl⟩
  | 10, _ => exact ⟨hC 260 rfl, fun _ _ _ _ => rfl⟩
  | 11, _ => exact ⟨hC 261 rfl, fun _ _ _ _ => rfl⟩
  | 12, _ => exact ⟨hC 262 rfl, fun _ _ _ _ => rfl⟩
  | 13, _ => exact ⟨hC 263 rfl, fun _ _ _ _ => rfl⟩
  | 14, _ => exact ⟨hC 264 rfl, fun _ _ _ _ => rfl⟩
  | 15, _ => exact ⟨hC 265 rfl, fun _ _ _ _ => rfl⟩
  | 16, _ => exact ⟨hC 266 rfl, fun _ _ _ _ => rfl⟩
  | 17, _ => exact ⟨hC 267 rfl, fun _ _ _ _ => rfl⟩
  | 18, _ => exact ⟨hC 268 rfl, fun _ _ _ _ => rfl⟩
  | 19, _ => exact ⟨hC 269 rfl, fun _ _ _ _ => rfl⟩
  | 20, _ => exact ⟨hC 270 rfl, fun _ _ _ _ => rfl⟩
  | 21, _ => exact ⟨hC 271 rfl, fun _ _ _ _ => rfl⟩
  | 22, _ => exact ⟨hC 272 rfl, fun _ _ _ _ => rfl⟩
  | 23, _ => exact ⟨hC 273 rfl, fun _ _ _ _ => rfl⟩
  | 24, _ => exact ⟨hC 274 rfl, fun _ _ _ _ => rfl⟩
  | 25, _ => exact ⟨hC 275 rfl, fun _ _ _ _ => rfl⟩
  | 26, _ => exact ⟨hC 276 rfl, fun _ _ _ _ => rfl⟩
  | 27, _ => exact ⟨hC 277 rfl, fun _ _ _ _ => rfl⟩
  | 28, _ => exact ⟨hC 278 rfl, fun _ _ _ _ => rfl⟩
  | 29, _ => exact ⟨hC 279 rfl, fun _ _ _ _ => rfl⟩
  | k + 30, hk => exact absurd hk (by omega)
theorem qi_f7 {K : QK} (hC : QCl K) {k : Nat} (hk : k < 3) : qia K (7 + k) 154 := by
  match k, hk with
  | 0, _ => exact ⟨hC 7 rfl, fun _ _ _ _ => rfl⟩
  | 1, _ => exact ⟨hC 8 rfl, fun _ _ _ _ => rfl⟩
  | 2, _ => exact ⟨hC 9 rfl, fun _ _ _ _ => rfl⟩
  | k + 3, hk => exact absurd hk (by omega)
theorem qg_6 {K : QK} (hC : QCl K) : qig K 6 3 7 := ⟨hC 6 rfl, fun _ _ _ _ => rfl⟩
theorem qg_102 {K : QK} (hC : QCl K) : qig K 102 8 110 := ⟨hC 102 rfl, fun _ _ _ _ => rfl⟩
theorem qg_103 {K : QK} (hC : QCl K) : qig K 103 8 120 := ⟨hC 103 rfl, fun _ _ _ _ => rfl⟩
theorem qg_104 {K : QK} (hC : QCl K) : qig K 104 8 130 := ⟨hC 104 rfl, fun _ _ _ _ => rfl⟩
theorem qg_105 {K : QK} (hC : QCl K) : qig K 105 8 140 := ⟨hC 105 rfl, fun _ _ _ _ => rfl⟩
theorem qg_106 {K : QK} (hC : QCl K) : qig K 106 30 150 := ⟨hC 106 rfl, fun _ _ _ _ => rfl⟩
theorem qg_202 {K : QK} (hC : QCl K) : qig K 202 8 210 := ⟨hC 202 rfl, fun _ _ _ _ => rfl⟩
theorem qg_203 {K : QK} (hC : QCl K) : qig K 203 8 220 := ⟨hC 203 rfl, fun _ _ _ _ => rfl⟩
theorem qg_204 {K : QK} (hC : QCl K) : qig K 204 8 230 := ⟨hC 204 rfl, fun _ _ _ _ => rfl⟩
theorem qg_205 {K : QK} (hC : QCl K) : qig K 205 8 240 := ⟨hC 205 rfl, fun _ _ _ _ => rfl⟩
theorem qg_206 {K : QK} (hC : QCl K) : qig K 206 30 250 := ⟨hC 206 rfl, fun _ _ _ _ => rfl⟩
theorem qi_1001 {K : QK} (hM : QMl K) : qib K 1001 3642 := ⟨hM 1001 rfl, fun _ _ _ _ => rfl⟩
theorem qi_1002 {K : QK} (hM : QMl K) : qib K 1002 3642 := ⟨hM 1002 rfl, fun _ _ _ _ => rfl⟩
theorem qi_1003 {K : QK} (hM : QMl K) : qib K 1003 2820 := ⟨hM 1003 rfl, fun _ _ _ _ => rfl⟩
theorem qi_1004 {K : QK} (hM : QMl K) : qib K 1004 300 := ⟨hM 1004 rfl, fun _ _ _ _ => rfl⟩
theorem qi_1005 {K : QK} (hM : QMl K) : qib K 1005 160 := ⟨hM 1005 rfl, fun _ _ _ _ => rfl⟩
theorem qi_1006 {K : QK} (hM : QMl K) : qib K 1006 9 := ⟨hM 1006 rfl, fun _ _ _ _ => rfl⟩
theorem qi_1007 {K : QK} (hM : QMl K) : qib K 1007 8 := ⟨hM 1007 rfl, fun _ _ _ _ => rfl⟩
theorem qi_1010 {K : QK} (hM : QMl K) : qib K 1010 100 := ⟨hM 1010 rfl, fun _ _ _ _ => rfl⟩
theorem qi_1011 {K : QK} (hM : QMl K) : qib K 1011 100 := ⟨hM 1011 rfl, fun _ _ _ _ => rfl⟩
theorem qi_1012 {K : QK} (hM : QMl K) : qib K 1012 100 := ⟨hM 1012 rfl, fun _ _ _ _ => rfl⟩
theorem qi_1013 {K : QK} (hM : QMl K) : qib K 1013 13 := ⟨hM 1013 rfl, fun _ _ _ _ => rfl⟩
theorem qi_1014 {K : QK} (hM : QMl K) : qib K 1014 28 := ⟨hM 1014 rfl, fun _ _ _ _ => rfl⟩
theorem qi_1015 {K : QK} (hM : QMl K) : qib K 1015 8 := ⟨hM 1015 rfl, fun _ _ _ _ => rfl⟩
theorem qi_1016 {K : QK} (hM : QMl K) : qib K 1016 5 := ⟨hM 1016 rfl, fun _ _ _ _ => rfl⟩
theorem qi_1017 {K : QK} (hM : QMl K) : qib K 1017 5 := ⟨hM 1017 rfl, fun _ _ _ _ => rfl⟩
theorem qbo_f {v : Int32} (h : qbo v = true) : fits .boolean (.int v) = true := by
  have h := of_decide_eq_true h
  have h2 : v = 0 ∨ v = 1 := by
    have : ∀ b : BitVec 32, b &&& 1#32 = b → b = 0#32 ∨ b = 1#32 := by
      intro b hb
      have e : b.toNat % 2 = b.toNat := by
        have := congrArg BitVec.toNat hb
        rw [BitVec.toNat_and] at this
        have e1 : (1#32).toNat = 1 := rfl
        rw [e1, Nat.and_one_is_mod] at this
        exact this
      have : b.toNat < 2 := by omega
      rcases (show b.toNat = 0 ∨ b.toNat = 1 by omega) with q | q
      · exact Or.inl (BitVec.eq_of_toNat_eq q)
      · exact Or.inr (BitVec.eq_of_toNat_eq q)
    have hb : v.toBitVec &&& 1#32 = v.toBitVec := congrArg Int32.toBitVec h
    rcases this v.toBitVec hb with q | q
    · exact Or.inl (Int32.toBitVec_inj.mp q)
    · exact Or.inr (Int32.toBitVec_inj.mp q)
  rcases h2 with rfl | rfl <;> rfl
