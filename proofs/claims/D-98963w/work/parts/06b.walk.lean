/-! walks of the parser: calls and ends by written answers; frozen cells -/
set_option maxRecDepth 100000
/-- what a method has made -/
def qnew (M M' : QM) : QM := fun z => match M z with
  | some _ => none
  | none => M' z
/-- the frozen cells and what a call has made -/
def qfr (F M M' : QM) : QM := fun z => match M z with
  | some _ => F z
  | none => M' z
theorem qnew_o {M M' : QM} {z : Nat} {e : va_E} (h : M z = some e) : qnew M M' z = none := by unfold qnew; rw [h]
theorem qnew_n {M M' : QM} {z : Nat} (h : M z = none) : qnew M M' z = M' z := by unfold qnew; rw [h]
theorem qfr_o {F M M' : QM} {z : Nat} {e : va_E} (h : M z = some e) : qfr F M M' z = F z := by unfold qfr; rw [h]
theorem qfr_n {F M M' : QM} {z : Nat} (h : M z = none) : qfr F M M' z = M' z := by unfold qfr; rw [h]
theorem qnew_ext {M M' : QM} : QExt (qnew M M') M' := by
  intro z e h
  cases hz : M z with
  | some x => rw [qnew_o hz] at h; cases h
  | none => rw [qnew_n hz] at h; exact h
theorem qfr_new {F M M' : QM} : QExt (qnew M M') (qfr F M M') := by
  intro z e h
  cases hz : M z with
  | some x => rw [qnew_o hz] at h; cases h
  | none => rw [qnew_n hz] at h; rw [qfr_n hz]; exact h
/-- M0: the cells at the start, F: frozen ones, all made since; M: the cells now -/
def FRz (M0 F M : QM) : Prop := QExt M0 M ∧ QExt F M ∧ ∀ z e, M0 z = some e → F z = none
theorem FRz.nil {M : QM} : FRz M (fun _ => none) M := ⟨QExt.refl, fun _ _ h => (by cases h), fun _ _ _ => rfl⟩
theorem FRz.toF {M0 F M M' : QM} (h : FRz M0 F M) : QExt F (qfr F M M') := by
  intro z e hz
  rw [qfr_o (h.2.1 z e hz)]
  exact hz
theorem FRz.call {M0 F M M' : QM} (h : FRz M0 F M) (hx : QExt M M') : FRz M0 (qfr F M M') M' := by
  refine ⟨h.1.trans hx, fun z e hz => ?_, fun z e hz => ?_⟩
  · cases hM : M z with
    | some x =>
      rw [qfr_o hM] at hz
      exact hx z e (h.2.1 z e hz)
    | none => rw [qfr_n hM] at hz; exact hz
  · rw [qfr_o (h.1 z e hz)]
    exact h.2.2 z e hz
/-- one's own cells change -/
theorem FRz.own {M0 F M M' : QM} (O : Nat → Prop) (h : FRz M0 F M) (hO : ∀ z, O z → F z = none ∧ M0 z = none) (hk : ∀ z e, ¬ O z → M z = some e → M' z = some e) : FRz M0 F M' := by
  refine ⟨fun z e hz => ?_, fun z e hz => ?_, h.2.2⟩
  · refine hk z e (fun hz2 => ?_) (h.1 z e hz)
    rw [(hO z hz2).2] at hz
    cases hz
  · refine hk z e (fun hz2 => ?_) (h.2.1 z e hz)
    rw [(hO z hz2).1] at hz
    cases hz
theorem FRz.emb {M0 F M : QM} (h : FRz M0 F M) : QExt F (qnew M0 M) := by
  intro z e hz
  cases h0 : M0 z with
  | some x => rw [h.2.2 z x h0] at hz; cases hz
  | none => rw [qnew_n h0]; exact h.2.1 z e hz
/-- a cell that isn't frozen stays so -/
theorem FRz.no {M0 F M : QM} (h : FRz M0 F M) {z : Nat} (hz : M z = none) : F z = none ∧ M0 z = none := by
  refine ⟨?_, ?_⟩
  · cases hf : F z with
    | none => rfl
    | some e => rw [h.2.1 z e hf] at hz; cases hz
  · cases hf : M0 z with
    | none => rfl
    | some e => rw [h.1 z e hf] at hz; cases hz
theorem qfr_no {F M M' : QM} {z : Nat} {e : va_E} (h : M z = some e) (hf : F z = none) : qfr F M M' z = none := by rw [qfr_o h]; exact hf
theorem SumAt.el {K : QK} {M : QM} {n a : Nat} {c : QC} {φ : QS} (h : SumAt K M n a c φ) : ElO K M a := by
  cases n with
  | zero => exact h.elim
  | succ n =>
    rcases h with ⟨v, h1, -⟩ | ⟨v, h1, -⟩ | ⟨b, c1, φ1, h1, -⟩ | ⟨f, lm, lg, c1, φ1, its, h1, -⟩
    · exact ⟨10, 1, RX10, TX10, _, rfl, h1, q2038⟩
    · exact ⟨11, 1, RX11, TX11, _, rfl, h1, q2039⟩
    · exact ⟨12, 1, RX12, TX12, _, rfl, h1, q2040⟩
    · exact ⟨9, 3, RX9, TX9, _, rfl, h1, q2037⟩
theorem AskAt.el {K : QK} {M : QM} {n a : Nat} {c : QC} {ψ : QB} (h : AskAt K M n a c ψ) : ElO K M a := by
  cases n with
  | zero => exact h.elim
  | succ n =>
    rcases h with ⟨b, c1, ψ1, h1, -⟩ | ⟨k, h1, -⟩ | ⟨lm, its, h1, -⟩ | ⟨g, a1, b1, c1, c2, φ1, φ2, h1, -⟩ | ⟨z, lm, it0, its, h1, -⟩ | ⟨a1, b1, c1, c2, ψ1, ψ2, h1, -⟩
    · exact ⟨6, 1, RX6, TX6, _, rfl, h1, q2034⟩
    · exact ⟨7, 1, RX7, TX7, _, rfl, h1, q2035⟩
    · exact ⟨8, 1, RX8, TX8, _, rfl, h1, q2036⟩
    · exact ⟨13, 3, RX13, TX13, _, rfl, h1, q2042⟩
    · exact ⟨14, 2, RX14, TX14, _, rfl, h1, q2043⟩
    · exact ⟨15, 2, RX15, TX15, _, rfl, h1, q2044⟩
/-- an answer: a sum's tree, all of its cells made since M -/
def VS (K : QK) (dep : Nat) (M : QM) : QM → QU → Option Value → Prop := fun M' q v => ∃ a, v = some (.ref a) ∧ SumAt K (qnew M M') dep a q.1 q.2
def VA (K : QK) (dep : Nat) (M : QM) : QM → QV → Option Value → Prop := fun M' q v => ∃ a, v = some (.ref a) ∧ AskAt K (qnew M M') dep a q.1 q.2
abbrev PQ (below : List Frame) (K : QK) (A B : QA) (L : QL) (X : QX) (n : Nat) (M0 : QM) {β : Type} (V : QM → β → Option Value → Prop) (args : Array Value) (s : State) (r : PR β) : State → Prop :=
  XQ below K (fun v w' => ∃ a t' c, r = .inr (a, t', c) ∧ POk A B L X n M0 V a t' v w') (fun q w' => ∃ f pl c, r = .inl (f, pl, c) ∧ PEr A B L X n M0 f pl q w') args s (pc_ r) (12 * pc_ r)
abbrev pR (fr lo : Nat) {β : Type} (r : PR β) : Room := qrm fr lo (pc_ r) (12 * pc_ r)
section PWK
variable {p : Program} {l : Launch} {e : Env} {s : State} {m : MethodId} {args : Array Value} {below : List Frame} {meth : Method} {c : Code} {H : Heap} {locs : List Loc} {cells slots : Nat}
variable {cc : ByteArray} {pc : Nat} {ls : Array Slot} {rest : List Value} {nL fr lo : Nat}
variable {K : QK} {G : State → Prop} {A B : QA} {L : QL} {X : QX} {M M0 : QM} {n : Nat} {t : QTS}
/-- a call, and what is done with its answer -/
theorem c_B {α β : Type} {y : MethodName} {bytes : ByteArray} {maxL fr1 lo1 nn index c0 : Nat} {As : List Value} {ret : Option FieldType} {o : Option (PR α)} {k : α → QTS → Option (PR β)} {z r : PR β} {V1 : QM → α → Option Value → Prop} {V : QM → β → Option Value → Prop} {lv : List (Nat × Value)}
    (hG : QG G) (E : EV K G p s m args meth c cc RX3 nL) (hnt : ∀ x ∈ c.exceptionTable.toList, False) (hw : WP K (tw A n t, B, L, X, M) H locs) (h13 : ql K 13) (hx : QExt M0 M)
    (h : pbo o k = some z) (hr : r = padd c0 z) (hc : cells ≤ c0) (hs : slots ≤ 12 * c0)
    (hM : ∀ r1, o = some r1 → MP l K G y (ws_ y bytes maxL ret) fr1 lo1 (.ref (K.2.1 13) :: As) A B L X M n t r1 V1)
    (cw : ∀ r1 : PR α, CallW (pR fr lo r) s args RX3 RX3 index y bytes maxL ret (ws_ y bytes maxL ret) (qrm fr1 lo1 (pc_ r1) (12 * pc_ r1)) (pc_ r1) (12 * pc_ r1) nn)
    (hl : lv_has ls nL lv) (hn : As.length = nn) {st0 : List Value} (hst : st0 = As.reverse ++ .ref (K.2.1 13) :: rest) (hW : Nat.ble (rest.map fun v => v.category).sum 8 = true) (hdg : decode cc pc = .ok (.invokevirtual index, 3))
    (kk : ∀ (a : α) (t' : QTS) (cst : Nat) (v : Option Value) (M' : QM) (H1 : Heap) (locs1 : List Loc) (y' : PR β), o = some (.inr (a, t', cst)) → k a t' = some y' → r = padd (c0 + cst) y' → cells + cst ≤ c0 + cst → slots + 12 * cst ≤ 12 * (c0 + cst) → QExt M M' → V1 M' a v → WP K (tw A n t', B, L, X, M') H1 locs1 → W p l e (pR fr lo r) s m args below meth c H1 locs1 (cells + cst) (slots + 12 * cst) (PQ below K A B L X n M0 V args s r) (F0 m (pc + 3) ls (v.toList ++ rest))) :
    W p l e (pR fr lo r) s m args below meth c H locs cells slots (PQ below K A B L X n M0 V args s r) (F0 m pc ls st0) := by
  cases ho : o with
  | none => rw [ho] at h; cases h
  | some r1 =>
    have hle : c0 + pc_ r1 ≤ pc_ r := by
      rw [ho] at h
      rw [hr, pc_add]
      rcases pbo_s h with ⟨e1, h1, h2⟩ | ⟨a1, t1, c1, y1, h1, h2, h3⟩
      · cases h1
        subst h2
        exact Nat.le_refl _
      · cases h1
        subst h3
        rw [pc_add]
        show c0 + c1 ≤ c0 + (c1 + pc_ y1)
        omega
    refine c_XV (As := As) (rest := rest) hG E hw (hM r1 ho) (qT13 h13) rfl (cw r1) hl hn hst (Nat.le_of_ble_eq_true hW) hdg ⟨(show cells + pc_ r1 ≤ pc_ r by omega), (show slots + 12 * pc_ r1 ≤ 12 * pc_ r by omega)⟩ (fun v w' H1 locs1 hP hw1 => ?_) (fun q w' H1 locs1 hP hw1 hq => ?_)
    · obtain ⟨a, t', c1, hr1, M', rfl, hx1, hV⟩ := hP
      subst hr1
      rw [ho] at h
      rcases pbo_s h with ⟨e1, h1, h2⟩ | ⟨a1, t1, c9, y1, h1, h2, h3⟩
      · cases h1
      · cases h1
        refine kk a t' c1 v M' H1 locs1 y1 ho h2 ?_ (by omega) (by omega) hx1 hV hw1
        rw [hr, h3, padd_padd]
    · obtain ⟨f, pl, c1, hr1, t', M', rfl, hx1, hWr⟩ := hP
      subst hr1
      rw [ho] at h
      rcases pbo_s h with ⟨e1, h1, h2⟩ | ⟨a1, t1, c9, y1, h1, h2, h3⟩
      · cases h1
        subst h2
        exact x_out E hnt ⟨f, pl, c0 + c1, hr, t', M', rfl, hx.trans hx1, hWr⟩ hw1 (show cells + c1 ≤ pc_ r by rw [hr]; show cells + c1 ≤ c0 + c1; omega) (show slots + 12 * c1 ≤ 12 * pc_ r by rw [hr]; show slots + 12 * c1 ≤ 12 * (c0 + c1); omega) hq
      · cases h1
theorem p_throw {β : Type} {r : PR β} {V : QM → β → Option Value → Prop} {f : Int32} {index c0 : Nat} {lv : List (Nat × Value)}
    (hG : QG G) (hC : QCl K) (h13 : ql K 13) (hWr : QWr K G) (hlst : l.stackTraces = false) (E : EV K G p s m args meth c cc RX3 nL) (hnt : ∀ x ∈ c.exceptionTable.toList, False) (hw : WP K (tw A n t, B, L, X, M) H locs) (hl : lv_has ls nL lv) (hx : QExt M0 M) (hr : r = padd c0 (.inl (f, t.2.1, 1))) (hc : cells ≤ c0) (hs : slots ≤ 12 * c0)
    (cw : CallW (pR fr lo r) s args RX3 RX3 index yX3_wrong cX3_wrong 2 (some (.object "VaneCourt$Wrong")) (ws_ yX3_wrong cX3_wrong 2 (some (.object "VaneCourt$Wrong"))) (qrm 7 160 1 8) 1 8 1) (hW : Nat.ble (rest.map fun v => v.category).sum 8 = true) (hd1 : decode cc pc = .ok (.invokevirtual index, 3)) (hd2 : decode cc (pc + 3) = .ok (.athrow, 1)) :
    W p l e (pR fr lo r) s m args below meth c H locs cells slots (PQ below K A B L X n M0 V args s r) (F0 m pc ls (.int f :: .ref (K.2.1 13) :: rest)) := by
  have hp : pc_ r = c0 + 1 := by rw [hr]; rfl
  exact x_throw hG hC h13 hWr hlst E hnt hw hl hx cw hW hd1 hd2 ⟨(show cells + 1 ≤ pc_ r by omega), (show slots + 8 ≤ 12 * pc_ r by omega)⟩ (show cells + 1 ≤ pc_ r by omega) (show slots + 8 ≤ 12 * pc_ r by omega) (fun q w' h => ⟨f, t.2.1, c0 + 1, hr, h⟩)
theorem p_aret {β : Type} {r : PR β} {V : QM → β → Option Value → Prop} {rt : FieldType} {a : β} {b c0 c1 : Nat} (E : EV K G p s m args meth c cc RX3 nL) (hrt : meth.sig.returnType = some rt) (hrk : (∃ n, rt = .object n) ∨ ∃ t, rt = .array t) (hr : r = padd c0 (.inr (a, t, c1))) (hc : cells ≤ c0 + c1) (hs : slots ≤ 12 * (c0 + c1)) (hx : QExt M0 M) (hV : V M a (some (.ref b))) (hw : WP K (tw A n t, B, L, X, M) H locs) (hdg : decode cc pc = .ok (.areturn, 1)) :
    W p l e (pR fr lo r) s m args below meth c H locs cells slots (PQ below K A B L X n M0 V args s r) (F0 m pc ls [.ref b]) := by
  have hp : pc_ r = c0 + c1 := by rw [hr]; rfl
  exact vq_ret (r_aret E hrt hrk (Or.inr ⟨_, rfl⟩) ⟨a, t, c0 + c1, hr, M, rfl, hx, hV⟩ hw (show cells ≤ pc_ r by omega) (show slots ≤ 12 * pc_ r by omega) hdg)
theorem p_iret {β : Type} {r : PR β} {V : QM → β → Option Value → Prop} {rt : FieldType} {a : β} {v : Int32} {c0 c1 : Nat} (E : EV K G p s m args meth c cc RX3 nL) (hrt : meth.sig.returnType = some rt) (hnr : narrow rt (.int v) = .int v) (hr : r = padd c0 (.inr (a, t, c1))) (hc : cells ≤ c0 + c1) (hs : slots ≤ 12 * (c0 + c1)) (hx : QExt M0 M) (hV : V M a (some (.int v))) (hw : WP K (tw A n t, B, L, X, M) H locs) (hdg : decode cc pc = .ok (.ireturn, 1)) :
    W p l e (pR fr lo r) s m args below meth c H locs cells slots (PQ below K A B L X n M0 V args s r) (F0 m pc ls [.int v]) := by
  have hp : pc_ r = c0 + c1 := by rw [hr]; rfl
  exact vq_ret (r_iret E hrt hnr ⟨a, t, c0 + c1, hr, M, rfl, hx, hV⟩ hw (show cells ≤ pc_ r by omega) (show slots ≤ 12 * pc_ r by omega) hdg)
theorem p_ret {β : Type} {r : PR β} {V : QM → β → Option Value → Prop} {a : β} {c0 c1 : Nat} (E : EV K G p s m args meth c cc RX3 nL) (hrt : meth.sig.returnType = none) (hr : r = padd c0 (.inr (a, t, c1))) (hc : cells ≤ c0 + c1) (hs : slots ≤ 12 * (c0 + c1)) (hx : QExt M0 M) (hV : V M a none) (hw : WP K (tw A n t, B, L, X, M) H locs) (hdg : decode cc pc = .ok (.return_, 1)) :
    W p l e (pR fr lo r) s m args below meth c H locs cells slots (PQ below K A B L X n M0 V args s r) (F0 m pc ls []) := by
  have hp : pc_ r = c0 + c1 := by rw [hr]; rfl
  exact vq_ret (r_ret E hrt ⟨a, t, c0 + c1, hr, M, rfl, hx, hV⟩ hw (show cells ≤ pc_ r by omega) (show slots ≤ 12 * pc_ r by omega) hdg)
end PWK
/-- the room of a sum at the depth d, of what is asked -/
abbrev oF (d : Nat) : Nat := 3 * d + 12
abbrev oL (f : Nat) : Nat := 40 * f + 200
