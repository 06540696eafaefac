/-! a text while it is being read: its cells; Text's constructor; code -/
set_option maxRecDepth 100000
/-- the contract of a method that goes on with what others began: M0 the cells at the beginning, M the cells at its call -/
def MPw (l : Launch) (K : QK) (G : State → Prop) (y : MethodName) (ws : List Cond) (fr lo : Nat) {α : Type} (av : List Value) (A B : QA) (L : QL) (X : QX) (M M0 : QM) (n : Nat) (t : QTS) (r : PR α) (V : QM → α → Option Value → Prop) : Prop :=
  MX l K G y ws fr lo (pc_ r) (12 * pc_ r) av (tw A n t, B, L, X, M) (fun v w' => ∃ a t' c, r = .inr (a, t', c) ∧ POk A B L X n M0 V a t' v w') (fun q w' => ∃ f pl c, r = .inl (f, pl, c) ∧ PEr A B L X n M0 f pl q w')
section PWR
variable {p : Program} {l : Launch} {e : Env} {s : State} {m : MethodId} {args : Array Value} {below : List Frame} {meth : Method} {c : Code} {H : Heap} {locs : List Loc} {cells slots : Nat}
variable {cc : ByteArray} {pc : Nat} {ls : Array Slot} {rest : List Value} {nL fr lo : Nat}
variable {K : QK} {G : State → Prop} {A B : QA} {L : QL} {X : QX} {M M0 M1 : QM} {n : Nat} {t : QTS}
theorem c_Bw {α β : Type} {y : MethodName} {bytes : ByteArray} {maxL fr1 lo1 nn index c0 : Nat} {As : List Value} {ret : Option FieldType} {o : Option (PR α)} {k : α → QTS → Option (PR β)} {z r : PR β} {V1 : QM → α → Option Value → Prop} {V : QM → β → Option Value → Prop} {lv : List (Nat × Value)}
    (hG : QG G) (E : EV K G p s m args meth c cc RX3 nL) (hnt : ∀ x ∈ c.exceptionTable.toList, False) (hw : WP K (tw A n t, B, L, X, M) H locs) (h13 : ql K 13) (hx : QExt M0 M1)
    (h : pbo o k = some z) (hr : r = padd c0 z) (hc : cells ≤ c0) (hs : slots ≤ 12 * c0)
    (hM : ∀ r1, o = some r1 → MPw l K G y (ws_ y bytes maxL ret) fr1 lo1 (.ref (K.2.1 13) :: As) A B L X M M1 n t r1 V1)
    (cw : ∀ r1 : PR α, CallW (pR fr lo r) s args RX3 RX3 index y bytes maxL ret (ws_ y bytes maxL ret) (qrm fr1 lo1 (pc_ r1) (12 * pc_ r1)) (pc_ r1) (12 * pc_ r1) nn)
    (hl : lv_has ls nL lv) (hn : As.length = nn) {st0 : List Value} (hst : st0 = As.reverse ++ .ref (K.2.1 13) :: rest) (hW : Nat.ble (rest.map fun v => v.category).sum 8 = true) (hdg : decode cc pc = .ok (.invokevirtual index, 3))
    (kk : ∀ (a : α) (t' : QTS) (cst : Nat) (v : Option Value) (M' : QM) (H1 : Heap) (locs1 : List Loc) (y' : PR β), o = some (.inr (a, t', cst)) → k a t' = some y' → r = padd (c0 + cst) y' → cells + cst ≤ c0 + cst → slots + 12 * cst ≤ 12 * (c0 + cst) → QExt M1 M' → V1 M' a v → WP K (tw A n t', B, L, X, M') H1 locs1 → W p l e (pR fr lo r) s m args below meth c H1 locs1 (cells + cst) (slots + 12 * cst) (PQ below K A B L X n M0 V args s r) (F0 m (pc + 3) ls (v.toList ++ rest))) :
    W p l e (pR fr lo r) s m args below meth c H locs cells slots (PQ below K A B L X n M0 V args s r) (F0 m pc ls st0) := by
  cases ho : o with
  | none => rw [ho] at h; cases h
  | some r1 =>
    have hle : c0 + pc_ r1 ≤ pc_ r := by
      rw [ho] at h
      rw [hr, pc_add]
      rcases pbo_s h with ⟨e1, h1, h2⟩ | ⟨a1, t1, c1, y1, h1, h2, h3⟩
      · cases h1
        subst h2
        exact Nat.le_refl _
      · cases h1
        subst h3
        rw [pc_add]
        show c0 + c1 ≤ c0 + (c1 + pc_ y1)
        omega
    refine c_XV (As := As) (rest := rest) hG E hw (hM r1 ho) (qT13 h13) rfl (cw r1) hl hn hst (Nat.le_of_ble_eq_true hW) hdg ⟨(show cells + pc_ r1 ≤ pc_ r by omega), (show slots + 12 * pc_ r1 ≤ 12 * pc_ r by omega)⟩ (fun v w' H1 locs1 hP hw1 => ?_) (fun q w' H1 locs1 hP hw1 hq => ?_)
    · obtain ⟨a, t', c1, hr1, M', rfl, hx1, hV⟩ := hP
      subst hr1
      rw [ho] at h
      rcases pbo_s h with ⟨e1, h1, h2⟩ | ⟨a1, t1, c9, y1, h1, h2, h3⟩
      · cases h1
      · cases h1
        refine kk a t' c1 v M' H1 locs1 y1 ho h2 ?_ (by omega) (by omega) hx1 hV hw1
        rw [hr, h3, padd_padd]
    · obtain ⟨f, pl, c1, hr1, t', M', rfl, hx1, hWr⟩ := hP
      subst hr1
      rw [ho] at h
      rcases pbo_s h with ⟨e1, h1, h2⟩ | ⟨a1, t1, c9, y1, h1, h2, h3⟩
      · cases h1
        subst h2
        exact x_out E hnt ⟨f, pl, c0 + c1, hr, t', M', rfl, hx.trans hx1, hWr⟩ hw1 (show cells + c1 ≤ pc_ r by rw [hr]; show cells + c1 ≤ c0 + c1; omega) (show slots + 12 * c1 ≤ 12 * pc_ r by rw [hr]; show slots + 12 * c1 ≤ 12 * (c0 + c1); omega) hq
      · cases h1
end PWR
theorem r_putDN {p : Program} {l : Launch} {e : Env} {R : Room} {s : State} {m : MethodId} {args : Array Value} {below : List Frame} {meth : Method} {c : Code} {H : Heap} {locs : List Loc} {cells slots : Nat} {Q : State → Prop} {cc : ByteArray} {pc : Nat} {ls : Array Slot} {rest : List Value} {a : Nat} {own : String} {nL : Nat} {K : QK} {G : State → Prop} {w : QW} {ci N : Nat} {C host : String} {T : u_T} {fs : List Value} (hG : QG G) (E : EV K G p s m args meth c cc own nL) (hw : WP K w H locs) (hq : w.2.2.2.2 a = some (.inr (ci, fs))) (hc : vcl[ci]? = some (C, T, N)) (hin : ∀ w ∈ u_ws C T N, w ∈ lw_all) (ty0 : Nat → FieldType) (hty : ∀ k, k < N → parseFieldDescriptor (T k).2.2.1 = some (ty0 k)) (hnm : ∀ a, a < N → ∀ b, b < N → a ≠ b → (T a).2.1 ≠ (T b).2.1) (k : Nat) (hk : k < N) {index : Nat} (hlink : Cond.fieldLinkNest own index (T k).1 (T k).2.1 (T k).2.2.1 host ∈ lw_tbl) (hfin : (T k).2.2.2 = false) {v : Value} (hn : narrow (ty0 k) v = v) (hfit : fits (ty0 k) v = true) (hlen : k < fs.length) (hdg : decode cc pc = .ok (.putfield index, 3))
    (kk : ∀ (H1 : Heap) (locs1 : List Loc), WP K (w.1, w.2.1, w.2.2.1, w.2.2.2.1, va_up w.2.2.2.2 a (some (.inr (ci, fs.set k v)))) H1 locs1 → W p l e R s m args below meth c H1 locs1 cells slots Q (F0 m (pc + 3) ls rest)) : W p l e R s m args below meth c H locs cells slots Q (F0 m pc ls (v :: .ref a :: rest)) := by
  obtain ⟨ws, i, hP, hD, hS, hi, back⟩ := hw.dyn hq
  refine va_putN E.1 E.2.1 E.2.2.2.2.1 hin ty0 hty hnm E.2.2.1 E.2.2.2.1 hP hD hS i hi hc k hk (va_Nw.use rfl (hG.2.2 s _ E.2.2.2.2.2.1 hlink rfl)) (fun _ h => h) hfin (hty k hk) hn hfit hlen hdg (fun H1 locs1 p1 d1 s1 => ?_)
  exact kk H1 locs1 (back _ H1 locs1 p1 d1 s1)
/-- a text's cells while it is being read: itself at a, its codes at ca, the list of doings at da (its array at ed) -/
def RdC (K : QK) (ea : Nat) (M0 F M : QM) (a ca da ed : Nat) (cf : Nat → Option Nat) (ve bl se fo : Value) (xs : List Nat) (tt : QT) (k : Nat) : Prop :=
  FRz M0 F M ∧ M a = some (.inr (4, [.ref ca, ve, bl, se, fo, .int (nI k), .ref da])) ∧ M ca = some (.inl (K.2.2.2.2 6, 4, .inr (.inr (.inr (.inr cf))))) ∧ LM K ea M da ed xs ∧
  ((F a = none ∧ M0 a = none) ∧ (F ca = none ∧ M0 ca = none) ∧ (F da = none ∧ M0 da = none) ∧ (xs ≠ [] → F ed = none ∧ M0 ed = none)) ∧
  ((∀ q, q < 4 → AOpt K F (va_rf (cf q)) (tt.1 q)) ∧ SOpt K F ve tt.2.1 ∧ SOpt K F bl tt.2.2.1 ∧ SOpt K F se tt.2.2.2.1 ∧ AOpt K F fo tt.2.2.2.2.1) ∧
  xs.length = tt.2.2.2.2.2.length ∧ (∀ (i x : Nat) (d : QDo), xs[i]? = some x → tt.2.2.2.2.2[i]? = some d → DAt K F x (.inr (16, [.int d.1, .int d.2.1, .int d.2.2.1, .int d.2.2.2.1, .int d.2.2.2.2]))) ∧ xs.length ≤ 24 ∧ k ≤ 24
def RdS (K : QK) (ea : Nat) (M0 F M : QM) (a ca da ed : Nat) (tt : QT) (k : Nat) : Prop := ∃ (cf : Nat → Option Nat) (ve bl se fo : Value) (xs : List Nat), RdC K ea M0 F M a ca da ed cf ve bl se fo xs tt k
/-- an answer: the text, gone on with -/
def VR (K : QK) (ea : Nat) (M0 : QM) (a ca da k : Nat) : QM → QT → Option Value → Prop := fun M' tt v => v = none ∧ ∃ F' ed', RdS K ea M0 F' M' a ca da ed' tt k
theorem RdC.call {K : QK} {ea : Nat} {M0 F M M' : QM} {a ca da ed : Nat} {cf : Nat → Option Nat} {ve bl se fo : Value} {xs : List Nat} {tt : QT} {k : Nat} (h : RdC K ea M0 F M a ca da ed cf ve bl se fo xs tt k) (hx : QExt M M') : RdC K ea M0 (qfr F M M') M' a ca da ed cf ve bl se fo xs tt k := by
  obtain ⟨h1, h2, h3, h4, ⟨o1, o2, o3, o4⟩, ⟨t1, t2, t3, t4, t5⟩, h7, h8, h9⟩ := h
  have nx : ∀ z e, M z = some e → F z = none ∧ M0 z = none → qfr F M M' z = none ∧ M0 z = none := fun z e g1 g2 => ⟨qfr_no g1 g2.1, g2.2⟩
  obtain ⟨mo, hda, -⟩ := id h4
  refine ⟨h1.call hx, hx _ _ h2, hx _ _ h3, h4.ext hx, ⟨nx _ _ h2 o1, nx _ _ h3 o2, nx _ _ hda o3, fun g => ?_⟩, ⟨fun q hq => (t1 q hq).ext h1.toF, t2.ext h1.toF, t3.ext h1.toF, t4.ext h1.toF, t5.ext h1.toF⟩, h7, fun i x d g1 g2 => (h8 i x d g1 g2).ext h1.toF, h9⟩
  obtain ⟨e1, g1⟩ := h4.arr g
  exact nx _ _ g1 (o4 g)
/-- the text's own cell changes -/
theorem RdC.obj {K : QK} {ea : Nat} {M0 F M : QM} {a ca da ed : Nat} {cf : Nat → Option Nat} {ve bl se fo ve' bl' se' fo' : Value} {xs : List Nat} {tt tt' : QT} {k k' : Nat} (h : RdC K ea M0 F M a ca da ed cf ve bl se fo xs tt k) (e1 : tt'.1 = tt.1) (e2 : tt'.2.2.2.2.2 = tt.2.2.2.2.2) (h2 : SOpt K F ve' tt'.2.1) (h3 : SOpt K F bl' tt'.2.2.1) (h4 : SOpt K F se' tt'.2.2.2.1) (h5 : AOpt K F fo' tt'.2.2.2.2.1) (hk2 : k' ≤ 24) :
    RdC K ea M0 F (va_up M a (some (.inr (4, [.ref ca, ve', bl', se', fo', .int (nI k'), .ref da])))) a ca da ed cf ve' bl' se' fo' xs tt' k' := by
  obtain ⟨g1, g2, g3, g4, ⟨o1, o2, o3, o4⟩, ⟨t1, t2, t3, t4, t5⟩, g7, g8, g9, g10⟩ := h
  obtain ⟨mo, hda, -⟩ := id g4
  have n1 : ca ≠ a := fun e => by rw [e, g2] at g3; cases g3
  have n2 : da ≠ a := fun e => by rw [e, g2] at hda; cases hda
  refine ⟨g1.own (fun z => z = a) (fun z hz => by rw [hz]; exact o1) (fun z e hz hM => (va_up_n hz).trans hM), va_up_s, (va_up_n n1).trans g3, g4.keep (va_up_n n2) (fun hne => va_up_n (fun e => ?_)), ⟨o1, o2, o3, o4⟩, ⟨fun q hq => by rw [e1]; exact t1 q hq, h2, h3, h4, h5⟩, by rw [e2]; exact g7, by rw [e2]; exact g8, g9, hk2⟩
  obtain ⟨e3, g11⟩ := g4.arr hne
  rw [e, g2] at g11
  cases g11
/-- a code's tree is laid down -/
theorem RdC.cod {K : QK} {ea : Nat} {M0 F M : QM} {a ca da ed x j : Nat} {cf : Nat → Option Nat} {ve bl se fo : Value} {xs : List Nat} {tt : QT} {k : Nat} {q : QV} (h : RdC K ea M0 F M a ca da ed cf ve bl se fo xs tt k) (hq : AskAt K F tD x q.1 q.2) :
    RdC K ea M0 F (va_up M ca (some (.inl (K.2.2.2.2 6, 4, .inr (.inr (.inr (.inr (va_up cf j (some x)))))))) ) a ca da ed (va_up cf j (some x)) ve bl se fo xs (fun i => if i = j then some q else tt.1 i, tt.2) k := by
  obtain ⟨g1, g2, g3, g4, ⟨o1, o2, o3, o4⟩, ⟨t1, t2, t3, t4, t5⟩, g7, g8, g9, g10⟩ := h
  obtain ⟨mo, hda, -⟩ := id g4
  have n1 : a ≠ ca := fun e => by rw [← e, g2] at g3; cases g3
  have n2 : da ≠ ca := fun e => by rw [← e, hda] at g3; cases g3
  refine ⟨g1.own (fun z => z = ca) (fun z hz => by rw [hz]; exact o2) (fun z e hz hM => (va_up_n hz).trans hM), (va_up_n n1).trans g2, va_up_s, g4.keep (va_up_n n2) (fun hne => va_up_n (fun e => ?_)), ⟨o1, o2, o3, o4⟩, ⟨fun i hi => ?_, t2, t3, t4, t5⟩, g7, g8, g9, g10⟩
  · obtain ⟨mo2, -, q3⟩ := g4
    obtain ⟨-, f, q4, -⟩ := q3.resolve_left (fun z => hne z.1)
    rw [e, g3] at q4
    have q5 := congrArg (fun z => match z with | some (Sum.inl y) => y.2.1 | _ => 0) q4
    have q6 : 4 = capOf xs.length := q5
    have := (cap_le (n := xs.length) (by omega)).2.1
    omega
  · show AOpt K F (va_rf (va_up cf j (some x) i)) (if i = j then some q else tt.1 i)
    by_cases e : i = j
    · rw [if_pos e, e, va_up_s]
      exact Or.inr ⟨x, q, rfl, rfl, hq⟩
    · rw [if_neg e, va_up_n e]
      exact t1 i hi
/-- one doing more -/
theorem RdC.doing {K : QK} {ea : Nat} {M0 F M M' : QM} {a ca da ed ed' x : Nat} {cf : Nat → Option Nat} {ve bl se fo : Value} {xs : List Nat} {tt : QT} {k : Nat} {d : QDo} (h : RdC K ea M0 F M a ca da ed cf ve bl se fo xs tt k) (hd : DAt K F x (.inr (16, [.int d.1, .int d.2.1, .int d.2.2.1, .int d.2.2.2.1, .int d.2.2.2.2])))
    (g2 : LM K ea M' da ed' (xs ++ [x])) (g5 : ed' = ed ∧ 2 ≤ (xs ++ [x]).length ∧ (∃ e, M ed = some (.inl e)) ∨ M ed' = none) (g7 : ∀ z e, z ≠ da → z ≠ ed' → M z = some e → M' z = some e) (hk : xs.length < 24) :
    RdC K ea M0 F M' a ca da ed' cf ve bl se fo (xs ++ [x]) (tt.1, tt.2.1, tt.2.2.1, tt.2.2.2.1, tt.2.2.2.2.1, tt.2.2.2.2.2 ++ [d]) k := by
  obtain ⟨g1, k2, k3, k4, ⟨o1, o2, o3, o4⟩, ⟨t1, t2, t3, t4, t5⟩, k7, k8, k9, k10⟩ := h
  obtain ⟨mo, hda, q9⟩ := id k4
  have ob : ∀ b e, M b = some (.inr e) → b ≠ ed' := by
    intro b e hb e8
    rcases g5 with ⟨h1, -, e7, h2⟩ | h1
    · rw [e8, h1, h2] at hb; cases hb
    · rw [e8, h1] at hb; cases hb
  have n1 : a ≠ da := fun e => by rw [e, hda] at k2; cases k2
  have n2 : ca ≠ da := fun e => by rw [e, hda] at k3; cases k3
  have n3 : ca ≠ ed' := by
    intro e8
    rcases g5 with ⟨h1, hl, e7, h2⟩ | h1
    · have hne : xs ≠ [] := fun z => by rw [z] at hl; simp at hl
      obtain ⟨-, f, q4, -⟩ := q9.resolve_left (fun z => hne z.1)
      rw [← h1, ← e8, k3] at q4
      have q5 := congrArg (fun z => match z with | some (Sum.inl y) => y.2.1 | _ => 0) q4
      have q6 : 4 = capOf xs.length := q5
      have := (cap_le (n := xs.length) (by omega)).2.1
      omega
    · rw [← e8, k3] at h1; cases h1
  have p1 : F ed' = none ∧ M0 ed' = none := by
    rcases g5 with ⟨e, z, -⟩ | e
    · rw [e]
      refine o4 (fun z2 => ?_)
      rw [z2] at z
      simp at z
    · exact g1.no e
  refine ⟨g1.own (fun z => z = da ∨ z = ed') (fun z hz => ?_) (fun z e hz hM => g7 z e (fun w => hz (Or.inl w)) (fun w => hz (Or.inr w)) hM), g7 _ _ n1 (ob _ _ k2) k2, g7 _ _ n2 n3 k3, g2, ⟨o1, o2, o3, fun _ => p1⟩, ⟨t1, t2, t3, t4, t5⟩, ?_, ?_, ?_, k10⟩
  · rcases hz with e | e <;> rw [e]
    · exact o3
    · exact p1
  · show (xs ++ [x]).length = (tt.2.2.2.2.2 ++ [d]).length
    rw [List.length_append, List.length_append, k7]
    rfl
  · intro i y it j1 j2
    have j2 : (tt.2.2.2.2.2 ++ [d])[i]? = some it := j2
    by_cases hi : i < xs.length
    · rw [List.getElem?_append_left hi] at j1
      rw [List.getElem?_append_left (by omega)] at j2
      exact k8 i y it j1 j2
    · rw [List.getElem?_append_right (by omega)] at j1
      rw [List.getElem?_append_right (by omega), ← k7] at j2
      by_cases h0 : i - xs.length = 0
      · rw [h0] at j1 j2
        cases j1
        cases j2
        exact hd
      · obtain ⟨j, hj⟩ := Nat.exists_eq_succ_of_ne_zero h0
        rw [hj] at j1
        cases j1
  · rw [List.length_append]
    show xs.length + 1 ≤ 24
    omega
/-- the text is read -/
theorem RdC.text {K : QK} {G : State → Prop} {ea : Nat} {M0 F M : QM} {a ca da ed : Nat} {cf : Nat → Option Nat} {ve bl se fo : Value} {xs : List Nat} {tt : QT} {k : Nat} (h : RdC K ea M0 F M a ca da ed cf ve bl se fo xs tt k) : TextAt K G M a tt := by
  obtain ⟨g1, k2, k3, k4, ⟨o1, o2, o3, o4⟩, ⟨t1, t2, t3, t4, t5⟩, k7, k8, k9, k10⟩ := h
  have hx := g1.2.1
  refine ⟨ca, cf, ve, bl, se, fo, nI k, da, Or.inl k2, Or.inl (Or.inl k3), fun q hq => (t1 q hq).ext hx, t2.ext hx, t3.ext hx, t4.ext hx, t5.ext hx, xs, k4.lst0 (by omega), k7, fun i x d j1 j2 => (k8 i x d j1 j2).ext hx⟩
set_option maxHeartbeats 4000000 in
theorem m_X4_init (l : Launch) {K : QK} {G : State → Prop} (hG : QG G) {ea mi : Nat} (hLs : QLs K G ea mi) {A B : QA} {L : QL} {X : QX} {M : QM} {q : Nat} (hq : M q = some (.inr (4, [.null, .null, .null, .null, .null, .int 0, .null]))) : MC l K G yX4_init (ws_ yX4_init cX4_init 1 none) 5 160 2 7 [.ref q] (A, B, L, X, M) (fun v w' => ∃ (ca da : Nat) (M' : QM), v = none ∧ w' = (A, B, L, X, M') ∧ M ca = none ∧ M da = none ∧ ca ≠ da ∧ M' q = some (.inr (4, [.ref ca, .null, .null, .null, .null, .int 0, .ref da])) ∧ M' ca = some (.inl (K.2.2.2.2 6, 4, .inr (.inr (.inr (.inr (fun _ => none)))))) ∧ LM K ea M' da ea [] ∧ ∀ z, z ≠ q → z ≠ ca → z ≠ da → M' z = M z) := by
  refine MC.ofI (by decide) (Nat.le_of_ble_eq_true rfl) (lv := [(0, .ref q)]) rfl (fun p e s m below meth c ls E hr hin hl hw => ?_)
  have hx := E.1
  have hb := E.2.1
  have hown := E.2.2.1
  have hts := E.2.2.2.2.1
  refine lv_aload_n hx hb dX4_init_0 rfl (lv_at hl 0 rfl) ?_
  refine W.objInit hx hb hown (hts _ q347) (hts _ q178) (hts _ q179) rfl (hl.1.trans E.2.2.2.2.2.2.2.symm) rfl dX4_init_1 (Nat.le_of_ble_eq_true rfl) (Nat.le_of_ble_eq_true rfl) ?_
  refine lv_aload_n hx hb dX4_init_4 rfl (lv_at hl 0 rfl) ?_
  refine lv_iconst (v := (4:Int32)) hx hb dX4_init_5 (by decide) ?_
  refine r_newQ (t := 6) (N := 4) E hw rfl q348 ((hLs.2.2.2 s E.2.2.2.2.2.1).2) rfl (by decide) (Nat.le_of_ble_eq_true rfl) (Nat.le_of_ble_eq_true rfl) dX4_init_6 (fun ca H1 hw hca _ => ?_)
  have hca : M ca = none := hca
  have hne : q ≠ ca := fun e9 => by rw [e9, hca] at hq; cases hq
  refine r_putF E hw (show va_up M ca _ q = _ from (va_up_n hne).trans hq) (T := TX4) (N := 7) rfl in_X4 tyX4 tyX4_ok nmX4 0 (by decide) q376 rfl hin rfl rfl rfl (show 0 < 7 by decide) dX4_init_9 (fun H locs hw => ?_)
  refine lv_aload_n hx hb dX4_init_12 rfl (lv_at hl 0 rfl) ?_
  refine r_new (ci := 17) (fs := [.int 0, .null, .int 0]) E hw (T := TJ2) (N := 3) rfl in_J2 tyJ2 tyJ2_ok q350 q351 q145 (fun j hj => by match j, hj with
    | 0, _ => rfl
    | 1, _ => rfl
    | 2, _ => rfl
    | j + 3, hj => exact absurd hj (by omega)) (Nat.le_of_ble_eq_true rfl) (Nat.le_of_ble_eq_true rfl) dX4_init_13 (fun da H1 hw hda _ _ => ?_)
  have hda0 : va_up (va_up M ca (some (.inl (K.2.2.2.2 6, 4, .inr (.inr (.inr (.inr (fun _ => none)))))))) q (some (.inr (4, [.ref ca, .null, .null, .null, .null, .int 0, .null]))) da = none := hda
  have hdq : da ≠ q := fun e9 => by rw [e9, va_up_s] at hda0; cases hda0
  have hdc : da ≠ ca := fun e9 => by rw [e9, va_up_n (Ne.symm hne), va_up_s] at hda0; cases hda0
  have hda1 : M da = none := by rw [va_up_n hdq, va_up_n hdc] at hda0; exact hda0
  refine lv_dup hx hb dX4_init_16 rfl ?_
  refine c_I (As := []) (rest := [.ref da, .ref q]) hG E hw (m_J2_init l hG hLs va_up_s) (cwI 0 hts (lw_meth q354) rfl rfl rfl (hts _ q145) (hts _ q352) (hts _ q353) rfl kd_J2_init ⟨Nat.le_of_ble_eq_true rfl, Nat.le_of_ble_eq_true rfl⟩) hl rfl rfl (Nat.le_of_ble_eq_true rfl) dX4_init_17 ⟨Nat.le_of_ble_eq_true rfl, Nat.le_of_ble_eq_true rfl⟩ (fun v1 w9 H1 locs1 hP hw => ?_)
  obtain ⟨rfl, rfl⟩ := hP
  simp only [va_up_up] at hw
  refine r_putF E hw ((va_up_n (Ne.symm hdq)).trans va_up_s) (T := TX4) (N := 7) rfl in_X4 tyX4 tyX4_ok nmX4 6 (by decide) q388 rfl hin rfl rfl rfl (show 6 < 7 by decide) dX4_init_20 (fun H locs hw => ?_)
  refine r_ret E hr ⟨ca, da, _, rfl, rfl, hca, hda1, Ne.symm hdc, va_up_s, ?_, ⟨0, ?_, Or.inl ⟨rfl, rfl⟩⟩, fun z h1 h2 h3 => ?_⟩ hw (Nat.le_of_ble_eq_true rfl) (Nat.le_of_ble_eq_true rfl) dX4_init_23
  · exact (va_up_n (Ne.symm hne)).trans ((va_up_n (Ne.symm hdc)).trans ((va_up_n (Ne.symm hne)).trans va_up_s))
  · exact (va_up_n hdq).trans va_up_s
  · exact (va_up_n h1).trans ((va_up_n h3).trans ((va_up_n h1).trans (va_up_n h2)))
