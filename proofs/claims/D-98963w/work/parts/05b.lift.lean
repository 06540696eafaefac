/-! labels come and go; contracts of methods that may throw a Wrong -/
set_option maxRecDepth 100000
theorem va_D.pw {A : Nat → Prop} {ws : va_W} (h : va_D A ws) : ws.Pairwise (fun p q => p.1 ≠ q.1) := by
  rw [List.pairwise_iff_getElem]
  intro i j hi hj hij e
  have := h.1 i j _ _ (List.getElem?_eq_getElem hi) (List.getElem?_eq_getElem hj) e
  omega
theorem va_D.of {A : Nat → Prop} {ws : va_W} (h : ws.Pairwise (fun p q => p.1 ≠ q.1)) (hA : ∀ q ∈ ws, A q.1) : va_D A ws := by
  rw [List.pairwise_iff_getElem] at h
  refine ⟨fun i j p q hi hj e => ?_, fun k q hk => hA q (List.mem_of_getElem? hk)⟩
  obtain ⟨hi1, rfl⟩ := List.getElem?_eq_some_iff.mp hi
  obtain ⟨hj1, rfl⟩ := List.getElem?_eq_some_iff.mp hj
  rcases Nat.lt_trichotomy i j with h1 | h1 | h1
  · exact absurd e (h i j hi1 hj1 h1)
  · exact h1
  · exact absurd e.symm (h j i hj1 hi1 h1)
/-- the same heap under other labels -/
theorem WP.lift {K K' : QK} {w w' : QW} {H : Heap} {locs : List Loc} (hw : WP K w H locs) (h1 : K'.1 = K.1) (h2 : K'.2.2.2 = K.2.2.2)
    (hl : ∀ l, ql K' l → ∃ e, QOw K w (K'.2.1 l) e ∧ (va_at K.2.2.2.1 vcl (K'.2.1 l, e) H → va_at K.2.2.2.1 vcl (K'.2.1 l, qat K' w' l) H))
    (hinj : ∀ l k, ql K' l → ql K' k → K'.2.1 l = K'.2.1 k → l = k)
    (hM : ∀ a e, w'.2.2.2.2 a = some e → w.2.2.2.2 a = some e ∧ ∀ l, ql K' l → K'.2.1 l ≠ a) : WP K' w' H locs := by
  obtain ⟨Ml, hm, hP, hD, hS⟩ := hw
  have hown : ∀ a e, QOw K w a e → (a, e) ∈ qwl K w ++ Ml := by
    intro a e h
    rcases h with ⟨l, q1, rfl, rfl⟩ | h
    · obtain ⟨i, hi⟩ := qmem q1
      exact List.mem_append_left _ (List.mem_map.mpr ⟨l, List.mem_of_getElem? hi, rfl⟩)
    · exact List.mem_append_right _ ((hm a e).mpr h)
  have hmem : ∀ l, l ∈ qlabs K' ↔ ql K' l := by
    intro l
    rw [qlabs, List.mem_filter, List.mem_range]
    exact ⟨fun h => ⟨h.2, h.1⟩, fun h => ⟨h.2, h.1⟩⟩
  have dec : ∀ q : Nat × va_E, Decidable (w'.2.2.2.2 q.1 = some q.2) := fun q => Classical.propDecidable _
  refine ⟨Ml.filter (fun q => @decide _ (dec q)), fun a e => ?_, ?_, ?_, ?_⟩
  · rw [List.mem_filter]
    constructor
    · rintro ⟨-, h⟩
      exact @of_decide_eq_true _ (dec (a, e)) h
    · intro h
      exact ⟨(hm a e).mpr (hM a e h).1, @decide_eq_true _ (dec (a, e)) h⟩
  · intro k q hk
    rw [h2]
    rcases List.mem_append.mp (List.mem_of_getElem? hk) with h | h
    · obtain ⟨l, hl1, rfl⟩ := List.mem_map.mp h
      obtain ⟨e, q1, q2⟩ := hl l ((hmem l).mp hl1)
      obtain ⟨i, hi⟩ := List.getElem?_of_mem (hown _ _ q1)
      exact q2 (hP i _ hi)
    · obtain ⟨i, hi⟩ := List.getElem?_of_mem (List.mem_append_right (qwl K w) (List.mem_filter.mp h).1)
      exact hP i _ hi
  · have hA : qA K' = qA K := by unfold qA; rw [h1]
    rw [hA]
    refine va_D.of ?_ ?_
    · rw [List.pairwise_append]
      refine ⟨?_, ?_, ?_⟩
      · rw [qwl, List.pairwise_map]
        have h3 : (qlabs K').Pairwise (fun a b => a ≠ b) := by
          refine List.Pairwise.filter _ ?_
          exact List.Pairwise.imp (fun h => Nat.ne_of_lt h) List.pairwise_lt_range
        refine List.Pairwise.imp_of_mem (fun {a b} ha hb hab e => hab (hinj a b ((hmem a).mp ha) ((hmem b).mp hb) e)) h3
      · refine List.Pairwise.filter _ ?_
        exact ((List.pairwise_append.mp hD.pw).2).1
      · intro p hp q hq e
        obtain ⟨l, hl1, rfl⟩ := List.mem_map.mp hp
        have hq1 := @of_decide_eq_true _ (dec q) (List.mem_filter.mp hq).2
        exact (hM _ _ hq1).2 l ((hmem l).mp hl1) e
    · intro q hq
      rcases List.mem_append.mp hq with h | h
      · obtain ⟨l, hl1, rfl⟩ := List.mem_map.mp h
        obtain ⟨e, q1, -⟩ := hl l ((hmem l).mp hl1)
        obtain ⟨i, hi⟩ := List.getElem?_of_mem (hown _ _ q1)
        exact hD.2 i (_, e) hi
      · obtain ⟨i, hi⟩ := List.getElem?_of_mem (List.mem_append_right (qwl K w) (List.mem_filter.mp h).1)
        exact hD.2 i _ hi
  · unfold qA
    rw [h1]
    exact hS
/-- a text is being read: the tokens at ta are label 13 -/
def tK (K : QK) (ta : Nat) : QK := (K.1, fun l => if l = 13 then ta else K.2.1 l, fun l => if l = 13 then true else K.2.2.1 l, K.2.2.2)
theorem tK_ad {K : QK} {ta l : Nat} (h : l ≠ 13) : (tK K ta).2.1 l = K.2.1 l := if_neg h
theorem tK_13 {K : QK} {ta : Nat} : ql (tK K ta) 13 := ⟨rfl, by decide⟩
theorem tK_ql {K : QK} {ta l : Nat} (h : ql K l) : ql (tK K ta) l := by
  refine ⟨?_, h.2⟩
  show (if l = 13 then true else K.2.2.1 l) = true
  by_cases e : l = 13
  · rw [if_pos e]
  · rw [if_neg e]; exact h.1
theorem tK_C {K : QK} {ta : Nat} (h : QCl K) : QCl (tK K ta) := fun l hl => tK_ql (h l hl)
theorem tK_M {K : QK} {ta : Nat} (h : QMl K) : QMl (tK K ta) := fun l hl => tK_ql (h l hl)
theorem arrV_ext {c : ClassId} {n : Nat} {f g : Nat → Value} (h : ∀ i, i < n → f i = g i) : arrV c n f = arrV c n g := by
  unfold arrV
  congr 1
  apply Array.ext
  · simp
  · intro i h1 h2
    simp only [Array.getElem_ofFn]
    exact h i (by simpa using h1)
/-- a grid's cell names the addresses of its rows alone -/
theorem qg_at {D : va_G} {H : Heap} {a n b : Nat} {c : ClassId} {f g : Nat → Nat} (h : ∀ i, i < n → f (b + i) = g (b + i)) (q : va_at D vcl (a, .inl (c, n, .inr (.inr (.inr (.inr (qgrid f b)))))) H) : va_at D vcl (a, .inl (c, n, .inr (.inr (.inr (.inr (qgrid g b)))))) H := by
  refine Eq.trans q (congrArg some ?_)
  show arrV c n (fun j => va_rf (qgrid f b j)) = arrV c n (fun j => va_rf (qgrid g b j))
  refine arrV_ext (fun i hi => ?_)
  show va_rf (some (f (b + i))) = va_rf (some (g (b + i)))
  rw [h i hi]
theorem tK_at {K : QK} {ta l : Nat} {D : va_G} {H : Heap} {d : Nat} {a b : Nat → Int32} {L : Nat → Int64} {x : Nat → Option Nat} (hl : l ≠ 13) : (va_at D vcl (d, qcont K l a b L x) H ↔ va_at D vcl (d, qcont (tK K ta) l a b L x) H) := by
  have ne : ∀ (b n i : Nat), 13 < b ∨ b + n ≤ 13 → i < n → K.2.1 (b + i) = (tK K ta).2.1 (b + i) := fun b n i h hi => (tK_ad (by omega)).symm
  by_cases h0 : l = 0
  · subst h0; exact Iff.rfl
  by_cases h1 : l = 1
  · subst h1; exact Iff.rfl
  by_cases h2 : l = 2
  · subst h2; exact Iff.rfl
  by_cases h3 : l = 3
  · subst h3; exact Iff.rfl
  by_cases h6 : l = 6
  · subst h6
    exact ⟨fun q => qg_at (fun i hi => ne 7 3 i (by omega) hi) q, fun q => qg_at (fun i hi => (ne 7 3 i (by omega) hi).symm) q⟩
  by_cases h102 : l = 102
  · subst h102
    exact ⟨fun q => qg_at (fun i hi => ne 110 8 i (by omega) hi) q, fun q => qg_at (fun i hi => (ne 110 8 i (by omega) hi).symm) q⟩
  by_cases h103 : l = 103
  · subst h103
    exact ⟨fun q => qg_at (fun i hi => ne 120 8 i (by omega) hi) q, fun q => qg_at (fun i hi => (ne 120 8 i (by omega) hi).symm) q⟩
  by_cases h104 : l = 104
  · subst h104
    exact ⟨fun q => qg_at (fun i hi => ne 130 8 i (by omega) hi) q, fun q => qg_at (fun i hi => (ne 130 8 i (by omega) hi).symm) q⟩
  by_cases h105 : l = 105
  · subst h105
    exact ⟨fun q => qg_at (fun i hi => ne 140 8 i (by omega) hi) q, fun q => qg_at (fun i hi => (ne 140 8 i (by omega) hi).symm) q⟩
  by_cases h106 : l = 106
  · subst h106
    exact ⟨fun q => qg_at (fun i hi => ne 150 30 i (by omega) hi) q, fun q => qg_at (fun i hi => (ne 150 30 i (by omega) hi).symm) q⟩
  by_cases h202 : l = 202
  · subst h202
    exact ⟨fun q => qg_at (fun i hi => ne 210 8 i (by omega) hi) q, fun q => qg_at (fun i hi => (ne 210 8 i (by omega) hi).symm) q⟩
  by_cases h203 : l = 203
  · subst h203
    exact ⟨fun q => qg_at (fun i hi => ne 220 8 i (by omega) hi) q, fun q => qg_at (fun i hi => (ne 220 8 i (by omega) hi).symm) q⟩
  by_cases h204 : l = 204
  · subst h204
    exact ⟨fun q => qg_at (fun i hi => ne 230 8 i (by omega) hi) q, fun q => qg_at (fun i hi => (ne 230 8 i (by omega) hi).symm) q⟩
  by_cases h205 : l = 205
  · subst h205
    exact ⟨fun q => qg_at (fun i hi => ne 240 8 i (by omega) hi) q, fun q => qg_at (fun i hi => (ne 240 8 i (by omega) hi).symm) q⟩
  by_cases h206 : l = 206
  · subst h206
    exact ⟨fun q => qg_at (fun i hi => ne 250 30 i (by omega) hi) q, fun q => qg_at (fun i hi => (ne 250 30 i (by omega) hi).symm) q⟩
  by_cases h107 : l = 107
  · subst h107; exact Iff.rfl
  by_cases h207 : l = 207
  · subst h207; exact Iff.rfl
  by_cases h1000 : l = 1000
  · subst h1000; exact Iff.rfl
  by_cases h1008 : l = 1008
  · subst h1008; exact Iff.rfl
  by_cases h1009 : l = 1009
  · subst h1009; exact Iff.rfl
  simp only [qcont, if_neg hl, if_neg h0, if_neg h1, if_neg h2, if_neg h3, if_neg h6, if_neg h102, if_neg h103, if_neg h104, if_neg h105, if_neg h106, if_neg h202, if_neg h203, if_neg h204, if_neg h205, if_neg h206, if_neg h107, if_neg h207, if_neg h1000, if_neg h1008, if_neg h1009]
  exact Iff.rfl
theorem WP.tok {K : QK} {A B : QA} {L : QL} {X : QX} {M : QM} {ta : Nat} {f : Nat → Int32} {H : Heap} {locs : List Loc} (hw : WP K (A, B, L, X, M) H locs) (h3 : ql K 3) (hn : ¬ ql K 13) (ht : M ta = some (.inr (3, tfl K f))) : WP (tK K ta) (qset A 13 f, B, L, X, va_up M ta none) H locs := by
  have hne : ∀ l, ql K l → l ≠ 13 := fun l h e => hn (e ▸ h)
  have hold : ∀ l, ql (tK K ta) l → l ≠ 13 → ql K l := by
    intro l h e
    refine ⟨?_, h.2⟩
    have h1 : (if l = 13 then true else K.2.2.1 l) = true := h.1
    rw [if_neg e] at h1
    exact h1
  refine WP.lift hw rfl rfl (fun l hl => ?_) (fun l k hl hk e => ?_) (fun a e h => ?_)
  · by_cases e : l = 13
    · subst e
      refine ⟨_, Or.inr ht, fun q => ?_⟩
      have e1 : qat (tK K ta) (qset A 13 f, B, L, X, va_up M ta none) 13 = .inr (3, tfl K f) := by
        show Sum.inr (3, tfl (tK K ta) (qset A 13 f 13)) = _
        rw [qset_s]
        rfl
      rw [e1]
      exact q
    · refine ⟨_, Or.inl ⟨l, hold l hl e, tK_ad e, rfl⟩, fun q => ?_⟩
      have e1 : qset A 13 f l = A l := qset_n e
      show va_at _ _ (_, qcont (tK K ta) l (qset A 13 f l) (B l) (L l) (X l)) H
      rw [e1]
      exact (tK_at e).mp q
  · by_cases e1 : l = 13
    · by_cases e2 : k = 13
      · rw [e1, e2]
      · subst e1
        rw [tK_ad e2] at e
        have h1 := hw.apart (hold k hk e2)
        rw [← e] at h1
        have h2 : M ta = none := h1
        rw [ht] at h2
        cases h2
    · by_cases e2 : k = 13
      · subst e2
        rw [tK_ad e1] at e
        have h1 := hw.apart (hold l hl e1)
        rw [e] at h1
        have h2 : M ta = none := h1
        rw [ht] at h2
        cases h2
      · rw [tK_ad e1, tK_ad e2] at e
        exact hw.inj (hold l hl e1) (hold k hk e2) e
  · have h1 : (if a = ta then none else M a) = some e := h
    by_cases ea : a = ta
    · rw [if_pos ea] at h1; cases h1
    · rw [if_neg ea] at h1
      refine ⟨h1, fun l hl e1 => ?_⟩
      by_cases e2 : l = 13
      · subst e2; exact ea e1.symm
      · rw [tK_ad e2] at e1
        have h2 := hw.apart (hold l hl e2)
        rw [e1] at h2
        have h3 : M a = none := h2
        rw [h1] at h3
        cases h3
theorem WP.untok {K : QK} {A B : QA} {L : QL} {X : QX} {M : QM} {ta : Nat} {H : Heap} {locs : List Loc} (hw : WP (tK K ta) (A, B, L, X, M) H locs) (hn : ¬ ql K 13) : WP K (A, B, L, X, M) H locs := by
  have hne : ∀ l, ql K l → l ≠ 13 := fun l h e => hn (e ▸ h)
  refine WP.lift hw rfl rfl (fun l hl => ?_) (fun l k hl hk e => ?_) (fun a e h => ⟨h, fun l hl e1 => ?_⟩)
  · exact ⟨_, Or.inl ⟨l, tK_ql hl, (tK_ad (hne l hl)).symm, rfl⟩, fun q => (tK_at (hne l hl)).mpr q⟩
  · rw [← tK_ad (K := K) (ta := ta) (hne l hl), ← tK_ad (K := K) (ta := ta) (hne k hk)] at e
    exact hw.inj (tK_ql hl) (tK_ql hk) e
  · rw [← tK_ad (K := K) (ta := ta) (hne l hl)] at e1
    have h2 := hw.apart (tK_ql (ta := ta) hl)
    rw [e1] at h2
    have h3 : M a = none := h2
    have h4 : M a = some e := h
    rw [h4] at h3
    cases h3
/-! contracts of methods that may throw -/
abbrev XE (K : QK) (PX : Nat → QW → Prop) : Addr → String → State → State → Prop := fun q E _ t => E = RX5 ∧ ∃ w' : QW, PX q w' ∧ WP K w' t.heap []
def MX (l : Launch) (K : QK) (G : State → Prop) (y : MethodName) (ws : List Cond) (fr lo mc ms : Nat) (av : List Value) (w : QW) (P : Option Value → QW → Prop) (PX : Nat → QW → Prop) : Prop :=
  vq_Met l y ws (qrm fr lo mc ms) (va_Pc av (IN K G w)) (QE K P) (XE K PX) mc ms (qA K)
abbrev XQ (below : List Frame) (K : QK) (P : Option Value → QW → Prop) (PX : Nat → QW → Prop) (a : Array Value) (s : State) (mc ms : Nat) : State → Prop := vq_MQ below (QE K P) (XE K PX) a s mc ms (qA K)
section MYX
variable {p : Program} {l : Launch} {e : Env} {R : Room} {s : State} {m : MethodId} {args : Array Value} {below : List Frame} {meth : Method} {c : Code} {H : Heap} {locs : List Loc} {cells slots : Nat} {Q : State → Prop}
variable {cc : ByteArray} {pc : Nat} {ls : Array Slot} {rest : List Value} {a : Nat} {own : String} {nL : Nat}
variable {K : QK} {G : State → Prop} {w : QW}
theorem MX.of {y : MethodName} {fr lo mc ms : Nat} {av : List Value} {P : Option Value → QW → Prop} {PX : Nat → QW → Prop} {bytes : ByteArray} {maxL : Nat} {ret : Option FieldType} (hy : plainName y.cls = true) (hlen : (lg_sl av).length ≤ maxL) {lv : List (Nat × Value)} (hlv : lv_args 0 av = lv)
    (body : ∀ (p : Program) (e : Env) (s : State) (m : MethodId) (below : List Frame) (meth : Method) (c : Code) (ls : Array Slot), EV K G p s m av.toArray meth c bytes y.cls maxL → meth.sig.returnType = ret → (∀ x ∈ c.exceptionTable.toList, False) → lv_has ls maxL lv → WP K w s.heap [] →
      W p l e (qrm fr lo mc ms) s m av.toArray below meth c s.heap [] 0 0 (XQ below K P PX av.toArray s mc ms) (F0 m 0 ls [])) : MX l K G y (ws_ y bytes maxL ret) fr lo mc ms av w P PX := by
  refine vq_ofW (cc := bytes) (maxL := maxL) (ret := ret) hy rfl ?_
  intro p e s m args below meth c s₁ B hml hx hv
  obtain ⟨rfl, hK, hG, hw⟩ := hv
  have hts := atoms_spec (ws := ws_ y bytes maxL ret) B.pre
  have hts : ∀ w ∈ lw_all, w.before _ s = true := fun w h => hts w (List.mem_cons_of_mem _ h)
  have hown : s.vm.findClass y.cls = some m.cls := findClass_of_methodNamed B.named
  have hl := lv_entry av (n := maxL) hlen
  rw [lg_entry_eq]
  rw [hlv] at hl
  exact body p e s m below meth c _ ⟨B.exec, B.bytes, hown, hK, hts, hG, B.notSynchronized, hml⟩ B.returns hx hl hw
/-- what is thrown from here: its cell, the world -/
def XC9 (K : QK) (s : State) (H : Heap) (q : Nat) : Prop := ∃ ce : Cell, H[q]? = some ce ∧ ce.vm = .none ∧ s.vm.findClass RX5 = some ce.cls
theorem x_out {mc ms : Nat} {q : Nat} {P : Option Value → QW → Prop} {PX : Nat → QW → Prop} (E : EV K G p s m args meth c cc own nL) (hnt : ∀ x ∈ c.exceptionTable.toList, False) (hP : PX q w) (hw : WP K w H locs) (hc : cells ≤ mc) (hs : slots ≤ ms) (hq : XC9 K s H q) :
    vq_W p l e R s m args below meth c H locs cells slots (XQ below K P PX args s mc ms) (F0 m pc ls rest) q := by
  obtain ⟨ce, h1, h2, h3⟩ := hq
  exact vq_out (E := RX5) (fun x hx => (hnt x hx).elim) E.2.2.2.2.2.2.1 h1 h2 h3 (fun t ht hW => ⟨rfl, w, hP, by rw [ht]; exact hw.nil⟩) hw.S.2.2 hc hs
theorem x_cell {q : Nat} {fs : List Value} (E : EV K G p s m args meth c cc own nL) (hw : WP K w H locs) (hq : w.2.2.2.2 q = some (.inr (5, fs))) : XC9 K s H q := by
  obtain ⟨ws, i, hP, hi⟩ := hw.own (Or.inr hq)
  obtain ⟨r, h1, cell, g1, g2, g3, -⟩ := hP i _ hi
  exact ⟨cell, g1, g3, by rw [g2]; exact (E.2.2.2.1.1 5 _ rfl).2.1⟩
theorem x_athrow {mc ms : Nat} {q : Nat} {fs : List Value} {P : Option Value → QW → Prop} {PX : Nat → QW → Prop} (E : EV K G p s m args meth c cc own nL) (hnt : ∀ x ∈ c.exceptionTable.toList, False) (hP : PX q w) (hw : WP K w H locs) (hq : w.2.2.2.2 q = some (.inr (5, fs))) (hc : cells ≤ mc) (hs : slots ≤ ms) (hdg : decode cc pc = .ok (.athrow, 1)) :
    W p l e R s m args below meth c H locs cells slots (XQ below K P PX args s mc ms) (F0 m pc ls (.ref q :: rest)) :=
  vq_athrow E.1 E.2.1 hdg (x_out E hnt hP hw hc hs (x_cell E hw hq))
theorem c_XV {y : MethodName} {bytes : ByteArray} {maxL fr lo mc ms n index b ci N : Nat} {C : String} {T : u_T} {fs As : List Value} {ret : Option FieldType} {P : Option Value → QW → Prop} {PX : Nat → QW → Prop} {lv : List (Nat × Value)} (hG : QG G) (E : EV K G p s m args meth c cc own nL) (hw : WP K w H locs) (hM : MX l K G y (ws_ y bytes maxL ret) fr lo mc ms (.ref b :: As) w P PX) (hq : QAt K w b (.inr (ci, fs))) (hc : vcl[ci]? = some (C, T, N)) (cw : CallW R s args own C index y bytes maxL ret (ws_ y bytes maxL ret) (qrm fr lo mc ms) mc ms n) (hl : lv_has ls nL lv) (hn : As.length = n) {st0 : List Value} (hst : st0 = As.reverse ++ .ref b :: rest) (hW : (rest.map fun v => v.category).sum ≤ 8) (hdg : decode cc pc = .ok (.invokevirtual index, 3)) (hf : cells + mc ≤ R.cells ∧ slots + ms ≤ R.slots)
    (kk : ∀ (v : Option Value) (w' : QW) (H1 : Heap) (locs1 : List Loc), P v w' → WP K w' H1 locs1 → W p l e R s m args below meth c H1 locs1 (cells + mc) (slots + ms) Q (F0 m (pc + 3) ls (v.toList ++ rest)))
    (kx : ∀ (q : Nat) (w' : QW) (H1 : Heap) (locs1 : List Loc), PX q w' → WP K w' H1 locs1 → XC9 K s H1 q → vq_W p l e R s m args below meth c H1 locs1 (cells + mc) (slots + ms) Q (F0 m pc ls rest) q) : W p l e R s m args below meth c H locs cells slots Q (F0 m pc ls st0) := by
  have hr : vq_Run p l e R s m args below meth c H locs cells slots mc ms (F0 m pc ls st0) rest (QE K P (Value.ref b :: As).toArray) (XE K PX) (qA K) := vq_runV (Ts := lw_all) ⟨E.1, E.2.1, E.2.2.2.2.2.2.2, E.2.2.1, E.2.2.2.2.1⟩ hM cw ⟨in_blind hG _ w, in_recv E hw hq hc, in_pre hG E hw _⟩ rfl hn hl.1 hst (lv_room hW) hdg hf
  intro T hT X
  have join : ∀ (w' : QW) (T' t : State) (L : List Loc), WP K w' t.heap [] → T'.heap = t.heap → (∀ z ∈ L, qA K z.base) → WP K w' T'.heap (locs ++ L) := by
    intro w' T' t L hwp e1 hL
    rw [e1]
    refine hwp.locs (fun x hx => ?_)
    rcases List.mem_append.mp hx with h | h
    · exact hw.S.2.2 x h
    · exact hL x h
  rcases hr T hT X with ⟨v, st₀, t, T', L, h0, X', hL, e1, e2, ⟨v', w', hv, hp, hwp⟩, st⟩ | ⟨q, st₀, t, T', L, E9, ce, h0, X', hL, e1, e2, ⟨rfl, w', hp, hwp⟩, hce, hcv, hcl, st⟩
  · cases hv
    obtain ⟨t2, a1, b1⟩ := kk v w' T'.heap (locs ++ L) hp (join w' T' t L hwp e1 hL) T' rfl X'
    exact ⟨t2, st t2 a1, b1⟩
  · obtain ⟨t2, a1, b1⟩ := kx q w' T'.heap (locs ++ L) hp (join w' T' t L hwp e1 hL) ⟨ce, by rw [e1]; exact hce, hcv, hcl⟩ T' rfl X'
    exact ⟨t2, st.trans a1, b1⟩
end MYX
