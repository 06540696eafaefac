/-! constructors: grids, arrays, cells that are one's own, labels laid on them; contracts that lay labels -/
set_option maxRecDepth 100000
/-- the same heap under other labels; cells that had labels may be cells by address now -/
theorem WP.relab {K K' : QK} {w w' : QW} {H : Heap} {locs : List Loc} (hw : WP K w H locs) (h1 : K'.1 = K.1) (h2 : K'.2.2.2 = K.2.2.2)
    (hl : ∀ l, ql K' l → ∃ e, QOw K w (K'.2.1 l) e ∧ (va_at K.2.2.2.1 vcl (K'.2.1 l, e) H → va_at K.2.2.2.1 vcl (K'.2.1 l, qat K' w' l) H))
    (hinj : ∀ l k, ql K' l → ql K' k → K'.2.1 l = K'.2.1 k → l = k)
    (hM : ∀ a e, w'.2.2.2.2 a = some e → QOw K w a e ∧ ∀ l, ql K' l → K'.2.1 l ≠ a) : WP K' w' H locs := by
  obtain ⟨Ml, hm, hP, hD, hS⟩ := hw
  have hown : ∀ a e, QOw K w a e → (a, e) ∈ qwl K w ++ Ml := by
    intro a e h
    rcases h with ⟨l, q1, rfl, rfl⟩ | h
    · obtain ⟨i, hi⟩ := qmem q1
      exact List.mem_append_left _ (List.mem_map.mpr ⟨l, List.mem_of_getElem? hi, rfl⟩)
    · exact List.mem_append_right _ ((hm a e).mpr h)
  have hmem : ∀ l, l ∈ qlabs K' ↔ ql K' l := by
    intro l
    rw [qlabs, List.mem_filter, List.mem_range]
    exact ⟨fun h => ⟨h.2, h.1⟩, fun h => ⟨h.2, h.1⟩⟩
  have dec : ∀ q : Nat × va_E, Decidable (w'.2.2.2.2 q.1 = some q.2) := fun q => Classical.propDecidable _
  refine ⟨(qwl K w ++ Ml).filter (fun q => @decide _ (dec q)), fun a e => ?_, ?_, ?_, ?_⟩
  · rw [List.mem_filter]
    constructor
    · rintro ⟨-, h⟩
      exact @of_decide_eq_true _ (dec (a, e)) h
    · intro h
      exact ⟨hown _ _ (hM a e h).1, @decide_eq_true _ (dec (a, e)) h⟩
  · intro k q hk
    rw [h2]
    rcases List.mem_append.mp (List.mem_of_getElem? hk) with h | h
    · obtain ⟨l, hl1, rfl⟩ := List.mem_map.mp h
      obtain ⟨e, q1, q2⟩ := hl l ((hmem l).mp hl1)
      obtain ⟨i, hi⟩ := List.getElem?_of_mem (hown _ _ q1)
      exact q2 (hP i _ hi)
    · obtain ⟨i, hi⟩ := List.getElem?_of_mem (List.mem_filter.mp h).1
      exact hP i _ hi
  · have hA : qA K' = qA K := by unfold qA; rw [h1]
    rw [hA]
    refine va_D.of ?_ ?_
    · rw [List.pairwise_append]
      refine ⟨?_, ?_, ?_⟩
      · rw [qwl, List.pairwise_map]
        have h3 : (qlabs K').Pairwise (fun a b => a ≠ b) := by
          refine List.Pairwise.filter _ ?_
          exact List.Pairwise.imp (fun h => Nat.ne_of_lt h) List.pairwise_lt_range
        refine List.Pairwise.imp_of_mem (fun {a b} ha hb hab e => hab (hinj a b ((hmem a).mp ha) ((hmem b).mp hb) e)) h3
      · exact List.Pairwise.filter _ hD.pw
      · intro p hp q hq e
        obtain ⟨l, hl1, rfl⟩ := List.mem_map.mp hp
        have hq1 := @of_decide_eq_true _ (dec q) (List.mem_filter.mp hq).2
        exact (hM _ _ hq1).2 l ((hmem l).mp hl1) e
    · intro q hq
      rcases List.mem_append.mp hq with h | h
      · obtain ⟨l, hl1, rfl⟩ := List.mem_map.mp h
        obtain ⟨e, q1, -⟩ := hl l ((hmem l).mp hl1)
        obtain ⟨i, hi⟩ := List.getElem?_of_mem (hown _ _ q1)
        exact hD.2 i (_, e) hi
      · obtain ⟨i, hi⟩ := List.getElem?_of_mem (List.mem_filter.mp h).1
        exact hD.2 i _ hi
  · unfold qA
    rw [h1]
    exact hS
/-- cells that are one's own: made since M0 -/
def OwnL (M0 M : QM) (Z : va_W) : Prop := QExt M0 M ∧ (∀ q ∈ Z, M q.1 = some q.2 ∧ M0 q.1 = none) ∧ (Z.map (fun q => q.1)).Nodup
theorem OwnL.new {M0 M : QM} {Z : va_W} {q : Nat} {e : va_E} (h : OwnL M0 M Z) (hq : M q = none) : OwnL M0 (va_up M q (some e)) (Z ++ [(q, e)]) := by
  obtain ⟨h1, h2, h3⟩ := h
  have hz : ∀ p ∈ Z, p.1 ≠ q := fun p hp e9 => by rw [← e9, (h2 p hp).1] at hq; cases hq
  refine ⟨QExt.up2 h1 (h1.no hq), fun p hp => ?_, ?_⟩
  · rcases List.mem_append.mp hp with hp | hp
    · exact ⟨(va_up_n (hz p hp)).trans (h2 p hp).1, (h2 p hp).2⟩
    · rw [List.mem_singleton] at hp
      subst hp
      exact ⟨va_up_s, h1.no hq⟩
  · rw [List.map_append, List.nodup_append]
    refine ⟨h3, by simp, fun a ha b hb e9 => ?_⟩
    obtain ⟨p, hp, rfl⟩ := List.mem_map.mp ha
    rw [List.map_cons, List.map_nil, List.mem_singleton] at hb
    exact hz p hp (e9.trans hb)
theorem OwnL.set {M0 M : QM} {Z : va_W} {a : Nat} {e0 e : va_E} (i : Nat) (h : OwnL M0 M Z) (hi : Z[i]? = some (a, e0)) : OwnL M0 (va_up M a (some e)) (Z.set i (a, e)) := by
  obtain ⟨h1, h2, h3⟩ := h
  have ha := h2 _ (List.mem_of_getElem? hi)
  have hlt := (List.getElem?_eq_some_iff.mp hi).1
  have hm : (Z.set i (a, e)).map (fun q => q.1) = Z.map (fun q => q.1) := by
    rw [List.map_set]
    apply List.ext_getElem?
    intro j
    rw [List.getElem?_set]
    by_cases hj : i = j
    · subst hj
      rw [if_pos rfl, if_pos (by rw [List.length_map]; exact hlt), List.getElem?_map, hi]
      rfl
    · rw [if_neg hj]
  refine ⟨QExt.up2 h1 ha.2, fun p hp => ?_, by rw [hm]; exact h3⟩
  obtain ⟨j, hj⟩ := List.getElem?_of_mem hp
  rw [List.getElem?_set] at hj
  by_cases hij : i = j
  · subst hij
    rw [if_pos rfl, if_pos hlt] at hj
    cases hj
    exact ⟨va_up_s, ha.2⟩
  · rw [if_neg hij] at hj
    have hp2 := h2 p (List.mem_of_getElem? hj)
    refine ⟨(va_up_n (fun e9 => ?_)).trans hp2.1, hp2.2⟩
    have k1 : (Z.map (fun q => q.1))[i]? = some a := by rw [List.getElem?_map, hi]; rfl
    have k2 : (Z.map (fun q => q.1))[j]? = some a := by rw [List.getElem?_map, hj, ← e9]; rfl
    obtain ⟨k4, k5⟩ := List.getElem?_eq_some_iff.mp k1
    obtain ⟨k6, k7⟩ := List.getElem?_eq_some_iff.mp k2
    have hp3 := List.pairwise_iff_getElem.mp (List.nodup_iff_pairwise_ne.mp h3)
    rcases Nat.lt_or_gt_of_ne hij with g | g
    · exact hp3 i j k4 k6 g (k5.trans k7.symm)
    · exact hp3 j i k6 k4 g (k7.trans k5.symm)
theorem OwnL.get {M0 M : QM} {Z : va_W} {a : Nat} {e : va_E} (i : Nat) (h : OwnL M0 M Z) (hi : Z[i]? = some (a, e)) : M a = some e := (h.2.1 _ (List.mem_of_getElem? hi)).1
/-- a grid's cells -/
abbrev grZ (K : QK) (h0 N k : Nat) : va_W := (h0, .inl (K.2.2.2.2 4, N, .inr (.inr (.inr (.inr (fun i => some (h0 + 1 + i))))))) :: (List.range N).map (fun i => (h0 + 1 + i, .inl (K.2.2.2.2 0, k, .inl (fun _ => 0))))
def grM (K : QK) (M : QM) (h0 N k : Nat) : QM := fun z => if z = h0 then some (.inl (K.2.2.2.2 4, N, .inr (.inr (.inr (.inr (fun i => some (h0 + 1 + i))))))) else if h0 < z ∧ z ≤ h0 + N then some (.inl (K.2.2.2.2 0, k, .inl (fun _ => 0))) else M z
theorem grM_mem {K : QK} {M : QM} {h0 N k a : Nat} {e : va_E} (hn : ∀ z, h0 ≤ z → M z = none) : grM K M h0 N k a = some e ↔ (a, e) ∈ grZ K h0 N k ∨ M a = some e := by
  unfold grM grZ
  rw [List.mem_cons, List.mem_map]
  constructor
  · intro h
    by_cases c1 : a = h0
    · rw [if_pos c1] at h
      refine Or.inl (Or.inl ?_)
      rw [c1, ← Option.some.inj h]
    rw [if_neg c1] at h
    by_cases c2 : h0 < a ∧ a ≤ h0 + N
    · rw [if_pos c2] at h
      refine Or.inl (Or.inr ⟨a - h0 - 1, List.mem_range.mpr (by omega), ?_⟩)
      rw [show h0 + 1 + (a - h0 - 1) = a by omega, ← Option.some.inj h]
    · rw [if_neg c2] at h
      exact Or.inr h
  · rintro ((h | ⟨i, hi, h⟩) | h)
    · cases h
      rw [if_pos rfl]
    · cases h
      have := List.mem_range.mp hi
      rw [if_neg (by omega), if_pos (by omega)]
    · have c1 : ¬ h0 ≤ a := fun q => by rw [hn a q] at h; cases h
      rw [if_neg (by omega), if_neg (by omega)]
      exact h
theorem grZ_nodup {K : QK} {h0 N k : Nat} : ((grZ K h0 N k).map (fun q => q.1)).Nodup := by
  show (h0 :: ((List.range N).map _).map _).Nodup
  rw [List.map_map, List.nodup_cons]
  constructor
  · intro h
    obtain ⟨i, -, hi⟩ := List.mem_map.mp h
    have hi : h0 + 1 + i = h0 := hi
    omega
  · rw [List.nodup_iff_pairwise_ne, List.pairwise_map]
    refine List.Pairwise.imp (fun {a b} hab e => ?_) List.pairwise_lt_range
    have e : h0 + 1 + a = h0 + 1 + b := e
    omega
theorem OwnL.grid {K : QK} {M0 M : QM} {Z : va_W} {h0 N k : Nat} (h : OwnL M0 M Z) (hn : ∀ z, h0 ≤ z → M z = none) : OwnL M0 (grM K M h0 N k) (Z ++ grZ K h0 N k) := by
  obtain ⟨h1, h2, h3⟩ := h
  have hz : ∀ p ∈ Z, p.1 < h0 := fun p hp => by
    by_cases q : h0 ≤ p.1
    · have := (h2 p hp).1
      rw [hn _ q] at this
      cases this
    · omega
  have hge : ∀ p ∈ grZ K h0 N k, h0 ≤ p.1 := by
    intro p hp
    rcases List.mem_cons.mp hp with hp | hp
    · rw [hp]; exact Nat.le_refl _
    · obtain ⟨i, -, rfl⟩ := List.mem_map.mp hp
      show h0 ≤ h0 + 1 + i
      omega
  refine ⟨fun a e ha => (grM_mem hn).mpr (Or.inr (h1 a e ha)), fun p hp => ?_, ?_⟩
  · rcases List.mem_append.mp hp with hp | hp
    · exact ⟨(grM_mem hn).mpr (Or.inr (h2 p hp).1), (h2 p hp).2⟩
    · exact ⟨(grM_mem hn).mpr (Or.inl hp), h1.no (hn _ (hge p hp))⟩
  · rw [List.map_append, List.nodup_append]
    refine ⟨h3, grZ_nodup, fun a ha b hb e9 => ?_⟩
    obtain ⟨p, hp, rfl⟩ := List.mem_map.mp ha
    obtain ⟨p2, hp2, rfl⟩ := List.mem_map.mp hb
    have := hz p hp
    have := hge p2 hp2
    omega
theorem outer_eq {c : ClassId} {N h0 : Nat} : ∀ i, Jvm.Free.Multi.outerC c N h0 i = { cls := c, slots := (Jvm.Free.Multi.outerC c N h0 i).slots, vm := .none } := by
  intro i
  induction i with
  | zero => rfl
  | succ i ih =>
    show (Jvm.Free.Multi.outerC c N h0 i).setSlot i _ = { cls := c, slots := ((Jvm.Free.Multi.outerC c N h0 i).setSlot i _).slots, vm := .none }
    rw [ih]
    rfl
theorem outer_arr {c : ClassId} {N h0 : Nat} : Jvm.Free.Multi.outerC c N h0 N = arrV c N (fun j => va_rf (some (h0 + 1 + j))) := by
  obtain ⟨o1, o2, o3⟩ := Jvm.Free.Multi.outerC_facts c N h0 N
  have hs : (Jvm.Free.Multi.outerC c N h0 N).slots = (arrV c N (fun j => va_rf (some (h0 + 1 + j)))).slots := by
    apply Array.ext
    · rw [o3, arrV_size]
    · intro i hi hi2
      have hi3 : i < N := by rw [o3] at hi; exact hi
      have e1 := Jvm.Free.Multi.outerC_slot c N h0 N i hi3
      have e2 := arrV_read c (fun j => va_rf (some (h0 + 1 + j))) hi3
      rw [if_pos hi3] at e1
      rw [Array.getElem?_eq_getElem hi] at e1
      rw [Array.getElem?_eq_getElem hi2] at e2
      exact (Option.some.inj e1).trans (Option.some.inj e2).symm
  rw [outer_eq N, hs]
  rfl
theorem inner_arr {c : ClassId} {k : Nat} {dv : Value} : Jvm.Free.Multi.innerC c k dv = arrV c k (fun _ => dv) := by
  unfold Jvm.Free.Multi.innerC arrV
  congr 1
  apply Array.ext
  · simp
  · intro i h1 h2
    simp
theorem r_mnew {p : Program} {l : Launch} {e : Env} {R : Room} {s : State} {m : MethodId} {args : Array Value} {below : List Frame} {meth : Method} {c : Code} {H : Heap} {locs : List Loc} {cells slots : Nat} {Q : State → Prop} {cc : ByteArray} {pc : Nat} {ls : Array Slot} {rest : List Value} {own : String} {nL : Nat} {K : QK} {G : State → Prop} {A B : QA} {L : QL} {X : QX} {M : QM} {index N k : Nat} (E : EV K G p s m args meth c cc own nL) (hw : WP K (A, B, L, X, M) H locs) (hcl : Cond.classLink own index "[[I" ∈ lw_all) (hover : va_Nw (.arrayOver (.array .int)) s) (hN : N < 10000) (hk : k < 10000) (hcells : cells + (1 + N) ≤ R.cells) (hslots : slots + (N + N * k) ≤ R.slots) (hdg : decode cc pc = .ok (.multianewarray index 2, 4))
    (kk : ∀ (h0 : Nat) (H1 : Heap), WP K (A, B, L, X, grM K M h0 N k) H1 locs → (∀ z, h0 ≤ z → M z = none) → W p l e R s m args below meth c H1 locs (cells + 1 + N) (slots + N + N * k) Q (F0 m (pc + 4) ls (.ref h0 :: rest))) : W p l e R s m args below meth c H locs cells slots Q (F0 m pc ls (.int (nI k) :: .int (nI N) :: rest)) := by
  intro T hT X9
  obtain ⟨Ml, hm, hP, hD, hS⟩ := hw
  have nN : (nI N).toNatClampNeg = N := nI_clamp (by omega)
  have nk : (nI k).toNatClampNeg = k := nI_clamp (by omega)
  have hb : c.code = cc := E.2.1
  obtain ⟨vm₁, cA, comp, hW1, hfA, hfC, hO, hI, X1, step⟩ := X9.multianewarray2F E.1 (own := own) (index := index) (ty := .int) E.2.2.1 (E.2.2.2.2.1 _ hcl) hover (E.2.2.2.2.1 _ q223) (g := F0 m pc ls (.int (nI k) :: .int (nI N) :: rest)) rfl (by rw [hb]; exact hdg) (n := nI N) (k := nI k) (rest := rest) rfl (nI_pos (by omega)) (nI_pos (by omega)) (by rw [nN]; omega) (by rw [nk]; show k * 4 ≤ _; omega) (by rw [nk]; omega) rfl rfl (by rw [nN]; exact hcells) (by rw [nN, nk]; exact hslots)
  rw [nN, nk] at X1 step
  have eA : cA = K.2.2.2.2 4 := Option.some.inj (hfA.symm.trans (E.2.2.2.1.2 4 (K.2.2.2.2 4, .array .int) rfl).2)
  have eC : comp = K.2.2.2.2 0 := Option.some.inj (hfC.symm.trans (E.2.2.2.1.2 0 (K.2.2.2.2 0, .int) rfl).2)
  subst eA eC
  obtain ⟨f1, f2, f3, f4⟩ := Jvm.Free.Multi.fill_facts (T.setVm vm₁) (K.2.2.2.2 4) (K.2.2.2.2 0) N k (defaultValue .int) N
  have hsz : (T.setVm vm₁).heap.size = H.size := by show T.heap.size = _; rw [hT]
  have hszT : T.heap.size = H.size := by rw [hT]
  have old : ∀ z, z < H.size → (Jvm.Free.Multi.fill (T.setVm vm₁) (K.2.2.2.2 4) (K.2.2.2.2 0) N k (defaultValue .int) N).heap[z]? = H[z]? := by
    intro z hz
    rw [Jvm.Free.Multi.fill_old (T.setVm vm₁) _ _ _ _ _ (by rw [hsz]; exact hz)]
    show T.heap[z]? = _
    rw [hT]
  have hn : ∀ z, H.size ≤ z → M z = none := by
    intro z hz
    cases h9 : M z with
    | none => rfl
    | some e9 =>
      obtain ⟨i, hi⟩ := List.getElem?_of_mem (List.mem_append_right (qwl K (A, B, L, X, M)) ((hm z e9).mpr h9))
      have := (hP i _ hi).lt
      have : z < H.size := this
      omega
  have hlt : ∀ q ∈ qwl K (A, B, L, X, M) ++ Ml, q.1 < H.size := by
    intro q hq
    obtain ⟨i, hi⟩ := List.getElem?_of_mem hq
    exact (hP i _ hi).lt
  have hge : ∀ q ∈ grZ K H.size N k, H.size ≤ q.1 := by
    intro q hq
    rcases List.mem_cons.mp hq with hq | hq
    · rw [hq]; exact Nat.le_refl _
    · obtain ⟨i, -, rfl⟩ := List.mem_map.mp hq
      show H.size ≤ H.size + 1 + i
      omega
  have hw1 : WP K (A, B, L, X, grM K M H.size N k) (Jvm.Free.Multi.fill (T.setVm vm₁) (K.2.2.2.2 4) (K.2.2.2.2 0) N k (defaultValue .int) N).heap locs := by
    refine ⟨Ml ++ grZ K H.size N k, fun a e => ?_, ?_, ?_, ?_⟩
    · rw [List.mem_append, grM_mem hn, hm a e]
      exact Or.comm
    · show va_P _ _ (qwl K (A, B, L, X, M) ++ (Ml ++ grZ K H.size N k)) _
      rw [← List.append_assoc]
      refine (hP.kept (fun k x hx => old _ ((hP k x hx).lt))).app (fun i x hx => ?_)
      rcases List.mem_cons.mp (List.mem_of_getElem? hx) with hq | hq
      · rw [hq]
        have g1 : (Jvm.Free.Multi.fill (T.setVm vm₁) (K.2.2.2.2 4) (K.2.2.2.2 0) N k (defaultValue .int) N).heap[H.size]? = some (arrV (K.2.2.2.2 4) N (fun j => va_rf (some (H.size + 1 + j)))) := by
          rw [← outer_arr]
          rw [hsz] at f2
          exact f2
        exact g1
      · obtain ⟨j, hj, rfl⟩ := List.mem_map.mp hq
        have g1 : (Jvm.Free.Multi.fill (T.setVm vm₁) (K.2.2.2.2 4) (K.2.2.2.2 0) N k (defaultValue .int) N).heap[H.size + 1 + j]? = some (arrV (K.2.2.2.2 0) k (fun _ => .int 0)) := by
          have g2 := Jvm.Free.Multi.fill_inner (T.setVm vm₁) (K.2.2.2.2 4) (K.2.2.2.2 0) N k (defaultValue .int) N j (List.mem_range.mp hj)
          rw [hsz, inner_arr] at g2
          exact g2
        exact g1
    · show va_D _ (qwl K (A, B, L, X, M) ++ (Ml ++ grZ K H.size N k))
      rw [← List.append_assoc]
      refine va_D.of ?_ ?_
      · rw [List.pairwise_append]
        refine ⟨hD.pw, ?_, fun a ha b hb e9 => ?_⟩
        · have := grZ_nodup (K := K) (h0 := H.size) (N := N) (k := k)
          rw [List.nodup_iff_pairwise_ne, List.pairwise_map] at this
          exact this
        · have h1 := hlt a ha
          have h2 := hge b hb
          omega
      · intro q hq
        rcases List.mem_append.mp hq with h | h
        · obtain ⟨i, hi⟩ := List.getElem?_of_mem h
          exact hD.2 i _ hi
        · exact Nat.le_trans hS.1 (hge q h)
    · refine ⟨by rw [f1, hsz]; have := hS.1; omega, fun q h1 h2 => ?_, hS.2.2⟩
      rw [old q (Nat.lt_of_lt_of_le h1 hS.1)]
      exact hS.2.1 q h1 h2
  obtain ⟨t, a1, b1⟩ := kk H.size _ hw1 hn _ rfl X1
  refine ⟨t, step t ?_, b1⟩
  rw [hszT]
  exact a1
