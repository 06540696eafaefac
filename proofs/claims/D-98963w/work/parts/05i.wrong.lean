/-! Wrong: super(), the constructor, wrong(..) -/
set_option maxRecDepth 100000
def wrA : List Cond := (vqAt RX5 1 "java/lang/Exception" RX5).filter (fun w => vq_no w && decide (w ≠ .declares (Bundle.init0 Bundle.tN)))
theorem in_wrA : ∀ w ∈ wrA, w ∈ lw_all := lw_in wrA [151, 499, 508, 510, 513, 515, 500, 501, 178, 179, 502, 507, 511, 528, 489, 529, 491, 530, 493, 503, 505, 495, 520, 521, 522, 500, 519, 480, 486, 487, 488, 490, 492, 494, 498, 497, 496] (by decide +kernel) (by decide +kernel)
def QWr (K : QK) (G : State → Prop) : Prop := (∀ U, G U → vq_Zq Bundle.tN "UNASSIGNED_STACK" Bundle.steD (qA K) U K.1) ∧ ∀ U, G U → vq_Zq Bundle.tN "SUPPRESSED_SENTINEL" Bundle.listD (qA K) U K.1
section VQS
variable {p : Program} {l : Launch} {e : Env} {R : Room} {s : State} {m : MethodId} {args : Array Value} {below : List Frame} {meth : Method} {c : Code} {H : Heap} {locs : List Loc} {cells slots : Nat} {Q : State → Prop}
variable {cc : ByteArray} {pc : Nat} {ls : Array Slot} {rest : List Value} {a : Nat} {own : String} {nL : Nat}
variable {K : QK} {G : State → Prop} {w : QW}
theorem vq_back9 {T S : State} {R' : Room} {k n : Nat} {L : List Loc} (X : Stand p l e R s m args below meth c T locs cells slots) (Y : Stand p l e R' ((T.setVm s.vm).setFrames (.invoking m args :: below)) m args below meth c T [] 0 0) (Z : Stand p l e R' ((T.setVm s.vm).setFrames (.invoking m args :: below)) m args below meth c S L k n) :
    Stand p l e R s m args below meth c S (locs ++ L) (cells + k) (slots + n) := by
  have hW0 : s.WarmedH ((T.setVm s.vm).setFrames (.invoking m args :: below)).vm := State.WarmedH.refl s
  refine { admits := X.admits, cas := X.cas, clock := X.clock, frames := X.frames, room := X.room, hears := X.hears, method := X.method, code := X.code, here := Z.here, tail := Z.tail, warmed := State.WarmedH.trans hW0 Z.warmed, limits := Z.limits.trans (Y.limits.symm.trans X.limits), bytes := Z.bytes.trans (Y.bytes.symm.trans X.bytes), same := ?_ }
  obtain ⟨e1, e2⟩ := Z.same
  rw [State.setFrames_setFrames] at e1
  have h2 : (T.setVm s.vm).sameButNew (S.setVm s.vm) L k n := ⟨e1, e2⟩
  exact X.same.trans h2
set_option maxHeartbeats 4000000 in
theorem r_super5 {q : Nat} {fs : List Value} {lv : List (Nat × Value)} (hG : QG G) (hWr : QWr K G) (E : EV K G p s m args meth c cc RX5 nL) (hlst : l.stackTraces = false) (hw : WP K w H locs) (hlv : lv_has ls nL lv) (hq : w.2.2.2.2 q = some (.inr (5, fs)))
    (hfr : ∃ k : Class, s.vm.classes[K.2.2.2.1.1 5]? = some k ∧ H[q]? = some (freshCell (K.2.2.2.1.1 5) k)) (hRf : 3 < R.frames) (hRl : (rest.map fun v => v.category).sum + 54 ≤ R.locals) (hRc : cells ≤ R.cells ∧ slots ≤ R.slots) (hdg : decode cc pc = .ok (.invokespecial 1, 3))
    (kk : ∀ (H1 : Heap) (locs1 : List Loc) (fs' : List Value), fs'.length = 8 → WP K (w.1, w.2.1, w.2.2.1, w.2.2.2.1, va_up w.2.2.2.2 q (some (.inr (5, fs')))) H1 locs1 → W p l e R s m args below meth c H1 locs1 cells slots Q (F0 m (pc + 3) ls rest)) : W p l e R s m args below meth c H locs cells slots Q (F0 m pc ls (.ref q :: rest)) := by
  intro T hT X
  subst hT
  obtain ⟨k, hk, hcell⟩ := hfr
  have htr : e.platform.stackTraces = false := (show e.platform.stackTraces = l.stackTraces by rw [X.admits.platform]).trans hlst
  have Y := vq_rebase X (R' := { frames := R.frames, locals := R.locals, cells := 0, slots := 0 }) (Nat.le_refl _) (Nat.le_refl _) hRc.1 hRc.2
  obtain ⟨s', hA'⟩ : ∃ z, z = (T.setVm s.vm).setFrames (.invoking m args :: below) := ⟨_, rfl⟩
  rw [← hA'] at Y
  have hvm : s'.vm = s.vm := by rw [hA']; rfl
  have hhp : s'.heap = T.heap := by rw [hA']; rfl
  have hW0 : s.WarmedH s'.vm := by rw [hvm]; exact State.WarmedH.refl s
  have hGs : G s' := hG.2.1 s s' hvm.symm E.2.2.2.2.2.1
  have hU : vq_Zq Bundle.tN "UNASSIGNED_STACK" Bundle.steD (qA K) s' s'.heap := by rw [hhp]; exact (hWr.1 s' hGs).kept hw.S.2.1
  have hN : vq_Zq Bundle.tN "SUPPRESSED_SENTINEL" Bundle.listD (qA K) s' s'.heap := by rw [hhp]; exact (hWr.2 s' hGs).kept hw.S.2.1
  have h : ∀ w ∈ vqAt RX5 1 "java/lang/Exception" RX5, w.before args s' = true := by
    refine vq_own (fun w hw => ?_) (vq_isRefq hU.1) (vq_isRefq hN.1) hU.2.word hN.2.word
    by_cases e5 : w = .declares (Bundle.init0 Bundle.tN)
    · rw [e5]
      exact va_Nw.use rfl (hG.2.2 s' _ hGs q484 rfl)
    · have hm : w ∈ wrA := List.mem_filter.mpr ⟨(List.mem_filter.mp hw).1, by
        rw [(List.mem_filter.mp hw).2, decide_eq_true e5]; rfl⟩
      have ha := in_wrA w hm
      refine vq_ot_at hW0 hvm.symm ?_ (E.2.2.2.2.1 w ha)
      unfold vq_ot
      rw [(List.mem_filter.mp ha).2, Bool.or_true]
  have hfX : s'.vm.findClass RX5 = some (K.2.2.2.1.1 5) := by rw [hvm]; exact (E.2.2.2.1.1 5 _ rfl).2.1
  obtain ⟨V, ce, L, Z, hL, hlt, hcl9, hvm9, hsz, hVh, st⟩ := vq_ctor Y E.1 htr (own := RX5) (cls := "java/lang/Exception") (X9 := RX5) (ic := 1) (by rw [hvm]; exact E.2.2.1) (by decide +kernel) h (fun x hx => nomatch hx) hfX (by rw [hvm]; exact hk) (a := q) hcell
    (g := F0 m pc ls (.ref q :: rest)) rfl (hlv.1.trans E.2.2.2.2.2.2.2.symm) (rest := rest) rfl (by rw [E.2.1]; exact hdg) hRf (by show 2 * 0 + (rest.map fun v => v.category).sum + (13 * (0 + 1) + 41) ≤ R.locals; omega)
  subst hA'
  have X5 := vq_back9 X Y Z
  obtain ⟨ws, i, hP, hD, hS, hi, back⟩ := hw.dyn hq
  obtain ⟨r, h1, cell, g1, g2, g3, g4⟩ := hP i _ hi
  have h1' : (RX5, TX5, 8) = r := Option.some.inj h1
  subst h1'
  have ec : cell = freshCell (K.2.2.2.1.1 5) k := Option.some.inj (g1.symm.trans hcell)
  have hqA : qA K q := hD.2 i _ hi
  have hh : (V.setCell q ce).heap[q]? = some ce := heapAt_setCell_self (s := V) ce hlt
  have oq : ∀ z : Nat, z ≠ q → (V.setCell q ce).heap[z]? = T.heap[z]? := by
    intro z hz
    show (V.heap.setIfInBounds q ce)[z]? = _
    rw [hVh, Array.getElem?_setIfInBounds, if_neg (Ne.symm hz)]
  have hz : T.heap.size ≤ (V.setCell q ce).heap.size := by
    show T.heap.size ≤ (V.heap.setIfInBounds q ce).size
    rw [Array.size_setIfInBounds, hVh]
    exact Nat.le_refl _
  have hat : va_at K.2.2.2.1 vcl (q, .inr (5, (List.range 8).map (fun j => ce.slots.getD (K.2.2.2.1.2 5 j) .null))) (V.setCell q ce).heap := by
    refine ⟨(RX5, TX5, 8), rfl, ce, hh, hcl9, hvm9, fun j hj => ?_⟩
    have h4 := g4 j hj
    rw [ec] at h4
    have h5 : K.2.2.2.1.2 5 j < ce.slots.size := by rw [hsz]; exact (Array.getElem?_eq_some_iff.mp h4).1
    have h6 : vp_V ((List.range 8).map (fun j => ce.slots.getD (K.2.2.2.1.2 5 j) .null)) j = ce.slots.getD (K.2.2.2.1.2 5 j) .null := by
      have hj8 : j < 8 := hj
      unfold vp_V
      rw [List.getD_eq_getElem?_getD, List.getElem?_map, List.getElem?_range hj8]
      rfl
    show ce.slots[K.2.2.2.1.2 5 j]? = some (vp_V _ j)
    rw [h6, Array.getElem?_eq_getElem h5, Array.getD_eq_getD_getElem?, Array.getElem?_eq_getElem h5]
    rfl
  obtain ⟨t, a1, b1⟩ := kk (V.setCell q ce).heap (locs ++ ([] ++ L)) ((List.range 8).map (fun j => ce.slots.getD (K.2.2.2.1.2 5 j) .null)) (by simp) (back _ _ _ (hP.set hD hi hat oq) (hD.set hi) ⟨Nat.le_trans hS.1 hz, fun z z1 z2 => by
      rw [oq z (fun e => z2 (by rw [e]; exact hqA))]
      exact hS.2.1 z z1 z2, fun x hx => by
      rcases List.mem_append.mp hx with x1 | x1
      · exact hS.2.2 x x1
      · rw [hL x (by simpa using x1)]; exact hqA⟩) _ rfl X5
  exact ⟨t, st _ a1, b1⟩
end VQS
