/-! lists that are being made: rows for arrays of references -/
set_option maxRecDepth 100000
/-- arrays over these classes exist -/
def QAO (G : State → Prop) : Prop := ∀ U, G U → va_AO "java/lang/Object" U ∧ va_AO "VaneCourt$Asked" U
/-- the empty array of a new list, the class object of Object[] -/
def QLs (K : QK) (G : State → Prop) (ea mi : Nat) : Prop := (∀ U, G U → va_Z "java/util/ArrayList" "DEFAULTCAPACITY_EMPTY_ELEMENTDATA" "[Ljava/lang/Object;" (.ref ea) (qA K) U K.1) ∧ (∀ U, G U → va_T (.object "java/lang/Object") ea 0 (fun _ => .null) (qA K) U K.1) ∧ (∀ U, G U → va_Mi "[Ljava/lang/Object;" mi U) ∧ QAO G
/-- an object that a list may hold -/
def ElO (K : QK) (M : QM) (x : Nat) : Prop := ∃ (ci N : Nat) (C : String) (T : u_T) (fs : List Value), vcl[ci]? = some (C, T, N) ∧ DAt K M x (.inr (ci, fs)) ∧ Cond.castable C "java/lang/Object" ∈ lw_tbl
theorem ElO.ext {K : QK} {M M' : QM} {x : Nat} (h : ElO K M x) (hx : QExt M M') : ElO K M' x := by
  obtain ⟨ci, N, C, T, fs, h1, h2, h3⟩ := h
  exact ⟨ci, N, C, T, fs, h1, h2.ext hx, h3⟩
abbrev qobj (f : Nat → Option Nat) : vp_A → vp_A := fun a => a
section MLS
variable {p : Program} {l : Launch} {e : Env} {R : Room} {s : State} {m : MethodId} {args : Array Value} {below : List Frame} {meth : Method} {c : Code} {H : Heap} {locs : List Loc} {cells slots : Nat} {Q : State → Prop}
variable {cc : ByteArray} {pc : Nat} {ls : Array Slot} {rest : List Value} {a : Nat} {own : String} {nL : Nat}
variable {K : QK} {G : State → Prop} {w : QW}
theorem el_cell {A B : QA} {L : QL} {X : QX} {M : QM} {x : Nat} (hG : QG G) (E : EV K G p s m args meth c cc own nL) (hw : WP K (A, B, L, X, M) H locs) (h : ElO K M x) : ∃ (C : String) (cell : Cell), H[x]? = some cell ∧ cell.vm.isStatics = false ∧ s.vm.findClass C = some cell.cls ∧ va_Nw (.castable C "java/lang/Object") s := by
  obtain ⟨ci, N, C, T, fs, h1, h2, h3⟩ := h
  obtain ⟨cell, g1, g2, g3⟩ := in_recv E hw h2.q h1
  exact ⟨C, cell, g1, g2, g3, hG.2.2 s _ E.2.2.2.2.2.1 h3 rfl⟩
theorem r_newQ {index t N : Nat} {C : String} {n : Int32} (E : EV K G p s m args meth c cc own nL) (hw : WP K w H locs) (ht : (qtys K)[t]? = some (K.2.2.2.2 t, .object C)) (hcl : Cond.classLink own index C ∈ lw_all) (hover : va_AO C s) (hn : n = nI N) (hN : N < 100000) (hcells : cells + 1 ≤ R.cells) (hslots : slots + N ≤ R.slots) (hdg : decode cc pc = .ok (.anewarray index, 3))
    (kk : ∀ (q : Nat) (H1 : Heap), WP K (w.1, w.2.1, w.2.2.1, w.2.2.2.1, va_up w.2.2.2.2 q (some (.inl (K.2.2.2.2 t, N, .inr (.inr (.inr (.inr (fun _ => none)))))))) H1 locs → w.2.2.2.2 q = none → (∀ j, ql K j → K.2.1 j ≠ q) → W p l e R s m args below meth c H1 locs (cells + 1) (slots + N) Q (F0 m (pc + 3) ls (.ref q :: rest))) : W p l e R s m args below meth c H locs cells slots Q (F0 m pc ls (.int n :: rest)) := by
  subst hn
  obtain ⟨ws, hP, hD, hS, back⟩ := hw.add
  refine va_newq E.1 E.2.1 E.2.2.1 (E.2.2.2.2.1 _ hcl) hover E.2.2.2.1 hP hD hS (fun _ h => h) (nI_pos (by omega)) (nI_clamp (by omega)) (by omega) hcells hslots hdg (fun q cA H1 k1 p1 d1 s1 => ?_)
  have e1 : K.2.2.2.2 t = cA := by
    obtain ⟨-, kA, comp, -, -, -, h4⟩ := k1.2 (qtys K).length (cA, .object C) (by rw [List.getElem?_append_right (Nat.le_refl _), Nat.sub_self]; rfl)
    obtain ⟨-, kB, comp2, -, -, -, h5⟩ := E.2.2.2.1.2 t _ ht
    exact Option.some.inj (h5.symm.trans h4)
  subst e1
  obtain ⟨b1, b2, b3, b4⟩ := back q _ H1 locs p1 d1 s1
  exact kk q H1 b1 b2 b3
theorem r_astO {A B : QA} {L : QL} {X : QX} {M : QM} {t n j x : Nat} {f : Nat → Option Nat} {i : Int32} {C E9 : String} (E : EV K G p s m args meth c cc own nL) (hw : WP K (A, B, L, X, M) H locs) (ht : (qtys K)[t]? = some (K.2.2.2.2 t, .object E9)) (ha : M a = some (.inl (K.2.2.2.2 t, n, .inr (.inr (.inr (.inr f)))))) (hx : ∃ cell : Cell, H[x]? = some cell ∧ cell.vm.isStatics = false ∧ s.vm.findClass C = some cell.cls) (hca : va_Nw (.castable C E9) s) (hin : vp_in i n) (hj : i.toNatClampNeg = j) (hdg : decode cc pc = .ok (.aastore, 1))
    (kk : ∀ (H1 : Heap) (locs1 : List Loc), WP K (A, B, L, X, va_up M a (some (.inl (K.2.2.2.2 t, n, .inr (.inr (.inr (.inr (va_up f j (some x)))))))) ) H1 locs1 → W p l e R s m args below meth c H1 locs1 cells slots Q (F0 m (pc + 1) ls rest)) : W p l e R s m args below meth c H locs cells slots Q (F0 m pc ls (.ref x :: .int i :: .ref a :: rest)) := by
  subst hj
  obtain ⟨ws, q, hP, hD, hS, hi, back⟩ := hw.dyn ha
  refine vb_astq E.1 E.2.1 E.2.2.2.1 hP hD hS q t hi ht hx (vb_asgC hca) hin hdg (fun H1 locs1 p1 d1 s1 => ?_)
  exact kk H1 locs1 (back _ H1 locs1 p1 d1 s1)
set_option maxHeartbeats 1000000 in
/-- all of an array into a new one -/
theorem r_copyG {A B : QA} {L : QL} {X : QX} {M : QM} {a0 n0 n1 index : Nat} {f : Nat → Option Nat} {lv : List (Nat × Value)} (hG : QG G) (E : EV K G p s m args meth c cc own nL) (hl : lv_has ls nL lv) (hw : WP K (A, B, L, X, M) H locs) (ha0 : M a0 = some (.inl (K.2.2.2.2 7, n0, .inr (.inr (.inr (.inr f)))))) (ha : M a = some (.inl (K.2.2.2.2 7, n1, .inr (.inr (.inr (.inr (fun _ => none)))))))
    (hle : n0 ≤ n1) (hb1 : n1 < 100000) (q1 : Cond.methodLink own index arraycopyName ∈ lw_all) (q2 : Cond.native arraycopyName ∈ lw_all) (q3 : Cond.static arraycopyName ∈ lw_all) (q4 : Cond.initialized "java/lang/System" ∈ lw_all)
    (hel : ∀ i, i < n0 → ∀ y, f i = some y → ElO K M y) (hframes : 1 ≤ R.frames) (hlocals : (rest.map fun v => v.category).sum + (nativeFrameWords "java/lang/System" "arraycopy" 5 + 11) ≤ R.locals) (hdg : decode cc pc = .ok (.invokestatic index, 3))
    (kk : ∀ (H1 : Heap) (locs1 : List Loc), WP K (A, B, L, X, va_up M a (some (.inl (K.2.2.2.2 7, n1, .inr (.inr (.inr (.inr (va_cpy f (fun _ => none) 0 0 n0)))))))) H1 locs1 → W p l e R s m args below meth c H1 locs1 cells slots Q (F0 m (pc + 3) ls rest)) : W p l e R s m args below meth c H locs cells slots Q (F0 m pc ls (.int (nI n0) :: .int 0 :: .ref a :: .int 0 :: .ref a0 :: rest)) := by
  intro T hT X9
  obtain ⟨ws0, i0, hP0, hi0⟩ := hw.own (w := (A, B, L, X, M)) (Or.inr ha0)
  obtain ⟨ws, i1, hP, hD, hS, hi, back⟩ := hw.dyn ha
  have hc0 : T.heap[a0]? = some (arrV (K.2.2.2.2 7) n0 (fun j => va_rf (f j))) := by rw [hT]; exact hP0 i0 _ hi0
  have hc1 : T.heap[a]? = some (arrV (K.2.2.2.2 7) n1 (fun _ => va_rf none)) := by rw [hT]; exact hP i1 _ hi
  obtain ⟨harr, kR, cR, r1, r2, r3, -⟩ := E.2.2.2.1.2 7 (K.2.2.2.2 7, .object "java/lang/Object") rfl
  have n0c : (nI n0).toNatClampNeg = n0 := nI_clamp (by omega)
  have n0t : (nI n0).toInt = (n0 : Int) := nI_toInt (by omega)
  have z0 : (0 : Int32).toInt = 0 := by decide
  have z0c : (0 : Int32).toNatClampNeg = 0 := by decide
  obtain ⟨vm', X', step⟩ := X9.arraycopy E.1 E.2.2.1 (E.2.2.2.2.1 _ q1) (E.2.2.2.2.1 _ q2) (E.2.2.2.2.1 _ q3) (E.2.2.2.2.1 _ q4) (src := a0) (dst := a) (srcPos := 0) (destPos := 0) (n := nI n0) hc0 hc1
    (fun _ h => by cases h) (fun _ h => by cases h) (fun h => by cases h) (fun h => by cases h) r1 r1 r2 r2 rfl (by decide) (by decide) (nI_pos (by omega))
    (by rw [z0, n0t, arrV_size]; omega) (by rw [z0, n0t, arrV_size]; omega)
    (fun vm₁ hal i hi9 => by
      rw [n0c] at hi9
      rw [z0c, Nat.zero_add]
      have e9 : (arrV (K.2.2.2.2 7) n0 (fun j => va_rf (f j))).slots.getD i .null = va_rf (f i) := by
        rw [Array.getD_eq_getD_getElem?, arrV_read _ _ hi9]
        rfl
      rw [e9]
      cases hy : f i with
      | none => exact ⟨rfl, trivial⟩
      | some y =>
        obtain ⟨C, cellV, g1, g2, g3, g4⟩ := el_cell hG E hw (hel i hi9 y hy)
        have g5 := vb_asgC g4 _ _ r3 g3
        obtain ⟨kC, hkC, -⟩ := Vm.findClass_spec g3
        obtain ⟨kE, hkE, -⟩ := Vm.findClass_spec r3
        obtain ⟨kC', hkC', -⟩ := hal.2.2 _ _ hkC
        obtain ⟨kE', hkE', -⟩ := hal.2.2 _ _ hkE
        refine ⟨rfl, cellV, (show T.heap[y]? = some cellV by rw [hT]; exact g1), (fun q h => by rw [h] at g2; cases g2), ⟨kC', hkC'⟩, ⟨kE', hkE'⟩, ?_⟩
        show vm₁.assignable _ _ = true
        rw [hal.assignable]
        exact g5)
    (g := F0 m pc ls (.int (nI n0) :: .int 0 :: .ref a :: .int 0 :: .ref a0 :: rest)) rfl (hl.1.trans E.2.2.2.2.2.2.2.symm) (rest := rest) rfl (by rw [E.2.1]; exact hdg) hframes (by show 2 * 0 + _ + _ ≤ _; omega)
  have e1 : copied (arrV (K.2.2.2.2 7) n0 (fun j => va_rf (f j))) (arrV (K.2.2.2.2 7) n1 (fun _ => va_rf none)) 0 0 (nI n0) = arrV (K.2.2.2.2 7) n1 (fun j => va_rf (va_cpy f (fun _ => none) 0 0 n0 j)) := by
    have h9 := va_copied (fun z => va_rf z) (K.2.2.2.2 7) (K.2.2.2.2 7) (n0 := n0) (n1 := n1) (sp := 0) (dp := 0) (n := n0) f (fun _ => none) (by omega)
    unfold copied
    rw [n0c, z0c]
    exact h9
  rw [e1] at X' step
  have hlt : a < T.heap.size := (Array.getElem?_eq_some_iff.mp hc1).1
  have hqA : qA K a := hD.2 i1 _ hi
  have oq : ∀ q : Nat, q ≠ a → (T.heap.setIfInBounds a (arrV (K.2.2.2.2 7) n1 (fun j => va_rf (va_cpy f (fun _ => none) 0 0 n0 j))))[q]? = H[q]? := fun q hq => by rw [← hT]; simp [Array.getElem?_setIfInBounds, Ne.symm hq]
  have hat : va_at K.2.2.2.1 vcl (a, .inl (K.2.2.2.2 7, n1, .inr (.inr (.inr (.inr (va_cpy f (fun _ => none) 0 0 n0)))))) (T.heap.setIfInBounds a (arrV (K.2.2.2.2 7) n1 (fun j => va_rf (va_cpy f (fun _ => none) 0 0 n0 j)))) := by
    show (T.heap.setIfInBounds a _)[a]? = some _
    simp [Array.getElem?_setIfInBounds, hlt]
    rfl
  obtain ⟨t, a1, b1⟩ := kk _ _ (back _ _ _ (hP.set hD hi hat oq) (hD.set hi) ⟨by rw [Array.size_setIfInBounds, hT]; exact hS.1, fun z z1 z2 => by
      rw [oq z (fun e => z2 (by rw [e]; exact hqA))]
      exact hS.2.1 z z1 z2, fun x hx => by
      rcases List.mem_append.mp hx with x1 | x1
      · exact hS.2.2 x x1
      · obtain ⟨z, -, hz⟩ := List.mem_map.mp x1
        rw [← hz]
        exact hqA⟩) _ rfl X'
  exact ⟨t, step t a1, b1⟩
end MLS
