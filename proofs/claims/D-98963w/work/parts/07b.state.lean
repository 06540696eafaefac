/-! State's constructor (printed by mk07b.py) -/
set_option maxRecDepth 100000
theorem r_newB {p : Program} {l : Launch} {e : Env} {R : Room} {s : State} {m : MethodId} {args : Array Value} {below : List Frame} {meth : Method} {c : Code} {H : Heap} {locs : List Loc} {cells slots : Nat} {Q : State → Prop} {cc : ByteArray} {pc : Nat} {ls : Array Slot} {rest : List Value} {own : String} {nL : Nat} {K : QK} {G : State → Prop} {w : QW} {n : Int32} {N : Nat} (E : EV K G p s m args meth c cc own nL) (hw : WP K w H locs) (harr : Cond.arrayClass .byte ∈ lw_all) (hn : n.toNatClampNeg = N) (h0 : ¬ n < 0) (hbytes : N * 1 ≤ 536870912) (hcells : cells + 1 ≤ R.cells) (hslots : slots + N ≤ R.slots) (hdg : decode cc pc = .ok (.newarray .byte, 2))
    (kk : ∀ (q : Nat) (H1 : Heap), WP K (w.1, w.2.1, w.2.2.1, w.2.2.2.1, va_up w.2.2.2.2 q (some (.inl (K.2.2.2.2 1, N, .inl (fun _ => 0))))) H1 locs → w.2.2.2.2 q = none → (∀ j, ql K j → K.2.1 j ≠ q) → W p l e R s m args below meth c H1 locs (cells + 1) (slots + N) Q (F0 m (pc + 2) ls (.ref q :: rest))) : W p l e R s m args below meth c H locs cells slots Q (F0 m pc ls (.int n :: rest)) := by
  obtain ⟨ws, hP, hD, hS, back⟩ := hw.add
  refine va_newa (atype := .byte) (ty := .byte) (a0 := (N, .inl (fun _ => 0))) E.1 E.2.1 (E.2.2.2.2.1 _ harr) rfl E.2.2.2.1 hP hD hS (fun _ h => h) (fun cA => rfl) h0 hn hbytes hcells hslots hdg (fun q cA H1 k1 p1 d1 s1 => ?_)
  have e1 : cA = K.2.2.2.2 1 := by
    have h1 := (k1.2 (qtys K).length (cA, .byte) (by simp)).2
    have h2 := (E.2.2.2.1.2 1 (K.2.2.2.2 1, .byte) rfl).2
    exact Option.some.inj (h1.symm.trans h2)
  subst e1
  obtain ⟨g1, g2, g3, -⟩ := back q _ H1 locs p1 d1 s1
  exact kk q H1 g1 g2 g3
theorem r_newJ {p : Program} {l : Launch} {e : Env} {R : Room} {s : State} {m : MethodId} {args : Array Value} {below : List Frame} {meth : Method} {c : Code} {H : Heap} {locs : List Loc} {cells slots : Nat} {Q : State → Prop} {cc : ByteArray} {pc : Nat} {ls : Array Slot} {rest : List Value} {own : String} {nL : Nat} {K : QK} {G : State → Prop} {w : QW} {n : Int32} {N : Nat} (E : EV K G p s m args meth c cc own nL) (hw : WP K w H locs) (harr : Cond.arrayClass .long ∈ lw_all) (hn : n.toNatClampNeg = N) (h0 : ¬ n < 0) (hbytes : N * 8 ≤ 536870912) (hcells : cells + 1 ≤ R.cells) (hslots : slots + N ≤ R.slots) (hdg : decode cc pc = .ok (.newarray .long, 2))
    (kk : ∀ (q : Nat) (H1 : Heap), WP K (w.1, w.2.1, w.2.2.1, w.2.2.2.1, va_up w.2.2.2.2 q (some (.inl (K.2.2.2.2 2, N, .inr (.inl (fun _ => 0)))))) H1 locs → w.2.2.2.2 q = none → (∀ j, ql K j → K.2.1 j ≠ q) → W p l e R s m args below meth c H1 locs (cells + 1) (slots + N) Q (F0 m (pc + 2) ls (.ref q :: rest))) : W p l e R s m args below meth c H locs cells slots Q (F0 m pc ls (.int n :: rest)) := by
  obtain ⟨ws, hP, hD, hS, back⟩ := hw.add
  refine va_newa (atype := .long) (ty := .long) (a0 := (N, .inr (.inl (fun _ => 0)))) E.1 E.2.1 (E.2.2.2.2.1 _ harr) rfl E.2.2.2.1 hP hD hS (fun _ h => h) (fun cA => rfl) h0 hn hbytes hcells hslots hdg (fun q cA H1 k1 p1 d1 s1 => ?_)
  have e1 : cA = K.2.2.2.2 2 := by
    have h1 := (k1.2 (qtys K).length (cA, .long) (by simp)).2
    have h2 := (E.2.2.2.1.2 2 (K.2.2.2.2 2, .long) rfl).2
    exact Option.some.inj (h1.symm.trans h2)
  subst e1
  obtain ⟨g1, g2, g3, -⟩ := back q _ H1 locs p1 d1 s1
  exact kk q H1 g1 g2 g3
theorem r_newZ {p : Program} {l : Launch} {e : Env} {R : Room} {s : State} {m : MethodId} {args : Array Value} {below : List Frame} {meth : Method} {c : Code} {H : Heap} {locs : List Loc} {cells slots : Nat} {Q : State → Prop} {cc : ByteArray} {pc : Nat} {ls : Array Slot} {rest : List Value} {own : String} {nL : Nat} {K : QK} {G : State → Prop} {w : QW} {n : Int32} {N : Nat} (E : EV K G p s m args meth c cc own nL) (hw : WP K w H locs) (harr : Cond.arrayClass .boolean ∈ lw_all) (hn : n.toNatClampNeg = N) (h0 : ¬ n < 0) (hbytes : N * 1 ≤ 536870912) (hcells : cells + 1 ≤ R.cells) (hslots : slots + N ≤ R.slots) (hdg : decode cc pc = .ok (.newarray .boolean, 2))
    (kk : ∀ (q : Nat) (H1 : Heap), WP K (w.1, w.2.1, w.2.2.1, w.2.2.2.1, va_up w.2.2.2.2 q (some (.inl (K.2.2.2.2 3, N, .inl (fun _ => 0))))) H1 locs → w.2.2.2.2 q = none → (∀ j, ql K j → K.2.1 j ≠ q) → W p l e R s m args below meth c H1 locs (cells + 1) (slots + N) Q (F0 m (pc + 2) ls (.ref q :: rest))) : W p l e R s m args below meth c H locs cells slots Q (F0 m pc ls (.int n :: rest)) := by
  obtain ⟨ws, hP, hD, hS, back⟩ := hw.add
  refine va_newa (atype := .boolean) (ty := .boolean) (a0 := (N, .inl (fun _ => 0))) E.1 E.2.1 (E.2.2.2.2.1 _ harr) rfl E.2.2.2.1 hP hD hS (fun _ h => h) (fun cA => rfl) h0 hn hbytes hcells hslots hdg (fun q cA H1 k1 p1 d1 s1 => ?_)
  have e1 : cA = K.2.2.2.2 3 := by
    have h1 := (k1.2 (qtys K).length (cA, .boolean) (by simp)).2
    have h2 := (E.2.2.2.1.2 3 (K.2.2.2.2 3, .boolean) rfl).2
    exact Option.some.inj (h1.symm.trans h2)
  subst e1
  obtain ⟨g1, g2, g3, -⟩ := back q _ H1 locs p1 d1 s1
  exact kk q H1 g1 g2 g3
theorem OwnL.start {M : QM} {q : Nat} {e : va_E} (hq : M q = some e) : OwnL (va_up M q none) M [(q, e)] := by
  refine ⟨fun a f ha => ?_, fun p hp => ?_, by simp⟩
  · by_cases h : a = q
    · rw [h, va_up_s] at ha; cases ha
    · rw [va_up_n h] at ha; exact ha
  · rw [List.mem_singleton] at hp
    subst hp
    exact ⟨hq, va_up_s⟩
theorem OwnL.join {M0 M M' : QM} {Z Z' : va_W} {q i : Nat} {e0 e : va_E} (h : OwnL M0 M Z) (hi : Z[i]? = some (q, e0)) (g : OwnL (va_up M q none) M' ((q, e) :: Z')) : OwnL M0 M' (Z.set i (q, e) ++ Z') := by
  have h9 := (h.set (e := e) i hi)
  obtain ⟨h1, h2, h3⟩ := h
  obtain ⟨g1, g2, g3⟩ := g
  have hq := h2 _ (List.mem_of_getElem? hi)
  have b : ∀ z e, z ≠ q → M z = some e → M' z = some e := fun z e hz hM => g1 z e ((va_up_n hz).trans hM)
  have hset : ∀ p ∈ Z.set i (q, e), p = (q, e) ∨ (p.1 ≠ q ∧ M p.1 = some p.2 ∧ M0 p.1 = none) := by
    intro p hp
    have k1 := h9.2.1 p hp
    by_cases hpq : p.1 = q
    · left
      rw [hpq, va_up_s] at k1
      have k2 := Option.some.inj k1.1
      cases p
      simp only at hpq k2
      rw [hpq, ← k2]
    · right
      rw [va_up_n hpq] at k1
      exact ⟨hpq, k1⟩
  have hnew : ∀ p ∈ Z', M' p.1 = some p.2 ∧ p.1 ≠ q ∧ M p.1 = none := by
    intro p hp
    have k1 := g2 p (List.mem_cons_of_mem _ hp)
    have k3 := (List.nodup_cons.mp g3).1
    have hne : p.1 ≠ q := fun z => k3 (by rw [← z]; exact List.mem_map.mpr ⟨p, hp, rfl⟩)
    exact ⟨k1.1, hne, (va_up_n hne).symm.trans k1.2⟩
  have h0 : ∀ z, M z = none → M0 z = none := fun z hz => h1.no hz
  refine ⟨fun z e9 hz => ?_, fun p hp => ?_, ?_⟩
  · refine b z e9 (fun w => ?_) (h1 z e9 hz)
    rw [w, hq.2] at hz
    cases hz
  · rcases List.mem_append.mp hp with hp | hp
    · rcases hset p hp with k | ⟨k1, k2, k3⟩
      · rw [k]; exact ⟨(g2 _ List.mem_cons_self).1, hq.2⟩
      · exact ⟨b _ _ k1 k2, k3⟩
    · obtain ⟨k1, k2, k3⟩ := hnew p hp
      exact ⟨k1, h0 _ k3⟩
  · rw [List.map_append, List.nodup_append]
    refine ⟨h9.2.2, (List.nodup_cons.mp g3).2, fun a ha c hc e9 => ?_⟩
    obtain ⟨p1, hp1, rfl⟩ := List.mem_map.mp ha
    obtain ⟨p2, hp2, rfl⟩ := List.mem_map.mp hc
    obtain ⟨k1, k2, k3⟩ := hnew p2 hp2
    rcases hset p1 hp1 with k | ⟨j1, j2, j3⟩
    · rw [k] at e9
      exact k2 e9.symm
    · rw [e9, k3] at j2
      cases j2
theorem OwnL.set0 {M0 M : QM} {Z : va_W} {a : Nat} {e0 e : va_E} (h : OwnL M0 M ((a, e0) :: Z)) : OwnL M0 (va_up M a (some e)) ((a, e) :: Z) := h.set 0 rfl
theorem OwnL.set1 {M0 M : QM} {Z : va_W} {a : Nat} {p : Nat × va_E} {e0 e : va_E} (h : OwnL M0 M (p :: (a, e0) :: Z)) : OwnL M0 (va_up M a (some e)) (p :: (a, e) :: Z) := h.set 1 rfl
theorem OwnL.set2 {M0 M : QM} {Z : va_W} {a : Nat} {p p1 : Nat × va_E} {e0 e : va_E} (h : OwnL M0 M (p :: p1 :: (a, e0) :: Z)) : OwnL M0 (va_up M a (some e)) (p :: p1 :: (a, e) :: Z) := h.set 2 rfl
theorem OwnL.get0 {M0 M : QM} {Z : va_W} {a : Nat} {e0 : va_E} (h : OwnL M0 M ((a, e0) :: Z)) : M a = some e0 := h.get 0 rfl
theorem OwnL.get1 {M0 M : QM} {Z : va_W} {a : Nat} {p : Nat × va_E} {e0 : va_E} (h : OwnL M0 M (p :: (a, e0) :: Z)) : M a = some e0 := h.get 1 rfl
theorem OwnL.get2 {M0 M : QM} {Z : va_W} {a : Nat} {p p1 : Nat × va_E} {e0 : va_E} (h : OwnL M0 M (p :: p1 :: (a, e0) :: Z)) : M a = some e0 := h.get 2 rfl
abbrev iniN : Nat → Int32 := va_up (fun _ => 0) 2 (-1)
abbrev iniR : Nat → Int32 := va_up (va_up (va_up (fun _ => 0) 1 3) 4 107) 5 (-1)
/-- a new State's own cells but itself -/
abbrev stZ (K : QK) (an ar g2 g3 g4 g5 g6 ax : Nat) : va_W := (an, .inl (K.2.2.2.2 0, 7, .inl iniN)) :: (ar, .inl (K.2.2.2.2 0, 154, .inl iniR)) :: ([] ++ grZ K g2 8 4 ++ grZ K g3 8 3 ++ grZ K g4 8 2 ++ grZ K g5 8 2 ++ grZ K g6 30 154 ++ [(ax, .inl (K.2.2.2.2 5, 4, .inr (.inr (.inr (.inr (fun _ => none))))))])
/-- arrays of arrays, arrays of texts -/
def QAO2 (G : State → Prop) : Prop := ∀ U, G U → (Cond.arrayOver (.array .int)).before #[] U = true ∧ va_AO "VaneCourt$Text" U
set_option maxHeartbeats 16000000 in
theorem m_X1_init (l : Launch) {K : QK} {G : State → Prop} (hAO : QAO2 G) {A B : QA} {L : QL} {X : QX} {M : QM} {q : Nat} (hq : M q = some (.inr (1, [.null, .null, .null, .null, .null, .null, .null, .null]))) : MC l K G yX1_init (ws_ yX1_init cX1_init 1 none) 2 60 70 4935 [.ref q] (A, B, L, X, M) (fun v w' => ∃ (an ar g2 g3 g4 g5 g6 ax : Nat) (M' : QM), v = none ∧ w' = (A, B, L, X, M') ∧ OwnL (va_up M q none) M' ((q, .inr (1, [.ref an, .ref ar, .ref g2, .ref g3, .ref g4, .ref g5, .ref g6, .ref ax])) :: stZ K an ar g2 g3 g4 g5 g6 ax)) := by
  refine MC.ofI (by decide) (Nat.le_of_ble_eq_true rfl) (lv := [(0, .ref q)]) rfl (fun p e s m below meth c ls E hr hin hl hw => ?_)
  have hx := E.1
  have hb := E.2.1
  have hown := E.2.2.1
  have hts := E.2.2.2.2.1
  have hGs := E.2.2.2.2.2.1
  have hO := OwnL.start hq
  refine lv_aload_n hx hb dX1_init_0 rfl (lv_at hl 0 rfl) ?_
  refine W.objInit hx hb hown (hts _ q185) (hts _ q178) (hts _ q179) rfl (hl.1.trans E.2.2.2.2.2.2.2.symm) rfl dX1_init_1 (Nat.le_of_ble_eq_true rfl) (Nat.le_of_ble_eq_true rfl) ?_
  refine lv_aload_n hx hb dX1_init_4 rfl (lv_at hl 0 rfl) ?_
  refine lv_bipush (v := (7:Int32)) hx hb dX1_init_5 (by decide) ?_
  refine r_newI (N := 7) E hw (q_clamp (k := 7) rfl) (by decide) (by decide) (Nat.le_of_ble_eq_true rfl) (Nat.le_of_ble_eq_true rfl) dX1_init_7 (fun an H hw han _ => ?_)
  have hO := hO.new (e := .inl (K.2.2.2.2 0, 7, .inl (fun _ => 0))) han
  have hO : OwnL (va_up M q none) _ ((q, .inr (1, [.null, .null, .null, .null, .null, .null, .null, .null])) :: (an, .inl (K.2.2.2.2 0, 7, .inl (fun _ => 0))) :: ([])) := hO
  refine r_putF E hw (hO.get0) (T := TX1) (N := 8) rfl in_X1 tyX1 tyX1_ok nmX1 0 (by decide) q190 rfl hin rfl rfl rfl (show 0 < 8 by decide) dX1_init_9 (fun H locs hw => ?_)
  have hO := hO.set0 (e := .inr (1, [.ref an, .null, .null, .null, .null, .null, .null, .null]))
  refine lv_aload_n hx hb dX1_init_12 rfl (lv_at hl 0 rfl) ?_
  refine lv_sipush (v := (154:Int32)) hx hb dX1_init_13 (by decide) ?_
  refine r_newI (N := 154) E hw (q_clamp (k := 154) rfl) (by decide) (by decide) (Nat.le_of_ble_eq_true rfl) (Nat.le_of_ble_eq_true rfl) dX1_init_16 (fun ar H hw har _ => ?_)
  have hO := hO.new (e := .inl (K.2.2.2.2 0, 154, .inl (fun _ => 0))) har
  have hO : OwnL (va_up M q none) _ ((q, .inr (1, [.ref an, .null, .null, .null, .null, .null, .null, .null])) :: (an, .inl (K.2.2.2.2 0, 7, .inl (fun _ => 0))) :: (ar, .inl (K.2.2.2.2 0, 154, .inl (fun _ => 0))) :: ([])) := hO
  refine r_putF E hw (hO.get0) (T := TX1) (N := 8) rfl in_X1 tyX1 tyX1_ok nmX1 1 (by decide) q192 rfl hin rfl rfl rfl (show 1 < 8 by decide) dX1_init_18 (fun H locs hw => ?_)
  have hO := hO.set0 (e := .inr (1, [.ref an, .ref ar, .null, .null, .null, .null, .null, .null]))
  refine lv_aload_n hx hb dX1_init_21 rfl (lv_at hl 0 rfl) ?_
  refine lv_bipush (v := (8:Int32)) hx hb dX1_init_22 (by decide) ?_
  refine lv_iconst (v := (4:Int32)) hx hb dX1_init_24 (by decide) ?_
  refine r_mnew (N := 8) (k := 4) E hw q186 (hAO s hGs).1 (by decide) (by decide) (Nat.le_of_ble_eq_true rfl) (Nat.le_of_ble_eq_true rfl) dX1_init_25 (fun g2 H hw hg2 => ?_)
  have hO := hO.grid (K := K) (N := 8) (k := 4) hg2
  have hO : OwnL (va_up M q none) _ ((q, .inr (1, [.ref an, .ref ar, .null, .null, .null, .null, .null, .null])) :: (an, .inl (K.2.2.2.2 0, 7, .inl (fun _ => 0))) :: (ar, .inl (K.2.2.2.2 0, 154, .inl (fun _ => 0))) :: ([] ++ grZ K g2 8 4)) := hO
  refine r_putF E hw (hO.get0) (T := TX1) (N := 8) rfl in_X1 tyX1 tyX1_ok nmX1 2 (by decide) q194 rfl hin rfl rfl rfl (show 2 < 8 by decide) dX1_init_29 (fun H locs hw => ?_)
  have hO := hO.set0 (e := .inr (1, [.ref an, .ref ar, .ref g2, .null, .null, .null, .null, .null]))
  refine lv_aload_n hx hb dX1_init_32 rfl (lv_at hl 0 rfl) ?_
  refine lv_bipush (v := (8:Int32)) hx hb dX1_init_33 (by decide) ?_
  refine lv_iconst (v := (3:Int32)) hx hb dX1_init_35 (by decide) ?_
  refine r_mnew (N := 8) (k := 3) E hw q186 (hAO s hGs).1 (by decide) (by decide) (Nat.le_of_ble_eq_true rfl) (Nat.le_of_ble_eq_true rfl) dX1_init_36 (fun g3 H hw hg3 => ?_)
  have hO := hO.grid (K := K) (N := 8) (k := 3) hg3
  have hO : OwnL (va_up M q none) _ ((q, .inr (1, [.ref an, .ref ar, .ref g2, .null, .null, .null, .null, .null])) :: (an, .inl (K.2.2.2.2 0, 7, .inl (fun _ => 0))) :: (ar, .inl (K.2.2.2.2 0, 154, .inl (fun _ => 0))) :: ([] ++ grZ K g2 8 4 ++ grZ K g3 8 3)) := hO
  refine r_putF E hw (hO.get0) (T := TX1) (N := 8) rfl in_X1 tyX1 tyX1_ok nmX1 3 (by decide) q196 rfl hin rfl rfl rfl (show 3 < 8 by decide) dX1_init_40 (fun H locs hw => ?_)
  have hO := hO.set0 (e := .inr (1, [.ref an, .ref ar, .ref g2, .ref g3, .null, .null, .null, .null]))
  refine lv_aload_n hx hb dX1_init_43 rfl (lv_at hl 0 rfl) ?_
  refine lv_bipush (v := (8:Int32)) hx hb dX1_init_44 (by decide) ?_
  refine lv_iconst (v := (2:Int32)) hx hb dX1_init_46 (by decide) ?_
  refine r_mnew (N := 8) (k := 2) E hw q186 (hAO s hGs).1 (by decide) (by decide) (Nat.le_of_ble_eq_true rfl) (Nat.le_of_ble_eq_true rfl) dX1_init_47 (fun g4 H hw hg4 => ?_)
  have hO := hO.grid (K := K) (N := 8) (k := 2) hg4
  have hO : OwnL (va_up M q none) _ ((q, .inr (1, [.ref an, .ref ar, .ref g2, .ref g3, .null, .null, .null, .null])) :: (an, .inl (K.2.2.2.2 0, 7, .inl (fun _ => 0))) :: (ar, .inl (K.2.2.2.2 0, 154, .inl (fun _ => 0))) :: ([] ++ grZ K g2 8 4 ++ grZ K g3 8 3 ++ grZ K g4 8 2)) := hO
  refine r_putF E hw (hO.get0) (T := TX1) (N := 8) rfl in_X1 tyX1 tyX1_ok nmX1 4 (by decide) q198 rfl hin rfl rfl rfl (show 4 < 8 by decide) dX1_init_51 (fun H locs hw => ?_)
  have hO := hO.set0 (e := .inr (1, [.ref an, .ref ar, .ref g2, .ref g3, .ref g4, .null, .null, .null]))
  refine lv_aload_n hx hb dX1_init_54 rfl (lv_at hl 0 rfl) ?_
  refine lv_bipush (v := (8:Int32)) hx hb dX1_init_55 (by decide) ?_
  refine lv_iconst (v := (2:Int32)) hx hb dX1_init_57 (by decide) ?_
  refine r_mnew (N := 8) (k := 2) E hw q186 (hAO s hGs).1 (by decide) (by decide) (Nat.le_of_ble_eq_true rfl) (Nat.le_of_ble_eq_true rfl) dX1_init_58 (fun g5 H hw hg5 => ?_)
  have hO := hO.grid (K := K) (N := 8) (k := 2) hg5
  have hO : OwnL (va_up M q none) _ ((q, .inr (1, [.ref an, .ref ar, .ref g2, .ref g3, .ref g4, .null, .null, .null])) :: (an, .inl (K.2.2.2.2 0, 7, .inl (fun _ => 0))) :: (ar, .inl (K.2.2.2.2 0, 154, .inl (fun _ => 0))) :: ([] ++ grZ K g2 8 4 ++ grZ K g3 8 3 ++ grZ K g4 8 2 ++ grZ K g5 8 2)) := hO
  refine r_putF E hw (hO.get0) (T := TX1) (N := 8) rfl in_X1 tyX1 tyX1_ok nmX1 5 (by decide) q200 rfl hin rfl rfl rfl (show 5 < 8 by decide) dX1_init_62 (fun H locs hw => ?_)
  have hO := hO.set0 (e := .inr (1, [.ref an, .ref ar, .ref g2, .ref g3, .ref g4, .ref g5, .null, .null]))
  refine lv_aload_n hx hb dX1_init_65 rfl (lv_at hl 0 rfl) ?_
  refine lv_bipush (v := (30:Int32)) hx hb dX1_init_66 (by decide) ?_
  refine lv_sipush (v := (154:Int32)) hx hb dX1_init_68 (by decide) ?_
  refine r_mnew (N := 30) (k := 154) E hw q186 (hAO s hGs).1 (by decide) (by decide) (Nat.le_of_ble_eq_true rfl) (Nat.le_of_ble_eq_true rfl) dX1_init_71 (fun g6 H hw hg6 => ?_)
  have hO := hO.grid (K := K) (N := 30) (k := 154) hg6
  have hO : OwnL (va_up M q none) _ ((q, .inr (1, [.ref an, .ref ar, .ref g2, .ref g3, .ref g4, .ref g5, .null, .null])) :: (an, .inl (K.2.2.2.2 0, 7, .inl (fun _ => 0))) :: (ar, .inl (K.2.2.2.2 0, 154, .inl (fun _ => 0))) :: ([] ++ grZ K g2 8 4 ++ grZ K g3 8 3 ++ grZ K g4 8 2 ++ grZ K g5 8 2 ++ grZ K g6 30 154)) := hO
  refine r_putF E hw (hO.get0) (T := TX1) (N := 8) rfl in_X1 tyX1 tyX1_ok nmX1 6 (by decide) q202 rfl hin rfl rfl rfl (show 6 < 8 by decide) dX1_init_75 (fun H locs hw => ?_)
  have hO := hO.set0 (e := .inr (1, [.ref an, .ref ar, .ref g2, .ref g3, .ref g4, .ref g5, .ref g6, .null]))
  refine lv_aload_n hx hb dX1_init_78 rfl (lv_at hl 0 rfl) ?_
  refine lv_iconst (v := (4:Int32)) hx hb dX1_init_79 (by decide) ?_
  refine r_newQ (t := 5) (N := 4) E hw rfl q188 (hAO s hGs).2 rfl (by decide) (Nat.le_of_ble_eq_true rfl) (Nat.le_of_ble_eq_true rfl) dX1_init_80 (fun ax H hw hax _ => ?_)
  have hO := hO.new (e := .inl (K.2.2.2.2 5, 4, .inr (.inr (.inr (.inr (fun _ => none)))))) hax
  have hO : OwnL (va_up M q none) _ ((q, .inr (1, [.ref an, .ref ar, .ref g2, .ref g3, .ref g4, .ref g5, .ref g6, .null])) :: (an, .inl (K.2.2.2.2 0, 7, .inl (fun _ => 0))) :: (ar, .inl (K.2.2.2.2 0, 154, .inl (fun _ => 0))) :: ([] ++ grZ K g2 8 4 ++ grZ K g3 8 3 ++ grZ K g4 8 2 ++ grZ K g5 8 2 ++ grZ K g6 30 154 ++ [(ax, .inl (K.2.2.2.2 5, 4, .inr (.inr (.inr (.inr (fun _ => none))))))])) := hO
  refine r_putF E hw (hO.get0) (T := TX1) (N := 8) rfl in_X1 tyX1 tyX1_ok nmX1 7 (by decide) q204 rfl hin rfl rfl rfl (show 7 < 8 by decide) dX1_init_83 (fun H locs hw => ?_)
  have hO := hO.set0 (e := .inr (1, [.ref an, .ref ar, .ref g2, .ref g3, .ref g4, .ref g5, .ref g6, .ref ax]))
  refine lv_aload_n hx hb dX1_init_86 rfl (lv_at hl 0 rfl) ?_
  refine r_get (v := .ref an) E hw (QAt.dyn (hO.get0)) (T := TX1) (N := 8) rfl in_X1 0 (by decide) q190 rfl dX1_init_87 ?_
  refine lv_iconst (v := (2:Int32)) hx hb dX1_init_90 (by decide) ?_
  refine lv_iconst (v := (-1:Int32)) hx hb dX1_init_91 (by decide) ?_
  refine r_iastD (j := 2) (n := 7) E hw hO.get1 (q_lit (k := 2) (n := 7) rfl rfl) (q_clamp (k := 2) rfl) dX1_init_92 (fun H locs hw => ?_)
  have hO := hO.set1 (e := .inl (K.2.2.2.2 0, 7, .inl (va_up (fun _ => 0) 2 (-1))))
  refine lv_aload_n hx hb dX1_init_93 rfl (lv_at hl 0 rfl) ?_
  refine r_get (v := .ref ar) E hw (QAt.dyn (hO.get0)) (T := TX1) (N := 8) rfl in_X1 1 (by decide) q192 rfl dX1_init_94 ?_
  refine lv_iconst (v := (1:Int32)) hx hb dX1_init_97 (by decide) ?_
  refine lv_iconst (v := (3:Int32)) hx hb dX1_init_98 (by decide) ?_
  refine r_iastD (j := 1) (n := 154) E hw hO.get2 (q_lit (k := 1) (n := 154) rfl rfl) (q_clamp (k := 1) rfl) dX1_init_99 (fun H locs hw => ?_)
  have hO := hO.set2 (e := .inl (K.2.2.2.2 0, 154, .inl (va_up (fun _ => 0) 1 3)))
  refine lv_aload_n hx hb dX1_init_100 rfl (lv_at hl 0 rfl) ?_
  refine r_get (v := .ref ar) E hw (QAt.dyn (hO.get0)) (T := TX1) (N := 8) rfl in_X1 1 (by decide) q192 rfl dX1_init_101 ?_
  refine lv_iconst (v := (4:Int32)) hx hb dX1_init_104 (by decide) ?_
  refine lv_bipush (v := (107:Int32)) hx hb dX1_init_105 (by decide) ?_
  refine r_iastD (j := 4) (n := 154) E hw hO.get2 (q_lit (k := 4) (n := 154) rfl rfl) (q_clamp (k := 4) rfl) dX1_init_107 (fun H locs hw => ?_)
  have hO := hO.set2 (e := .inl (K.2.2.2.2 0, 154, .inl (va_up (va_up (fun _ => 0) 1 3) 4 107)))
  refine lv_aload_n hx hb dX1_init_108 rfl (lv_at hl 0 rfl) ?_
  refine r_get (v := .ref ar) E hw (QAt.dyn (hO.get0)) (T := TX1) (N := 8) rfl in_X1 1 (by decide) q192 rfl dX1_init_109 ?_
  refine lv_iconst (v := (5:Int32)) hx hb dX1_init_112 (by decide) ?_
  refine lv_iconst (v := (-1:Int32)) hx hb dX1_init_113 (by decide) ?_
  refine r_iastD (j := 5) (n := 154) E hw hO.get2 (q_lit (k := 5) (n := 154) rfl rfl) (q_clamp (k := 5) rfl) dX1_init_114 (fun H locs hw => ?_)
  have hO := hO.set2 (e := .inl (K.2.2.2.2 0, 154, .inl (va_up (va_up (va_up (fun _ => 0) 1 3) 4 107) 5 (-1))))
  exact r_ret E hr ⟨an, ar, g2, g3, g4, g5, g6, ax, _, rfl, rfl, hO⟩ hw (Nat.le_of_ble_eq_true rfl) (Nat.le_of_ble_eq_true rfl) dX1_init_115
