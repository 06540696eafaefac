/-! the law, from its entry to its loop -/
set_option maxRecDepth 100000
theorem kd_X0_init : yX0_init.cls ≠ "java/lang/invoke/MethodHandle" ∧ yX0_init.cls ≠ "java/lang/invoke/VarHandle" ∧ (parseMethodDescriptor yX0_init.desc).map (fun d => d.parameters.length) = some 0 := by decide +kernel
theorem kd_X2_init : yX2_init.cls ≠ "java/lang/invoke/MethodHandle" ∧ yX2_init.cls ≠ "java/lang/invoke/VarHandle" ∧ (parseMethodDescriptor yX2_init.desc).map (fun d => d.parameters.length) = some 0 := by decide +kernel
def T0 : Int32 → Option QT := fun h => if h = -1 then some txN else none
def Ti0 : Int32 → Option QT := fun _ => none
theorem cLab_lt : ∀ l, l < 1018 → cLab l = true → l < 1000 ∧ l ≠ 13 := by decide +kernel
theorem mLab_13 : mLab 13 = false := by decide
theorem wp_start {s : State} {ad : Nat → Nat} {D : va_G} {cA : Nat → ClassId} {A B : QA} {L : QL} {X : QX} : WP (s.heap, ad, fun _ => false, D, cA) (A, B, L, X, fun _ => none) s.heap [] := by
  refine ⟨[], fun a e => by simp, ?_, ?_, va_S.rf⟩
  · have e : qwl (s.heap, ad, fun _ => false, D, cA) (A, B, L, X, fun _ => none) = [] := by
      show ((List.range 1018).filter (fun _ => false)).map _ = []
      simp
    rw [e]
    exact fun k q h => by simp at h
  · have e : qwl (s.heap, ad, fun _ => false, D, cA) (A, B, L, X, fun _ => none) = [] := by
      show ((List.range 1018).filter (fun _ => false)).map _ = []
      simp
    rw [e]
    exact ⟨fun i j p q h => by simp at h, fun k q h => by simp at h⟩
set_option maxHeartbeats 4000000 in
theorem st_law {p : Program} {l : Launch} {e : Env} {s : State} {m : MethodId} {below : List Frame} {meth : Method} {c : Code} {Q : State → Prop} {b Ls : Nat} {xs : Nat → Int32} {Rel : (Int32 → Option QT) → (Int32 → Option QT) → QA → QA → QL → Prop} (hSim : SimAll Rel) {Bo : QA} (hcp : f_X2_copy 1001 1002 (qu (qu (qu (qu iniB 1001 12 107) 1001 2 (-1)) 1001 9 3) 1001 13 (-1)) = some Bo) (hR : Rel T0 Ti0 (qbe2 iniA) Bo iniL) (hx : p.tables.exec = Jvm.exec) (hb : c.code = code) (hlocks : meth.locks = false) (hml : c.maxLocals = 4) (hown : s.vm.findClass "VaneCourtLaw" = some m.cls) (hts : ∀ w ∈ lw_tbl, w.before #[Value.ref b] s = true) (hs : ∀ c ∈ nr, c.before #[Value.ref b] s = true) (hX : va_X b Ls xs s s.heap) (hbl : b < s.heap.size) (hL : Ls ≤ 384) (hlst : l.stackTraces = false)
    (fin : ∀ {H : Heap} {locs : List Loc} {ls : Array Slot} {ce sl : Nat}, (∀ x ∈ locs, s.heap.size ≤ x.base) → ce ≤ 1200128 → sl ≤ 5501098 → W p l e room_1 s m #[Value.ref b] below meth c H locs ce sl Q (F0 m 1462 ls [.int 1])) :
    W p l e room_1 s m #[Value.ref b] below meth c s.heap [] 0 0 Q (entryFrame m ([Value.ref b] : List Value).toArray 4) := by
  obtain ⟨dC, dI, hcl⟩ := st_classes hts
  obtain ⟨cA, hcA⟩ := st_arrays hts
  have hG : QG (GS s) := GS_G hts
  obtain ⟨-, -, -, -, -, -, -, -, -, -, hAO, -⟩ := st_all (ad := fun _ => 0) (lv := fun _ => false) (D := (dC, dI)) (cA := cA) hts hs hcl
  have E : EV (s.heap, fun _ => 0, fun _ => false, (dC, dI), cA) (GS s) p s m #[Value.ref b] meth c code "VaneCourtLaw" 4 := ⟨hx, hb, hown, ⟨hcl, hcA⟩, fun w h => hts w (lw_all_tbl h), State.WarmedH.refl s, hlocks, hml⟩
  have hl := lv_entry ([.ref b]) (n := 4) (Nat.le_of_ble_eq_true rfl)
  rw [lg_entry_eq]
  generalize (lg_sl ([.ref b]) ++ List.replicate (4 - (lg_sl ([.ref b])).length) Slot.unset).toArray = ls at hl ⊢
  have hl : lv_has ls 4 [(0, .ref b)] := hl
  have hw : WP (s.heap, fun _ => 0, fun _ => false, (dC, dI), cA) (fun _ _ => 0, iniB, iniL, fun _ _ => none, fun _ => none) s.heap [] := wp_start
  have htl : ∀ w ∈ lw_all, w.before #[Value.ref b] s = true := fun w h => hts w (lw_all_tbl h)
  refine r_new (ci := 0) (fs := [.null, .null, .null, .int 0, .int 0, .int 0, .null, .null, .null, .null, .null, .null, .int 0]) E hw (T := TX0) (N := 13) rfl in_X0 tyX0 tyX0_ok q172 q173 q137 (fun j hj => by match j, hj with | 0, _ => rfl | 1, _ => rfl | 2, _ => rfl | 3, _ => rfl | 4, _ => rfl | 5, _ => rfl | 6, _ => rfl | 7, _ => rfl | 8, _ => rfl | 9, _ => rfl | 10, _ => rfl | 11, _ => rfl | 12, _ => rfl | j + 13, hj => exact absurd hj (by omega)) (Nat.le_of_ble_eq_true rfl) (Nat.le_of_ble_eq_true rfl) dL_law_0 (fun x H hw hxn _ _ => ?_)
  refine lv_dup hx hb dL_law_3 rfl ?_
  refine c_IK (As := []) (rest := [.ref x]) hG E hw (m_X0_init l hG hAO (by exact va_up_s)) (cwI 0 htl (lw_meth q176) rfl rfl rfl (htl _ q137) (htl _ q174) (htl _ q175) rfl kd_X0_init ⟨Nat.le_of_ble_eq_true rfl, Nat.le_of_ble_eq_true rfl⟩) hl rfl rfl (Nat.le_of_ble_eq_true rfl) dL_law_4 ⟨Nat.le_of_ble_eq_true rfl, Nat.le_of_ble_eq_true rfl⟩ (fun v K' w' H locs hk hP hw => ?_)
  obtain ⟨rfl, ⟨ad, rfl, ead⟩, rfl⟩ := hP
  refine W.eq (g2 := F0 m 7 ls [.ref x]) rfl ?_
  have E1 : EV (cK (s.heap, fun _ => 0, fun _ => false, (dC, dI), cA) ad) (GS s) p s m #[Value.ref b] meth c code "VaneCourtLaw" 4 := E
  refine lv_astore_n (lv' := [(1, .ref x), (0, .ref b)]) hx hb dL_law_7 rfl hl (by decide) rfl (fun ls hl => ?_)
  refine r_new (ci := 2) (fs := [.null, .null, .null, .null, .int 0, .int 0, .int 0, .int 0, .int 0, .int 0, .int 0, .long 0, .int 0, .int 0, .int 0, .null, .null, .int 0, .int 0, .int 0, .int 0, .int 0, .int 0, .int 0, .int 0, .null, .int 0, .null, .null, .int 0, .null, .null, .null, .null, .int 0, .int 0, .null, .null, .null, .null]) E1 hw (T := TX2) (N := 40) rfl in_X2 tyX2 tyX2_ok q1344 q1345 q140 (fun j hj => by match j, hj with | 0, _ => rfl | 1, _ => rfl | 2, _ => rfl | 3, _ => rfl | 4, _ => rfl | 5, _ => rfl | 6, _ => rfl | 7, _ => rfl | 8, _ => rfl | 9, _ => rfl | 10, _ => rfl | 11, _ => rfl | 12, _ => rfl | 13, _ => rfl | 14, _ => rfl | 15, _ => rfl | 16, _ => rfl | 17, _ => rfl | 18, _ => rfl | 19, _ => rfl | 20, _ => rfl | 21, _ => rfl | 22, _ => rfl | 23, _ => rfl | 24, _ => rfl | 25, _ => rfl | 26, _ => rfl | 27, _ => rfl | 28, _ => rfl | 29, _ => rfl | 30, _ => rfl | 31, _ => rfl | 32, _ => rfl | 33, _ => rfl | 34, _ => rfl | 35, _ => rfl | 36, _ => rfl | 37, _ => rfl | 38, _ => rfl | 39, _ => rfl | j + 40, hj => exact absurd hj (by omega)) (Nat.le_of_ble_eq_true rfl) (Nat.le_of_ble_eq_true rfl) dL_law_8 (fun y H hw hyn _ _ => ?_)
  refine lv_dup hx hb dL_law_11 rfl ?_
  refine c_IK (As := []) (rest := [.ref y]) hG E1 hw (m_X2_init l hG (fun l h => (cLab_lt l h.2 h.1).1) hcp (by exact va_up_s)) (cwI 0 htl (lw_meth q1348) rfl rfl rfl (htl _ q140) (htl _ q1346) (htl _ q1347) rfl kd_X2_init ⟨Nat.le_of_ble_eq_true rfl, Nat.le_of_ble_eq_true rfl⟩) hl rfl rfl (Nat.le_of_ble_eq_true rfl) dL_law_12 ⟨Nat.le_of_ble_eq_true rfl, Nat.le_of_ble_eq_true rfl⟩ (fun v K' w' H locs hk2 hP hw => ?_)
  obtain ⟨rfl, ⟨ad2, rfl, ead2⟩, rfl⟩ := hP
  refine W.eq (g2 := F0 m 15 ls [.ref y]) rfl ?_
  refine lv_astore_n (lv' := [(2, .ref y), (1, .ref x), (0, .ref b)]) hx hb dL_law_15 rfl hl (by decide) rfl (fun ls hl => ?_)
  refine lv_iconst (v := 0) hx hb dL_law_16 (by decide) ?_
  refine lv_istore_n (lv' := [(3, .int 0), (2, .ref y), (1, .ref x), (0, .ref b)]) hx hb dL_law_17 rfl hl (by decide) rfl (fun ls hl => ?_)
  have hC : QCl (mK (cK (s.heap, fun _ => 0, fun _ => false, (dC, dI), cA) ad) ad2) := mK_C cLab_C
  have hM : QMl (mK (cK (s.heap, fun _ => 0, fun _ => false, (dC, dI), cA) ad) ad2) := mK_M
  obtain ⟨yy, ea, mi, ic, ib, nt, g1, g2, g3, g4, -, g6, g7, g8⟩ := st_all (ad := (mK (cK (s.heap, fun _ => 0, fun _ => false, (dC, dI), cA) ad) ad2).2.1) (lv := (mK (cK (s.heap, fun _ => 0, fun _ => false, (dC, dI), cA) ad) ad2).2.2.1) (D := (dC, dI)) (cA := cA) hts hs hcl
  have E2 : EV (mK (cK (s.heap, fun _ => 0, fun _ => false, (dC, dI), cA) ad) ad2) (GS s) p s m #[Value.ref b] meth c code "VaneCourtLaw" 4 := E
  have hH : HW (mK (cK (s.heap, fun _ => 0, fun _ => false, (dC, dI), cA) ad) ad2) (GS s) (qset (fun _ _ => none) 207 (va_cpy (fun _ => none) (fun _ => none) 0 0 4)) (va_up (va_up (va_up (va_up (fun _ => none) x (some (.inr (0, [.null, .null, .null, .int 0, .int 0, .int 0, .null, .null, .null, .null, .null, .null, .int 0])))) x none) y (some (.inr (2, [.null, .null, .null, .null, .int 0, .int 0, .int 0, .int 0, .int 0, .int 0, .int 0, .long 0, .int 0, .int 0, .int 0, .null, .null, .int 0, .int 0, .int 0, .int 0, .int 0, .int 0, .int 0, .int 0, .null, .int 0, .null, .null, .int 0, .null, .null, .null, .null, .int 0, .int 0, .null, .null, .null, .null])))) y none) T0 Ti0 (fun _ => nt) := by
    refine ⟨⟨g6, fun h t ht => ?_, g7, fun h t hq ht => ?_⟩, fun h t ht => (by cases ht), fun i hi y hy => ?_, fun i hi y hy => ?_⟩
    · unfold T0 at ht
      by_cases e : h = -1
      · rw [if_pos e] at ht
        cases ht
        exact g8 _
      · rw [if_neg e] at ht; cases ht
    · unfold T0 at ht
      by_cases e : h = -1
      · rw [e] at hq
        exact absurd hq (by decide)
      · rw [if_neg e] at ht; cases ht
    · rw [qset_n (by decide)] at hy; cases hy
    · rw [qset_s] at hy
      unfold va_cpy at hy
      split at hy <;> cases hy
  have e1 : (mK (cK (s.heap, fun _ => 0, fun _ => false, (dC, dI), cA) ad) ad2).2.1 0 = x := ead
  have e2 : (mK (cK (s.heap, fun _ => 0, fun _ => false, (dC, dI), cA) ad) ad2).2.1 1000 = y := ead2
  have hl : lv_has ls 4 [(1, .ref ((mK (cK (s.heap, fun _ => 0, fun _ => false, (dC, dI), cA) ad) ad2).2.1 0)), (2, .ref ((mK (cK (s.heap, fun _ => 0, fun _ => false, (dC, dI), cA) ad) ad2).2.1 1000)), (3, .int (nI 0)), (0, .ref b)] := by
    rw [e1, e2]
    exact lv_sub hl [2, 1, 0, 3] rfl
  have hn13 : ¬ ql (mK (cK (s.heap, fun _ => 0, fun _ => false, (dC, dI), cA) ad) ad2) 13 := by
    intro h
    have h1 : (mLab 13 || cLab 13) = true := h.1
    rw [mLab_13] at h1
    exact absurd h1 (by decide)
  exact lw_loop hSim hn13 g1 g2 hlst g3 g4 hG hC hM rfl hX hbl hL E2 (fun hce hsl hw => fin (fun x hx => hw.S.2.2 x hx) hce hsl) (Ls + 6) 0 (Nat.zero_le _) (by omega) T0 Ti0 _ _ _ _ _ _ hR hH (Nat.le_of_ble_eq_true rfl) (Nat.le_of_ble_eq_true rfl) hw hl
