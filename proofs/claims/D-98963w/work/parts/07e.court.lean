/-! VaneCourt's constructor: its walk (printed by mk07e.py) -/
set_option maxRecDepth 100000
theorem kd_X1_init : yX1_init.cls ≠ "java/lang/invoke/MethodHandle" ∧ yX1_init.cls ≠ "java/lang/invoke/VarHandle" ∧ (parseMethodDescriptor yX1_init.desc).map (fun d => d.parameters.length) = some 0 := by decide +kernel
theorem map_inj {f : Nat → Nat} : ∀ {ls : List Nat}, (ls.map f).Nodup → ∀ {a b : Nat}, a ∈ ls → b ∈ ls → f a = f b → a = b := by
  intro ls
  induction ls with
  | nil => intro _ a b ha; cases ha
  | cons x ls ih =>
    intro h a b ha hb e
    rw [List.map_cons, List.nodup_cons] at h
    rcases List.mem_cons.mp ha with ha | ha <;> rcases List.mem_cons.mp hb with hb | hb
    · rw [ha, hb]
    · rw [ha] at e
      exact absurd (by rw [e]; exact List.mem_map.mpr ⟨b, hb, rfl⟩) h.1
    · rw [hb] at e
      exact absurd (by rw [← e]; exact List.mem_map.mpr ⟨a, ha, rfl⟩) h.1
    · exact ih h.2 ha hb e
theorem cLab_C {K : QK} {ad : Nat → Nat} : QCl (cK K ad) := by
  intro l h
  refine ⟨h, ?_⟩
  by_cases c : l < 1018
  · exact c
  · simp only [Bool.or_eq_true, Bool.and_eq_true, decide_eq_true_eq] at h
    omega
/-- all cells being made, the labels are laid -/
theorem WP.court {K : QK} {A B : QA} {L : QL} {X : QX} {M0 M : QM} {ad : Nat → Nat} {H : Heap} {locs : List Loc} (hw : WP K (A, B, L, X, M) H locs) (hg : adG ad) (hO : OwnL M0 M (cLs.map (fun l => (ad l, conR K ad (iniA, B, L, fun _ _ => none, M0) l)))) : WP (cK K ad) (iniA, B, L, fun _ _ => none, M0) H locs := by
  have hin : ∀ l, ql (cK K ad) l → l ∈ cLs := fun l h => cLs_all l h.2 h.1
  have had : ∀ l, ql (cK K ad) l → (cK K ad).2.1 l = ad l := by
    intro l h
    have h1 : cLab l = true := h.1
    show (if l < 1000 then ad l else K.2.1 l) = ad l
    refine if_pos ?_
    unfold cLab at h1
    simp only [Bool.or_eq_true, Bool.and_eq_true, decide_eq_true_eq] at h1
    omega
  have hnd : (cLs.map ad).Nodup := by
    have := hO.2.2
    rw [List.map_map] at this
    exact this
  refine hw.relab rfl rfl (fun l hl => ?_) (fun l k hl hk e => ?_) (fun a e h => ?_)
  · have hm := hO.2.1 _ (List.mem_map.mpr ⟨l, hin l hl, rfl⟩)
    refine ⟨conR K ad (iniA, B, L, fun _ _ => none, M0) l, ?_, ?_⟩
    · rw [had l hl]
      exact Or.inr hm.1
    · rw [had l hl]
      exact conR_at hg l
  · rw [had l hl, had k hk] at e
    exact map_inj hnd (hin l hl) (hin k hk) e
  · refine ⟨Or.inr (hO.1 a e h), fun l hl e9 => ?_⟩
    rw [had l hl] at e9
    have hm := hO.2.1 _ (List.mem_map.mpr ⟨l, hin l hl, rfl⟩)
    have h2 : M0 (ad l) = none := hm.2
    rw [e9] at h2
    have h3 : M0 a = some e := h
    rw [h2] at h3
    cases h3
theorem OwnL.eqZ {M0 M : QM} {Z Z' : va_W} (h : OwnL M0 M Z) (e : Z = Z') : OwnL M0 M Z' := by rw [← e]; exact h
theorem cZ_gen (F : Nat → Nat × va_E) {p0 p1 p2 p3 p4 p5 p10 p11 p12 : Nat × va_E} {Z1 Z2 Z3 : va_W} {l1 l2 l3 : List Nat} (h0 : p0 = F 0) (h12 : p12 = F 12) (h11 : p11 = F 11) (h10 : p10 = F 10) (h5 : p5 = F 5) (h4 : p4 = F 4) (h3 : p3 = F 3) (h2 : p2 = F 2) (h1 : p1 = F 1) (g1 : Z1 = l1.map F) (g2 : Z2 = l2.map F) (g3 : Z3 = l3.map F) : p0 :: p12 :: p11 :: p10 :: ((p5 :: p4 :: p3 :: ((p2 :: ([p1] ++ Z1)) ++ Z2)) ++ Z3) = (0 :: 12 :: 11 :: 10 :: ((5 :: 4 :: 3 :: ((2 :: ([1] ++ l1)) ++ l2)) ++ l3)).map F := by
  rw [h0, h12, h11, h10, h5, h4, h3, h2, h1, g1, g2, g3]
  simp only [List.map_cons, List.map_append, List.map_nil]
set_option maxHeartbeats 16000000 in
theorem m_X0_init (l : Launch) {K : QK} {G : State → Prop} (hG : QG G) (hAO : QAO2 G) {A B : QA} {L : QL} {X : QX} {M : QM} {x : Nat} (hq : M x = some (.inr (0, [.null, .null, .null, .int 0, .int 0, .int 0, .null, .null, .null, .null, .null, .null, .int 0]))) : MK l K G yX0_init (ws_ yX0_init cX0_init 1 none) 4 260 152 10844 [.ref x] (A, B, L, X, M) (fun v K' w' => v = none ∧ (∃ ad, K' = cK K ad ∧ ad 0 = x) ∧ w' = (qbe2 iniA, B, L, qset (fun _ _ => none) 207 (va_cpy (fun _ => none) (fun _ => none) 0 0 4), va_up M x none)) := by
  refine MK.ofI (by decide) (Nat.le_of_ble_eq_true rfl) (lv := [(0, .ref x)]) rfl (fun p e s m below meth c ls E hr hin hl hw => ?_)
  have hx := E.1
  have hb := E.2.1
  have hown := E.2.2.1
  have hts := E.2.2.2.2.1
  have hGs := E.2.2.2.2.2.1
  have hO := OwnL.start hq
  refine lv_aload_n hx hb dX0_init_0 rfl (lv_at hl 0 rfl) ?_
  refine W.objInit hx hb hown (hts _ q177) (hts _ q178) (hts _ q179) rfl (hl.1.trans E.2.2.2.2.2.2.2.symm) rfl dX0_init_1 (Nat.le_of_ble_eq_true rfl) (Nat.le_of_ble_eq_true rfl) ?_
  refine lv_aload_n hx hb dX0_init_4 rfl (lv_at hl 0 rfl) ?_
  refine r_new (ci := 1) (fs := [.null, .null, .null, .null, .null, .null, .null, .null]) E hw (T := TX1) (N := 8) rfl in_X1 tyX1 tyX1_ok q180 q181 q138 (fun j hj => by match j, hj with | 0, _ => rfl | 1, _ => rfl | 2, _ => rfl | 3, _ => rfl | 4, _ => rfl | 5, _ => rfl | 6, _ => rfl | 7, _ => rfl | j + 8, hj => exact absurd hj (by omega)) (Nat.le_of_ble_eq_true rfl) (Nat.le_of_ble_eq_true rfl) dX0_init_5 (fun s1 H hw hs1 _ _ => ?_)
  have hO := hO.newc (e := .inr (1, [.null, .null, .null, .null, .null, .null, .null, .null])) hs1
  refine lv_dup hx hb dX0_init_8 rfl ?_
  refine c_I (As := []) (rest := [.ref s1, .ref x]) hG E hw (m_X1_init l hAO va_up_s) (cwI 0 hts (lw_meth q184) rfl rfl rfl (hts _ q138) (hts _ q182) (hts _ q183) rfl kd_X1_init ⟨Nat.le_of_ble_eq_true rfl, Nat.le_of_ble_eq_true rfl⟩) hl rfl rfl (Nat.le_of_ble_eq_true rfl) dX0_init_9 ⟨(Nat.le_of_ble_eq_true rfl), (Nat.le_of_ble_eq_true rfl)⟩ (fun v1 w9 H1 locs1 hP hw => ?_)
  obtain ⟨an, ar, g2, g3, g4, g5, g6, ax, M0, rfl, rfl, hP⟩ := hP
  refine W.eq (g2 := F0 m 12 ls [.ref s1, .ref x]) rfl ?_
  have hO := hO.join1 hP
  have hO : OwnL (va_up M x none) _ ((x, .inr (0, [.null, .null, .null, .int 0, .int 0, .int 0, .null, .null, .null, .null, .null, .null, .int 0])) :: (((s1, .inr (1, [.ref an, .ref ar, .ref g2, .ref g3, .ref g4, .ref g5, .ref g6, .ref ax])) :: []) ++ stZ K an ar g2 g3 g4 g5 g6 ax)) := hO
  refine r_putF E hw hO.get0 (T := TX0) (N := 13) rfl in_X0 tyX0 tyX0_ok nmX0 0 (by decide) q238 rfl hin rfl rfl rfl (show 0 < 13 by decide) dX0_init_12 (fun H locs hw => ?_)
  have hO := hO.set0 (e := .inr (0, [.ref s1, .null, .null, .int 0, .int 0, .int 0, .null, .null, .null, .null, .null, .null, .int 0]))
  refine lv_aload_n hx hb dX0_init_15 rfl (lv_at hl 0 rfl) ?_
  refine r_new (ci := 1) (fs := [.null, .null, .null, .null, .null, .null, .null, .null]) E hw (T := TX1) (N := 8) rfl in_X1 tyX1 tyX1_ok q180 q181 q138 (fun j hj => by match j, hj with | 0, _ => rfl | 1, _ => rfl | 2, _ => rfl | 3, _ => rfl | 4, _ => rfl | 5, _ => rfl | 6, _ => rfl | 7, _ => rfl | j + 8, hj => exact absurd hj (by omega)) (Nat.le_of_ble_eq_true rfl) (Nat.le_of_ble_eq_true rfl) dX0_init_16 (fun s2 H hw hs2 _ _ => ?_)
  have hO := hO.newc (e := .inr (1, [.null, .null, .null, .null, .null, .null, .null, .null])) hs2
  refine lv_dup hx hb dX0_init_19 rfl ?_
  refine c_I (As := []) (rest := [.ref s2, .ref x]) hG E hw (m_X1_init l hAO va_up_s) (cwI 0 hts (lw_meth q184) rfl rfl rfl (hts _ q138) (hts _ q182) (hts _ q183) rfl kd_X1_init ⟨Nat.le_of_ble_eq_true rfl, Nat.le_of_ble_eq_true rfl⟩) hl rfl rfl (Nat.le_of_ble_eq_true rfl) dX0_init_20 ⟨(Nat.le_of_ble_eq_true rfl), (Nat.le_of_ble_eq_true rfl)⟩ (fun v1 w9 H1 locs1 hP hw => ?_)
  obtain ⟨bn, br, h2, h3, h4, h5, h6, bx, M1, rfl, rfl, hP⟩ := hP
  refine W.eq (g2 := F0 m 23 ls [.ref s2, .ref x]) rfl ?_
  have hO := hO.join1 hP
  have hO : OwnL (va_up M x none) _ ((x, .inr (0, [.ref s1, .null, .null, .int 0, .int 0, .int 0, .null, .null, .null, .null, .null, .null, .int 0])) :: (((s2, .inr (1, [.ref bn, .ref br, .ref h2, .ref h3, .ref h4, .ref h5, .ref h6, .ref bx])) :: (((s1, .inr (1, [.ref an, .ref ar, .ref g2, .ref g3, .ref g4, .ref g5, .ref g6, .ref ax])) :: []) ++ stZ K an ar g2 g3 g4 g5 g6 ax)) ++ stZ K bn br h2 h3 h4 h5 h6 bx)) := hO
  refine r_putF E hw hO.get0 (T := TX0) (N := 13) rfl in_X0 tyX0 tyX0_ok nmX0 1 (by decide) q239 rfl hin rfl rfl rfl (show 1 < 13 by decide) dX0_init_23 (fun H locs hw => ?_)
  have hO := hO.set0 (e := .inr (0, [.ref s1, .ref s2, .null, .int 0, .int 0, .int 0, .null, .null, .null, .null, .null, .null, .int 0]))
  refine lv_aload_n hx hb dX0_init_26 rfl (lv_at hl 0 rfl) ?_
  refine lv_sipush (v := (300:Int32)) hx hb dX0_init_27 (by decide) ?_
  refine r_newB (N := 300) E hw q278 (q_clamp (k := 300) rfl) (by decide) (by decide) (Nat.le_of_ble_eq_true rfl) (Nat.le_of_ble_eq_true rfl) dX0_init_30 (fun tp H hw htp _ => ?_)
  have hO := hO.newc (e := .inl (K.2.2.2.2 1, 300, .inl (fun _ => 0))) htp
  have hO : OwnL (va_up M x none) _ ((x, .inr (0, [.ref s1, .ref s2, .null, .int 0, .int 0, .int 0, .null, .null, .null, .null, .null, .null, .int 0])) :: (tp, .inl (K.2.2.2.2 1, 300, .inl (fun _ => 0))) :: (((s2, .inr (1, [.ref bn, .ref br, .ref h2, .ref h3, .ref h4, .ref h5, .ref h6, .ref bx])) :: (((s1, .inr (1, [.ref an, .ref ar, .ref g2, .ref g3, .ref g4, .ref g5, .ref g6, .ref ax])) :: []) ++ stZ K an ar g2 g3 g4 g5 g6 ax)) ++ stZ K bn br h2 h3 h4 h5 h6 bx)) := hO
  refine r_putF E hw hO.get0 (T := TX0) (N := 13) rfl in_X0 tyX0 tyX0_ok nmX0 2 (by decide) q240 rfl hin rfl rfl rfl (show 2 < 13 by decide) dX0_init_32 (fun H locs hw => ?_)
  have hO := hO.set0 (e := .inr (0, [.ref s1, .ref s2, .ref tp, .int 0, .int 0, .int 0, .null, .null, .null, .null, .null, .null, .int 0]))
  refine lv_aload_n hx hb dX0_init_35 rfl (lv_at hl 0 rfl) ?_
  refine lv_iconst (v := (-1:Int32)) hx hb dX0_init_36 (by decide) ?_
  refine r_putD E hw hO.get0 (T := TX0) (N := 13) rfl in_X0 tyX0 tyX0_ok nmX0 4 (by decide) q242 rfl rfl rfl (show 4 < 13 by decide) dX0_init_37 (fun H locs hw => ?_)
  have hO := hO.set0 (e := .inr (0, [.ref s1, .ref s2, .ref tp, .int 0, .int (-1), .int 0, .null, .null, .null, .null, .null, .null, .int 0]))
  refine lv_aload_n hx hb dX0_init_40 rfl (lv_at hl 0 rfl) ?_
  refine lv_iconst (v := (-1:Int32)) hx hb dX0_init_41 (by decide) ?_
  refine r_putD E hw hO.get0 (T := TX0) (N := 13) rfl in_X0 tyX0 tyX0_ok nmX0 5 (by decide) q243 rfl rfl rfl (show 5 < 13 by decide) dX0_init_42 (fun H locs hw => ?_)
  have hO := hO.set0 (e := .inr (0, [.ref s1, .ref s2, .ref tp, .int 0, .int (-1), .int (-1), .null, .null, .null, .null, .null, .null, .int 0]))
  refine lv_aload_n hx hb dX0_init_45 rfl (lv_at hl 0 rfl) ?_
  refine lv_bipush (v := (9:Int32)) hx hb dX0_init_46 (by decide) ?_
  refine r_newI (N := 9) E hw (q_clamp (k := 9) rfl) (by decide) (by decide) (Nat.le_of_ble_eq_true rfl) (Nat.le_of_ble_eq_true rfl) dX0_init_48 (fun nm H hw hnm _ => ?_)
  have hO := hO.newc (e := .inl (K.2.2.2.2 0, 9, .inl (fun _ => 0))) hnm
  have hO : OwnL (va_up M x none) _ ((x, .inr (0, [.ref s1, .ref s2, .ref tp, .int 0, .int (-1), .int (-1), .null, .null, .null, .null, .null, .null, .int 0])) :: (nm, .inl (K.2.2.2.2 0, 9, .inl (fun _ => 0))) :: (tp, .inl (K.2.2.2.2 1, 300, .inl (fun _ => 0))) :: (((s2, .inr (1, [.ref bn, .ref br, .ref h2, .ref h3, .ref h4, .ref h5, .ref h6, .ref bx])) :: (((s1, .inr (1, [.ref an, .ref ar, .ref g2, .ref g3, .ref g4, .ref g5, .ref g6, .ref ax])) :: []) ++ stZ K an ar g2 g3 g4 g5 g6 ax)) ++ stZ K bn br h2 h3 h4 h5 h6 bx)) := hO
  refine r_putF E hw hO.get0 (T := TX0) (N := 13) rfl in_X0 tyX0 tyX0_ok nmX0 6 (by decide) q244 rfl hin rfl rfl rfl (show 6 < 13 by decide) dX0_init_50 (fun H locs hw => ?_)
  have hO := hO.set0 (e := .inr (0, [.ref s1, .ref s2, .ref tp, .int 0, .int (-1), .int (-1), .ref nm, .null, .null, .null, .null, .null, .int 0]))
  refine lv_aload_n hx hb dX0_init_53 rfl (lv_at hl 0 rfl) ?_
  refine lv_sipush (v := (154:Int32)) hx hb dX0_init_54 (by decide) ?_
  refine r_newI (N := 154) E hw (q_clamp (k := 154) rfl) (by decide) (by decide) (Nat.le_of_ble_eq_true rfl) (Nat.le_of_ble_eq_true rfl) dX0_init_57 (fun tr H hw htr _ => ?_)
  have hO := hO.newc (e := .inl (K.2.2.2.2 0, 154, .inl (fun _ => 0))) htr
  have hO : OwnL (va_up M x none) _ ((x, .inr (0, [.ref s1, .ref s2, .ref tp, .int 0, .int (-1), .int (-1), .ref nm, .null, .null, .null, .null, .null, .int 0])) :: (tr, .inl (K.2.2.2.2 0, 154, .inl (fun _ => 0))) :: (nm, .inl (K.2.2.2.2 0, 9, .inl (fun _ => 0))) :: (tp, .inl (K.2.2.2.2 1, 300, .inl (fun _ => 0))) :: (((s2, .inr (1, [.ref bn, .ref br, .ref h2, .ref h3, .ref h4, .ref h5, .ref h6, .ref bx])) :: (((s1, .inr (1, [.ref an, .ref ar, .ref g2, .ref g3, .ref g4, .ref g5, .ref g6, .ref ax])) :: []) ++ stZ K an ar g2 g3 g4 g5 g6 ax)) ++ stZ K bn br h2 h3 h4 h5 h6 bx)) := hO
  refine r_putF E hw hO.get0 (T := TX0) (N := 13) rfl in_X0 tyX0 tyX0_ok nmX0 7 (by decide) q245 rfl hin rfl rfl rfl (show 7 < 13 by decide) dX0_init_59 (fun H locs hw => ?_)
  have hO := hO.set0 (e := .inr (0, [.ref s1, .ref s2, .ref tp, .int 0, .int (-1), .int (-1), .ref nm, .ref tr, .null, .null, .null, .null, .int 0]))
  refine lv_aload_n hx hb dX0_init_62 rfl (lv_at hl 0 rfl) ?_
  refine lv_iconst (v := (3:Int32)) hx hb dX0_init_63 (by decide) ?_
  refine lv_sipush (v := (154:Int32)) hx hb dX0_init_64 (by decide) ?_
  refine r_mnew (N := 3) (k := 154) E hw q224 (hAO s hGs).1 (by decide) (by decide) (Nat.le_of_ble_eq_true rfl) (Nat.le_of_ble_eq_true rfl) dX0_init_67 (fun gn H hw hgn => ?_)
  have hO := hO.grid (K := K) (N := 3) (k := 154) hgn
  have hO : OwnL (va_up M x none) _ ((x, .inr (0, [.ref s1, .ref s2, .ref tp, .int 0, .int (-1), .int (-1), .ref nm, .ref tr, .null, .null, .null, .null, .int 0])) :: (((tr, .inl (K.2.2.2.2 0, 154, .inl (fun _ => 0))) :: (nm, .inl (K.2.2.2.2 0, 9, .inl (fun _ => 0))) :: (tp, .inl (K.2.2.2.2 1, 300, .inl (fun _ => 0))) :: (((s2, .inr (1, [.ref bn, .ref br, .ref h2, .ref h3, .ref h4, .ref h5, .ref h6, .ref bx])) :: (((s1, .inr (1, [.ref an, .ref ar, .ref g2, .ref g3, .ref g4, .ref g5, .ref g6, .ref ax])) :: []) ++ stZ K an ar g2 g3 g4 g5 g6 ax)) ++ stZ K bn br h2 h3 h4 h5 h6 bx)) ++ grZ K gn 3 154)) := hO
  refine r_putF E hw hO.get0 (T := TX0) (N := 13) rfl in_X0 tyX0 tyX0_ok nmX0 8 (by decide) q246 rfl hin rfl rfl rfl (show 8 < 13 by decide) dX0_init_71 (fun H locs hw => ?_)
  have hO := hO.set0 (e := .inr (0, [.ref s1, .ref s2, .ref tp, .int 0, .int (-1), .int (-1), .ref nm, .ref tr, .ref gn, .null, .null, .null, .int 0]))
  refine lv_aload_n hx hb dX0_init_74 rfl (lv_at hl 0 rfl) ?_
  refine lv_iconst (v := (4:Int32)) hx hb dX0_init_75 (by decide) ?_
  refine r_newI (N := 4) E hw (q_clamp (k := 4) rfl) (by decide) (by decide) (Nat.le_of_ble_eq_true rfl) (Nat.le_of_ble_eq_true rfl) dX0_init_76 (fun cm H hw hcm _ => ?_)
  have hO := hO.newc (e := .inl (K.2.2.2.2 0, 4, .inl (fun _ => 0))) hcm
  have hO : OwnL (va_up M x none) _ ((x, .inr (0, [.ref s1, .ref s2, .ref tp, .int 0, .int (-1), .int (-1), .ref nm, .ref tr, .ref gn, .null, .null, .null, .int 0])) :: (cm, .inl (K.2.2.2.2 0, 4, .inl (fun _ => 0))) :: (((tr, .inl (K.2.2.2.2 0, 154, .inl (fun _ => 0))) :: (nm, .inl (K.2.2.2.2 0, 9, .inl (fun _ => 0))) :: (tp, .inl (K.2.2.2.2 1, 300, .inl (fun _ => 0))) :: (((s2, .inr (1, [.ref bn, .ref br, .ref h2, .ref h3, .ref h4, .ref h5, .ref h6, .ref bx])) :: (((s1, .inr (1, [.ref an, .ref ar, .ref g2, .ref g3, .ref g4, .ref g5, .ref g6, .ref ax])) :: []) ++ stZ K an ar g2 g3 g4 g5 g6 ax)) ++ stZ K bn br h2 h3 h4 h5 h6 bx)) ++ grZ K gn 3 154)) := hO
  refine r_putF E hw hO.get0 (T := TX0) (N := 13) rfl in_X0 tyX0 tyX0_ok nmX0 9 (by decide) q247 rfl hin rfl rfl rfl (show 9 < 13 by decide) dX0_init_78 (fun H locs hw => ?_)
  have hO := hO.set0 (e := .inr (0, [.ref s1, .ref s2, .ref tp, .int 0, .int (-1), .int (-1), .ref nm, .ref tr, .ref gn, .ref cm, .null, .null, .int 0]))
  refine lv_aload_n hx hb dX0_init_81 rfl (lv_at hl 0 rfl) ?_
  refine lv_iconst (v := (5:Int32)) hx hb dX0_init_82 (by decide) ?_
  refine r_newI (N := 5) E hw (q_clamp (k := 5) rfl) (by decide) (by decide) (Nat.le_of_ble_eq_true rfl) (Nat.le_of_ble_eq_true rfl) dX0_init_83 (fun od H hw hod _ => ?_)
  have hO := hO.newc (e := .inl (K.2.2.2.2 0, 5, .inl (fun _ => 0))) hod
  have hO : OwnL (va_up M x none) _ ((x, .inr (0, [.ref s1, .ref s2, .ref tp, .int 0, .int (-1), .int (-1), .ref nm, .ref tr, .ref gn, .ref cm, .null, .null, .int 0])) :: (od, .inl (K.2.2.2.2 0, 5, .inl (fun _ => 0))) :: (cm, .inl (K.2.2.2.2 0, 4, .inl (fun _ => 0))) :: (((tr, .inl (K.2.2.2.2 0, 154, .inl (fun _ => 0))) :: (nm, .inl (K.2.2.2.2 0, 9, .inl (fun _ => 0))) :: (tp, .inl (K.2.2.2.2 1, 300, .inl (fun _ => 0))) :: (((s2, .inr (1, [.ref bn, .ref br, .ref h2, .ref h3, .ref h4, .ref h5, .ref h6, .ref bx])) :: (((s1, .inr (1, [.ref an, .ref ar, .ref g2, .ref g3, .ref g4, .ref g5, .ref g6, .ref ax])) :: []) ++ stZ K an ar g2 g3 g4 g5 g6 ax)) ++ stZ K bn br h2 h3 h4 h5 h6 bx)) ++ grZ K gn 3 154)) := hO
  refine r_putF E hw hO.get0 (T := TX0) (N := 13) rfl in_X0 tyX0 tyX0_ok nmX0 10 (by decide) q248 rfl hin rfl rfl rfl (show 10 < 13 by decide) dX0_init_85 (fun H locs hw => ?_)
  have hO := hO.set0 (e := .inr (0, [.ref s1, .ref s2, .ref tp, .int 0, .int (-1), .int (-1), .ref nm, .ref tr, .ref gn, .ref cm, .ref od, .null, .int 0]))
  refine lv_aload_n hx hb dX0_init_88 rfl (lv_at hl 0 rfl) ?_
  refine lv_iconst (v := (5:Int32)) hx hb dX0_init_89 (by decide) ?_
  refine r_newI (N := 5) E hw (q_clamp (k := 5) rfl) (by decide) (by decide) (Nat.le_of_ble_eq_true rfl) (Nat.le_of_ble_eq_true rfl) dX0_init_90 (fun bo H hw hbo _ => ?_)
  have hO := hO.newc (e := .inl (K.2.2.2.2 0, 5, .inl (fun _ => 0))) hbo
  have hO : OwnL (va_up M x none) _ ((x, .inr (0, [.ref s1, .ref s2, .ref tp, .int 0, .int (-1), .int (-1), .ref nm, .ref tr, .ref gn, .ref cm, .ref od, .null, .int 0])) :: (bo, .inl (K.2.2.2.2 0, 5, .inl (fun _ => 0))) :: (od, .inl (K.2.2.2.2 0, 5, .inl (fun _ => 0))) :: (cm, .inl (K.2.2.2.2 0, 4, .inl (fun _ => 0))) :: (((tr, .inl (K.2.2.2.2 0, 154, .inl (fun _ => 0))) :: (nm, .inl (K.2.2.2.2 0, 9, .inl (fun _ => 0))) :: (tp, .inl (K.2.2.2.2 1, 300, .inl (fun _ => 0))) :: (((s2, .inr (1, [.ref bn, .ref br, .ref h2, .ref h3, .ref h4, .ref h5, .ref h6, .ref bx])) :: (((s1, .inr (1, [.ref an, .ref ar, .ref g2, .ref g3, .ref g4, .ref g5, .ref g6, .ref ax])) :: []) ++ stZ K an ar g2 g3 g4 g5 g6 ax)) ++ stZ K bn br h2 h3 h4 h5 h6 bx)) ++ grZ K gn 3 154)) := hO
  refine r_putF E hw hO.get0 (T := TX0) (N := 13) rfl in_X0 tyX0 tyX0_ok nmX0 11 (by decide) q249 rfl hin rfl rfl rfl (show 11 < 13 by decide) dX0_init_92 (fun H locs hw => ?_)
  have hO := hO.set0 (e := .inr (0, [.ref s1, .ref s2, .ref tp, .int 0, .int (-1), .int (-1), .ref nm, .ref tr, .ref gn, .ref cm, .ref od, .ref bo, .int 0]))
  have hZ := cZ_gen (fun l => (adX x s1 s2 tp nm tr gn cm od bo (adS an ar g2 g3 g4 g5 g6 ax) (adS bn br h2 h3 h4 h5 h6 bx) l, conR K (adX x s1 s2 tp nm tr gn cm od bo (adS an ar g2 g3 g4 g5 g6 ax) (adS bn br h2 h3 h4 h5 h6 bx)) (iniA, B, L, fun _ _ => none, va_up M x none) l)) (p0 := (x, .inr (0, [.ref s1, .ref s2, .ref tp, .int 0, .int (-1), .int (-1), .ref nm, .ref tr, .ref gn, .ref cm, .ref od, .ref bo, .int 0]))) (p1 := (s1, .inr (1, [.ref an, .ref ar, .ref g2, .ref g3, .ref g4, .ref g5, .ref g6, .ref ax]))) (p2 := (s2, .inr (1, [.ref bn, .ref br, .ref h2, .ref h3, .ref h4, .ref h5, .ref h6, .ref bx]))) (p3 := (tp, .inl (K.2.2.2.2 1, 300, .inl (fun _ => 0)))) (p4 := (nm, .inl (K.2.2.2.2 0, 9, .inl (fun _ => 0)))) (p5 := (tr, .inl (K.2.2.2.2 0, 154, .inl (fun _ => 0)))) (p10 := (cm, .inl (K.2.2.2.2 0, 4, .inl (fun _ => 0)))) (p11 := (od, .inl (K.2.2.2.2 0, 5, .inl (fun _ => 0)))) (p12 := (bo, .inl (K.2.2.2.2 0, 5, .inl (fun _ => 0)))) (Z3 := grZ K gn 3 154) (l1 := stL 100) (l2 := stL 200) (l3 := [6, 7, 8, 9]) rfl rfl rfl rfl rfl rfl rfl rfl rfl stC1 stC2 rfl
  have hO := hO.eqZ hZ
  obtain ⟨ad, e0, hw⟩ : ∃ ad : Nat → Nat, ad 0 = x ∧ WP (cK K ad) (iniA, B, L, fun _ _ => none, va_up M x none) H locs := ⟨_, rfl, WP.court hw adX_G hO⟩
  have E' : EV (cK K ad) G p s m #[.ref x] meth c cX0_init yX0_init.cls 1 := E
  have hC : QCl (cK K ad) := cLab_C
  have k0 : (cK K ad).2.1 0 = x := e0
  rw [← k0] at hl
  refine lv_aload_n hx hb dX0_init_95 rfl (lv_at hl 0 rfl) ?_
  refine r_getX (v := .ref ((cK K ad).2.1 2)) E' hw hC 1 (by decide) q239 rfl dX0_init_96 ?_
  refine lv_aload_n hx hb dX0_init_99 rfl (lv_at hl 0 rfl) ?_
  refine r_getX (v := .ref ((cK K ad).2.1 1)) E' hw hC 0 (by decide) q238 rfl dX0_init_100 ?_
  refine d_V (As := [.ref ((cK K ad).2.1 1)]) (v0 := none) hG E' hw hl (m_X1_be2 l hG hC (fun i _ y hy => by cases hy)) (QAt.lab (hC 2 rfl) (show qat (cK K ad) (iniA, B, L, fun _ _ => none, va_up M x none) 2 = .inr (1, sfl2 (cK K ad)) from rfl)) rfl (cwV 1 hts (lw_V q225 q226 q227 q138 q228) rfl rfl rfl ⟨rfl, kd_X1_be⟩ ⟨Nat.le_of_ble_eq_true rfl, Nat.le_of_ble_eq_true rfl⟩) rfl (rest := []) (st1 := []) rfl rfl rfl dX0_init_103 ⟨(Nat.le_of_ble_eq_true rfl), (Nat.le_of_ble_eq_true rfl)⟩ (fun H locs hw => ?_)
  exact r_retK (K' := cK K ad) E hr ⟨rfl, rfl⟩ ⟨rfl, ⟨ad, rfl, e0⟩, rfl⟩ hw (Nat.le_of_ble_eq_true rfl) (Nat.le_of_ble_eq_true rfl) dX0_init_106
