/-! either, both, most, ask, whole (printed by mk06f.py) -/
set_option maxRecDepth 100000
theorem kd_X13_init : yX13_init.cls ≠ "java/lang/invoke/MethodHandle" ∧ yX13_init.cls ≠ "java/lang/invoke/VarHandle" ∧ (parseMethodDescriptor yX13_init.desc).map (fun d => d.parameters.length) = some 3 := by decide +kernel
theorem kd_X14_init : yX14_init.cls ≠ "java/lang/invoke/MethodHandle" ∧ yX14_init.cls ≠ "java/lang/invoke/VarHandle" ∧ (parseMethodDescriptor yX14_init.desc).map (fun d => d.parameters.length) = some 2 := by decide +kernel
theorem kd_X15_init : yX15_init.cls ≠ "java/lang/invoke/MethodHandle" ∧ yX15_init.cls ≠ "java/lang/invoke/VarHandle" ∧ (parseMethodDescriptor yX15_init.desc).map (fun d => d.parameters.length) = some 2 := by decide +kernel
theorem kd_X3_ask : yX3_ask.cls ≠ "java/lang/invoke/MethodHandle" ∧ yX3_ask.cls ≠ "java/lang/invoke/VarHandle" ∧ (parseMethodDescriptor yX3_ask.desc).map (fun d => d.parameters.length) = some 0 := by decide +kernel
theorem kd_X3_both : yX3_both.cls ≠ "java/lang/invoke/MethodHandle" ∧ yX3_both.cls ≠ "java/lang/invoke/VarHandle" ∧ (parseMethodDescriptor yX3_both.desc).map (fun d => d.parameters.length) = some 0 := by decide +kernel
theorem kd_X3_either : yX3_either.cls ≠ "java/lang/invoke/MethodHandle" ∧ yX3_either.cls ≠ "java/lang/invoke/VarHandle" ∧ (parseMethodDescriptor yX3_either.desc).map (fun d => d.parameters.length) = some 0 := by decide +kernel
theorem kd_X3_fact : yX3_fact.cls ≠ "java/lang/invoke/MethodHandle" ∧ yX3_fact.cls ≠ "java/lang/invoke/VarHandle" ∧ (parseMethodDescriptor yX3_fact.desc).map (fun d => d.parameters.length) = some 0 := by decide +kernel
theorem kd_X3_most : yX3_most.cls ≠ "java/lang/invoke/MethodHandle" ∧ yX3_most.cls ≠ "java/lang/invoke/VarHandle" ∧ (parseMethodDescriptor yX3_most.desc).map (fun d => d.parameters.length) = some 0 := by decide +kernel
theorem kd_X6_init : yX6_init.cls ≠ "java/lang/invoke/MethodHandle" ∧ yX6_init.cls ≠ "java/lang/invoke/VarHandle" ∧ (parseMethodDescriptor yX6_init.desc).map (fun d => d.parameters.length) = some 1 := by decide +kernel
theorem kd_X7_init : yX7_init.cls ≠ "java/lang/invoke/MethodHandle" ∧ yX7_init.cls ≠ "java/lang/invoke/VarHandle" ∧ (parseMethodDescriptor yX7_init.desc).map (fun d => d.parameters.length) = some 1 := by decide +kernel
theorem kd_X8_init : yX8_init.cls ≠ "java/lang/invoke/MethodHandle" ∧ yX8_init.cls ≠ "java/lang/invoke/VarHandle" ∧ (parseMethodDescriptor yX8_init.desc).map (fun d => d.parameters.length) = some 1 := by decide +kernel
theorem pbo_id {α : Type} {o : Option (PR α)} {r : PR α} (h : o = some r) : pbo o (fun a t => some (.inr (a, t, 0))) = some r := by
  subst h
  cases r with
  | inl e => rfl
  | inr x => rfl
set_option maxHeartbeats 8000000 in
theorem wl_X3_both {p : Program} {l : Launch} {e : Env} {s : State} {m : MethodId} {below : List Frame} {meth : Method} {c : Code} {K : QK} {G : State → Prop} {A B : QA} {L : QL} {X : QX} {M0 : QM} {n : Nat} {y : QY} {ea mi : Nat} {one : QTS → Option (PR QV)} {fr lo dep : Nat} {r : PR QV} (hG : QG G) (hC : QCl K) (h13 : ql K 13) (hS : QSt K G y) (hn : n ≤ 300) (hLs : QLs K G ea mi) (hfr : 12 ≤ fr) (hlo : 40 * fr + 200 ≤ lo) (hP : PT n one)
    (hM : ∀ (M : QM) (t : QTS) (r1 : PR QV), t.1 ≤ n → t.2.2.2.2.1 ≤ 8 → one t = some r1 → MP l K G yX3_ask (ws_ yX3_ask cX3_ask 3 (some (.object "VaneCourt$Asked"))) fr lo [.ref (K.2.1 13)] A B L X M n t r1 (VA K dep M))
    (E : EV K G p s m #[.ref (K.2.1 13)] meth c cX3_both RX3 2) (hr : meth.sig.returnType = some (.object "VaneCourt$Asked")) (hnt : ∀ x ∈ c.exceptionTable.toList, False) :
    ∀ (f : Nat) (lm em : Nat) (its : List QV) (xs : List Nat) (F M : QM) (t : QTS) (z : PR QV) (c0 : Nat), its.length + f = 161 → 1 ≤ its.length → sAlL (A 3) n one 217 1 f its t = some z → r = padd c0 z → t.1 ≤ n → t.2.2.2.2.1 ≤ 8 → AlS K ea M0 F M dep lm em its xs →
    ∀ {H : Heap} {locs : List Loc} {ls : Array Slot} {cells slots : Nat}, cells ≤ c0 → slots ≤ 12 * c0 → WP K (tw A n t, B, L, X, M) H locs → lv_has ls 2 [(1, .ref lm), (0, .ref (K.2.1 13))] → W p l e (pR (fr + 1) (lo + 40) r) s m #[.ref (K.2.1 13)] below meth c H locs cells slots (PQ below K A B L X n M0 (VA K (dep + 1) M0) #[.ref (K.2.1 13)] s r) (F0 m 17 ls []) := by
  have hx := E.1
  have hb := E.2.1
  have hown := E.2.2.1
  have hts := E.2.2.2.2.1
  intro f
  induction f with
  | zero => intro lm em its xs F M t z c0 _ _ h; cases h
  | succ f ih =>
    intro lm em its xs F M t z c0 hf h1 h hz ht ho hch H locs ls cells slots hc hs hw hl
    have hle : c0 ≤ pc_ r := by rw [hz, pc_add]; exact Nat.le_add_right _ _
    have hxl : xs.length = its.length := hch.2.2.2.2.1
    obtain ⟨mo, hlm, -⟩ := id hch.2.1
    rw [sAlL] at h
    refine lv_aload_n hx hb dX3_both_17 rfl (lv_at hl 1 rfl) ?_
    refine r_gSort E hw hC h13 q317 dX3_both_18 ?_
    refine lv_sipush (v := (217:Int32)) hx hb dX3_both_21 (by decide) ?_
    refine lv_icmp_ne (tgt := 43) hx hb dX3_both_24 (by decide) (fun c1 => ?_) (fun c1 => ?_)
    · rw [if_neg c1] at h
      have h := Option.some.inj h
      subst h
      refine lv_aload_n hx hb dX3_both_43 rfl (lv_at hl 0 rfl) ?_
      refine d_V (As := []) (v0 := some (.int (nI xs.length))) hG E hw hl (m_J2_size l (QAt.dyn hlm)) (QAt.dyn hlm) rfl (cwV 0 hts (lw_V q674 q675 q676 q145 q677) rfl rfl rfl ⟨rfl, kd_J2_size⟩ ⟨(show 1 + 1 ≤ fr + 1 by omega), (show 8 + (1 + 11) + 40 ≤ lo + 40 by omega)⟩) rfl (rest := []) (st1 := [.int (nI xs.length)]) rfl rfl rfl dX3_both_44 ⟨(show cells ≤ pc_ r by omega), (show slots ≤ 12 * pc_ r by omega)⟩ (fun H locs hw => ?_)
      refine lv_iconst (v := (1:Int32)) hx hb dX3_both_47 (by decide) ?_
      refine lv_icmp_ne (tgt := 62) hx hb dX3_both_48 (by decide) (fun c2 => ?_) (fun c2 => ?_)
      · have h9 : its.length ≠ 1 := fun e9 => c2 (by rw [hxl, e9]; rfl)
        rw [if_neg h9] at hz
        have hp : pc_ r = c0 + 1 := by rw [hz]; rfl
        refine r_new (ci := 14) (fs := [.int 0, .null]) E hw (T := TX14) (N := 2) rfl in_X14 tyX14 tyX14_ok q819 q820 q169 (fun j hj => by match j, hj with | 0, _ => rfl | 1, _ => rfl | j + 2, hj => exact absurd hj (by omega)) (show _ ≤ pc_ r by omega) (show _ ≤ 12 * pc_ r by omega) dX3_both_62 (fun q H hw hq _ _ => ?_)
        have hq1 : M q = none := hq
        refine lv_dup hx hb dX3_both_65 rfl ?_
        refine lv_iconst (v := (1:Int32)) hx hb dX3_both_66 (by decide) ?_
        refine lv_aload_n hx hb dX3_both_67 rfl (lv_at hl 0 rfl) ?_
        refine c_IN (As := [.int 1, .ref lm]) (rest := [.ref q]) hG E hw (m_X14_init l hG (by decide) va_up_s) ⟨va_cnB 2 hts (lw_meth q823) rfl rfl rfl (hG.2.2 s _ E.2.2.2.2.2.1 q821 rfl) (hts _ q169) kd_X14_init ⟨(show 3 + 1 ≤ fr + 1 by omega), (show 8 + (3 + 11) + 80 ≤ lo + 40 by omega)⟩, rfl, hts _ q822⟩ hl rfl rfl (Nat.le_of_ble_eq_true rfl) dX3_both_68 ⟨(show _ ≤ pc_ r by omega), (show _ ≤ 12 * pc_ r by omega)⟩ (fun v w' H locs hP9 hw => ?_)
        obtain ⟨rfl, rfl⟩ := hP9
        refine W.eq (g2 := F0 m 71 ls [.ref q]) rfl ?_
        simp only [va_up_up] at hw
        have hx9 : QExt M (va_up M q (some (.inr (14, [.int 1, .ref lm])))) := QExt.up hq1
        exact p_aret (a := alV 1 its) (c0 := c0) (c1 := 1) E hr (Or.inl ⟨_, rfl⟩) hz (by omega) (by omega) (hch.1.1.trans hx9) ⟨q, rfl, (hch.call hx9).all (by omega) (by omega) (by decide) va_up_s (hch.1.no hq1).2⟩ hw dX3_both_71
      · have h9 : its.length = 1 := by rw [← hxl]; exact nI_inj c2 (by omega) (by decide)
        rw [if_pos h9] at hz
        obtain ⟨x, hx0, hT⟩ := hch.one (z := 1) h9
        refine lv_aload_n hx hb dX3_both_51 rfl (lv_at hl 0 rfl) ?_
        refine lv_iconst (v := (0:Int32)) hx hb dX3_both_52 (by decide) ?_
        refine d_V (As := [.int (nI 0)]) (v0 := some (.ref x)) hG E hw hl (m_J2_get l hG (hch.2.1.lst0 (by omega)) hx0) (QAt.dyn hlm) rfl (cwV 1 hts (lw_V q806 q807 q808 q145 q809) rfl rfl rfl ⟨rfl, kd_J2_get⟩ ⟨(show 3 + 1 ≤ fr + 1 by omega), (show 8 + (2 + 11) + 120 ≤ lo + 40 by omega)⟩) rfl (rest := []) (st1 := [.ref x]) rfl rfl rfl dX3_both_53 ⟨(show cells ≤ pc_ r by omega), (show slots ≤ 12 * pc_ r by omega)⟩ (fun H locs hw => ?_)
        refine r_castK hG E hw (AskAt.ext hch.1.2.1 _ _ _ _ hT) q818 dX3_both_56 ?_
        refine lv_goto (tgt := 71) hx hb dX3_both_59 (by decide) ?_
        exact p_aret (a := alV 1 its) (c0 := c0) (c1 := 0) E hr (Or.inl ⟨_, rfl⟩) hz (by omega) (by omega) hch.1.1 ⟨x, rfl, AskAt.up _ _ _ _ (AskAt.ext hch.1.emb _ _ _ _ hT)⟩ hw dX3_both_71
    · rw [if_pos c1] at h
      refine lv_aload_n hx hb dX3_both_27 rfl (lv_at hl 1 rfl) ?_
      refine d_V (As := []) (v0 := none) hG E hw hl (m_X3_next l hG hC h13 hS hn ht) (qT13 h13) rfl (cwV 0 hts (lw_V q406 q408 qs1 q141 q409) rfl rfl rfl ⟨rfl, kd_X3_next⟩ ⟨(show 6 + 1 ≤ fr + 1 by omega), (show 8 + (3 + 11) + 240 ≤ lo + 40 by omega)⟩) rfl (rest := []) (st1 := []) rfl rfl rfl dX3_both_28 ⟨(show cells ≤ pc_ r by omega), (show slots ≤ 12 * pc_ r by omega)⟩ (fun H locs hw => ?_)
      refine lv_aload_n hx hb dX3_both_31 rfl (lv_at hl 0 rfl) ?_
      refine lv_aload_n hx hb dX3_both_32 rfl (lv_at hl 1 rfl) ?_
      have nx := TK.nx (D := A 3) ht
      refine c_B (As := []) (rest := [.ref lm]) (V1 := VA K dep M) hG E hnt hw h13 hch.1.1 h hz hc hs (fun r1 h1 => hM M _ r1 nx.1 (by rw [nx.2]; exact ho) h1) (fun r1 => (cwV 0 hts (lw_V q573 q575 qs12 q141 q576) rfl rfl rfl ⟨rfl, kd_X3_ask⟩ ⟨(show fr + 1 ≤ fr + 1 by omega), (show 8 + (3 + 11) + lo ≤ lo + 40 by omega)⟩)) hl rfl rfl rfl dX3_both_33 (fun q2 t2 cst v M1 H locs y1 ho1 h hz hc hs hx1 hV hw => ?_)
      obtain ⟨x, rfl, hT⟩ := hV
      refine W.eq (g2 := F0 m 36 ls [.ref x, .ref lm]) rfl ?_
      obtain ⟨y2, h, hy2⟩ := pad_s h
      rw [hy2, padd_padd] at hz
      have hch1 := hch.call hx1
      have tk := hP _ _ _ _ nx.1 ho1
      have hTF := AskAt.ext (qfr_new (F := F)) _ _ _ _ hT
      have hle2 : c0 + cst + addCost its.length ≤ pc_ r := by rw [hz, pc_add]; exact Nat.le_add_right _ _
      refine c_V (As := [.ref x]) (rest := []) hG E hw (m_J2_add l hG hLs hch1.2.1 (by omega) hch1.el (hTF.el.ext hch1.1.2.1)) (QAt.dyn (hx1 _ _ hlm)) rfl (cwV 1 hts (lw_V q612 q613 q614 q145 q615) rfl rfl rfl ⟨rfl, kd_J2_add⟩ ⟨(show 8 + 1 ≤ fr + 1 by omega), (show 8 + (2 + 11) + 380 ≤ lo + 40 by omega)⟩) hl rfl rfl (Nat.le_of_ble_eq_true rfl) dX3_both_36 ⟨(show cells + cst + addCost xs.length ≤ pc_ r by rw [hxl]; omega), (show slots + 12 * cst + 12 * addCost xs.length ≤ 12 * pc_ r by rw [hxl]; omega)⟩ (fun v w' H locs hP9 hw => ?_)
      obtain ⟨em', M2, rfl, rfl, a2, a5, a7⟩ := hP9
      refine W.eq (g2 := F0 m 39 ls [.int 1]) rfl ?_
      refine lv_pop hx hb dX3_both_39 rfl ?_
      refine lv_goto (tgt := 17) hx hb dX3_both_40 (by decide) ?_
      exact ih lm em' (its ++ [q2]) (xs ++ [x]) (qfr F M M1) M2 t2 y2 (c0 + cst + addCost its.length) (by rw [List.length_append]; show its.length + 1 + f = 161; omega) (by rw [List.length_append]; show 1 ≤ its.length + 1; omega) h hz tk.1 (by rw [congrArg Prod.fst tk.2, congrArg Prod.fst nx.2]; exact ho) (hch1.add hTF a2 a5 a7) (by rw [hxl]; omega) (by rw [hxl]; omega) hw hl
set_option maxHeartbeats 8000000 in
theorem m_X3_both_of (l : Launch) {K : QK} {G : State → Prop} {A B : QA} {L : QL} {X : QX} {M : QM} {n : Nat} {y : QY} {t : QTS} {ea mi : Nat} {one : QTS → Option (PR QV)} {fr lo dep : Nat} {r : PR QV} (hG : QG G) (hC : QCl K) (h13 : ql K 13) (hS : QSt K G y) (hn : n ≤ 300) (hLs : QLs K G ea mi) (hfr : 12 ≤ fr) (hlo : 40 * fr + 200 ≤ lo) (hP : PT n one)
    (hM : ∀ (M : QM) (t : QTS) (r1 : PR QV), t.1 ≤ n → t.2.2.2.2.1 ≤ 8 → one t = some r1 → MP l K G yX3_ask (ws_ yX3_ask cX3_ask 3 (some (.object "VaneCourt$Asked"))) fr lo [.ref (K.2.1 13)] A B L X M n t r1 (VA K dep M)) (ht : t.1 ≤ n) (ho : t.2.2.2.2.1 ≤ 8) (h : sAll (A 3) n one 217 1 t = some r) :
    MP l K G yX3_both (ws_ yX3_both cX3_both 2 (some (.object "VaneCourt$Asked"))) (fr + 1) (lo + 40) [.ref (K.2.1 13)] A B L X M n t r (VA K (dep + 1) M) := by
  refine MX.of (by decide) (Nat.le_of_ble_eq_true rfl) (lv := [(0, .ref (K.2.1 13))]) rfl (fun p e s m below meth c ls E hr hnt hl hw => ?_)
  have hx := E.1
  have hb := E.2.1
  have hown := E.2.2.1
  have hts := E.2.2.2.2.1
  unfold sAll at h
  obtain ⟨z, h, hz⟩ := pad_s h
  have hle : 1 ≤ pc_ r := by rw [hz, pc_add]; exact Nat.le_add_right _ _
  refine r_new (ci := 17) (fs := [.int 0, .null, .int 0]) E hw (T := TJ2) (N := 3) rfl in_J2 tyJ2 tyJ2_ok q567 q351 q145 (fun j hj => by match j, hj with | 0, _ => rfl | 1, _ => rfl | 2, _ => rfl | j + 3, hj => exact absurd hj (by omega)) (show _ ≤ pc_ r by omega) (show _ ≤ 12 * pc_ r by omega) dX3_both_0 (fun lm H hw hlm _ _ => ?_)
  have hq0 : M lm = none := hlm
  refine lv_dup hx hb dX3_both_3 rfl ?_
  refine c_I (As := []) (rest := [.ref lm]) hG E hw (m_J2_init l hG hLs va_up_s) (cwI 0 hts (lw_meth q354) rfl rfl rfl (hts _ q145) (hts _ q568) (hts _ q353) rfl kd_J2_init ⟨(show 4 + 1 ≤ fr + 1 by omega), (show 8 + (1 + 11) + 120 ≤ lo + 40 by omega)⟩) hl rfl rfl (Nat.le_of_ble_eq_true rfl) dX3_both_4 ⟨(show _ ≤ pc_ r by omega), (show _ ≤ 12 * pc_ r by omega)⟩ (fun v w' H locs hP9 hw => ?_)
  obtain ⟨rfl, rfl⟩ := hP9
  refine W.eq (g2 := F0 m 7 ls [.ref lm]) rfl ?_
  simp only [va_up_up] at hw
  refine lv_astore_n (lv' := [(1, .ref lm), (0, .ref (K.2.1 13))]) hx hb dX3_both_7 rfl hl (by decide) rfl (fun ls hl => ?_)
  have hx1 : QExt M (va_up M lm (some (.inr (17, [.int 0, .ref ea, .int 0])))) := QExt.up hq0
  have hch : AlS K ea M (fun _ => none) (va_up M lm (some (.inr (17, [.int 0, .ref ea, .int 0])))) dep lm ea [] [] := ⟨⟨hx1, fun _ _ h => (by cases h), fun _ _ _ => rfl⟩, ⟨0, va_up_s, Or.inl ⟨rfl, rfl⟩⟩, ⟨rfl, hq0⟩, fun h9 => absurd rfl h9, rfl, fun i x it h9 => (by cases h9)⟩
  refine lv_aload_n hx hb dX3_both_8 rfl (lv_at hl 0 rfl) ?_
  refine lv_aload_n hx hb dX3_both_9 rfl (lv_at hl 1 rfl) ?_
  refine c_B (c0 := 1) (As := []) (rest := [.ref lm]) (V1 := VA K dep (va_up M lm (some (.inr (17, [.int 0, .ref ea, .int 0]))))) hG E hnt hw h13 hx1 h hz (show 0 + 1 + 0 ≤ 1 by omega) (show 0 + 3 + 0 ≤ 12 * 1 by omega) (fun r1 h1 => hM _ _ r1 ht ho h1) (fun r1 => (cwV 0 hts (lw_V q573 q575 qs12 q141 q576) rfl rfl rfl ⟨rfl, kd_X3_ask⟩ ⟨(show fr + 1 ≤ fr + 1 by omega), (show 8 + (3 + 11) + lo ≤ lo + 40 by omega)⟩)) hl rfl rfl rfl dX3_both_10 (fun u t1 cst v M1 H locs y1 ho1 h hz hc hs hx2 hV hw => ?_)
  obtain ⟨x, rfl, hT⟩ := hV
  refine W.eq (g2 := F0 m 13 ls [.ref x, .ref lm]) rfl ?_
  obtain ⟨y2, h, hy2⟩ := pad_s h
  rw [hy2, padd_padd] at hz
  have hch1 := hch.call hx2
  have tk := hP _ _ _ _ ht ho1
  have hTF := AskAt.ext (qfr_new (F := fun _ => none)) _ _ _ _ hT
  have hle2 : 1 + cst + 1 ≤ pc_ r := by rw [hz, pc_add]; exact Nat.le_add_right _ _
  refine c_V (As := [.ref x]) (rest := []) hG E hw (m_J2_add l hG hLs hch1.2.1 (by decide) hch1.el (hTF.el.ext hch1.1.2.1)) (QAt.dyn (hx2 _ _ va_up_s)) rfl (cwV 1 hts (lw_V q612 q613 q614 q145 q615) rfl rfl rfl ⟨rfl, kd_J2_add⟩ ⟨(show 8 + 1 ≤ fr + 1 by omega), (show 8 + (2 + 11) + 380 ≤ lo + 40 by omega)⟩) hl rfl rfl (Nat.le_of_ble_eq_true rfl) dX3_both_13 ⟨(show 0 + 1 + 0 + cst + 1 ≤ pc_ r by omega), (show 0 + 3 + 0 + 12 * cst + 12 * 1 ≤ 12 * pc_ r by omega)⟩ (fun v w' H locs hP9 hw => ?_)
  obtain ⟨em', M2, rfl, rfl, a2, a5, a7⟩ := hP9
  refine W.eq (g2 := F0 m 16 ls [.int 1]) rfl ?_
  refine lv_pop hx hb dX3_both_16 rfl ?_
  exact wl_X3_both hG hC h13 hS hn hLs hfr hlo hP hM E hr hnt 160 lm em' [u] [x] _ M2 t1 y2 (1 + cst + 1) rfl (Nat.le_refl _) h hz tk.1 (by rw [congrArg Prod.fst tk.2]; exact ho) (hch1.add hTF a2 a5 a7) (show 0 + 1 + 0 + cst + 1 ≤ _ by omega) (show 0 + 3 + 0 + 12 * cst + 12 * 1 ≤ _ by omega) hw hl
set_option maxHeartbeats 8000000 in
theorem wl_X3_either {p : Program} {l : Launch} {e : Env} {s : State} {m : MethodId} {below : List Frame} {meth : Method} {c : Code} {K : QK} {G : State → Prop} {A B : QA} {L : QL} {X : QX} {M0 : QM} {n : Nat} {y : QY} {ea mi : Nat} {one : QTS → Option (PR QV)} {fr lo dep : Nat} {r : PR QV} (hG : QG G) (hC : QCl K) (h13 : ql K 13) (hS : QSt K G y) (hn : n ≤ 300) (hLs : QLs K G ea mi) (hfr : 12 ≤ fr) (hlo : 40 * fr + 200 ≤ lo) (hP : PT n one)
    (hM : ∀ (M : QM) (t : QTS) (r1 : PR QV), t.1 ≤ n → t.2.2.2.2.1 ≤ 8 → one t = some r1 → MP l K G yX3_both (ws_ yX3_both cX3_both 2 (some (.object "VaneCourt$Asked"))) fr lo [.ref (K.2.1 13)] A B L X M n t r1 (VA K dep M))
    (E : EV K G p s m #[.ref (K.2.1 13)] meth c cX3_either RX3 2) (hr : meth.sig.returnType = some (.object "VaneCourt$Asked")) (hnt : ∀ x ∈ c.exceptionTable.toList, False) :
    ∀ (f : Nat) (lm em : Nat) (its : List QV) (xs : List Nat) (F M : QM) (t : QTS) (z : PR QV) (c0 : Nat), its.length + f = 161 → 1 ≤ its.length → sAlL (A 3) n one 216 0 f its t = some z → r = padd c0 z → t.1 ≤ n → t.2.2.2.2.1 ≤ 8 → AlS K ea M0 F M dep lm em its xs →
    ∀ {H : Heap} {locs : List Loc} {ls : Array Slot} {cells slots : Nat}, cells ≤ c0 → slots ≤ 12 * c0 → WP K (tw A n t, B, L, X, M) H locs → lv_has ls 2 [(1, .ref lm), (0, .ref (K.2.1 13))] → W p l e (pR (fr + 1) (lo + 40) r) s m #[.ref (K.2.1 13)] below meth c H locs cells slots (PQ below K A B L X n M0 (VA K (dep + 1) M0) #[.ref (K.2.1 13)] s r) (F0 m 17 ls []) := by
  have hx := E.1
  have hb := E.2.1
  have hown := E.2.2.1
  have hts := E.2.2.2.2.1
  intro f
  induction f with
  | zero => intro lm em its xs F M t z c0 _ _ h; cases h
  | succ f ih =>
    intro lm em its xs F M t z c0 hf h1 h hz ht ho hch H locs ls cells slots hc hs hw hl
    have hle : c0 ≤ pc_ r := by rw [hz, pc_add]; exact Nat.le_add_right _ _
    have hxl : xs.length = its.length := hch.2.2.2.2.1
    obtain ⟨mo, hlm, -⟩ := id hch.2.1
    rw [sAlL] at h
    refine lv_aload_n hx hb dX3_either_17 rfl (lv_at hl 1 rfl) ?_
    refine r_gSort E hw hC h13 q317 dX3_either_18 ?_
    refine lv_sipush (v := (216:Int32)) hx hb dX3_either_21 (by decide) ?_
    refine lv_icmp_ne (tgt := 43) hx hb dX3_either_24 (by decide) (fun c1 => ?_) (fun c1 => ?_)
    · rw [if_neg c1] at h
      have h := Option.some.inj h
      subst h
      refine lv_aload_n hx hb dX3_either_43 rfl (lv_at hl 0 rfl) ?_
      refine d_V (As := []) (v0 := some (.int (nI xs.length))) hG E hw hl (m_J2_size l (QAt.dyn hlm)) (QAt.dyn hlm) rfl (cwV 0 hts (lw_V q674 q675 q676 q145 q677) rfl rfl rfl ⟨rfl, kd_J2_size⟩ ⟨(show 1 + 1 ≤ fr + 1 by omega), (show 8 + (1 + 11) + 40 ≤ lo + 40 by omega)⟩) rfl (rest := []) (st1 := [.int (nI xs.length)]) rfl rfl rfl dX3_either_44 ⟨(show cells ≤ pc_ r by omega), (show slots ≤ 12 * pc_ r by omega)⟩ (fun H locs hw => ?_)
      refine lv_iconst (v := (1:Int32)) hx hb dX3_either_47 (by decide) ?_
      refine lv_icmp_ne (tgt := 62) hx hb dX3_either_48 (by decide) (fun c2 => ?_) (fun c2 => ?_)
      · have h9 : its.length ≠ 1 := fun e9 => c2 (by rw [hxl, e9]; rfl)
        rw [if_neg h9] at hz
        have hp : pc_ r = c0 + 1 := by rw [hz]; rfl
        refine r_new (ci := 14) (fs := [.int 0, .null]) E hw (T := TX14) (N := 2) rfl in_X14 tyX14 tyX14_ok q819 q820 q169 (fun j hj => by match j, hj with | 0, _ => rfl | 1, _ => rfl | j + 2, hj => exact absurd hj (by omega)) (show _ ≤ pc_ r by omega) (show _ ≤ 12 * pc_ r by omega) dX3_either_62 (fun q H hw hq _ _ => ?_)
        have hq1 : M q = none := hq
        refine lv_dup hx hb dX3_either_65 rfl ?_
        refine lv_iconst (v := (0:Int32)) hx hb dX3_either_66 (by decide) ?_
        refine lv_aload_n hx hb dX3_either_67 rfl (lv_at hl 0 rfl) ?_
        refine c_IN (As := [.int 0, .ref lm]) (rest := [.ref q]) hG E hw (m_X14_init l hG (by decide) va_up_s) ⟨va_cnB 2 hts (lw_meth q823) rfl rfl rfl (hG.2.2 s _ E.2.2.2.2.2.1 q821 rfl) (hts _ q169) kd_X14_init ⟨(show 3 + 1 ≤ fr + 1 by omega), (show 8 + (3 + 11) + 80 ≤ lo + 40 by omega)⟩, rfl, hts _ q822⟩ hl rfl rfl (Nat.le_of_ble_eq_true rfl) dX3_either_68 ⟨(show _ ≤ pc_ r by omega), (show _ ≤ 12 * pc_ r by omega)⟩ (fun v w' H locs hP9 hw => ?_)
        obtain ⟨rfl, rfl⟩ := hP9
        refine W.eq (g2 := F0 m 71 ls [.ref q]) rfl ?_
        simp only [va_up_up] at hw
        have hx9 : QExt M (va_up M q (some (.inr (14, [.int 0, .ref lm])))) := QExt.up hq1
        exact p_aret (a := alV 0 its) (c0 := c0) (c1 := 1) E hr (Or.inl ⟨_, rfl⟩) hz (by omega) (by omega) (hch.1.1.trans hx9) ⟨q, rfl, (hch.call hx9).all (by omega) (by omega) (by decide) va_up_s (hch.1.no hq1).2⟩ hw dX3_either_71
      · have h9 : its.length = 1 := by rw [← hxl]; exact nI_inj c2 (by omega) (by decide)
        rw [if_pos h9] at hz
        obtain ⟨x, hx0, hT⟩ := hch.one (z := 0) h9
        refine lv_aload_n hx hb dX3_either_51 rfl (lv_at hl 0 rfl) ?_
        refine lv_iconst (v := (0:Int32)) hx hb dX3_either_52 (by decide) ?_
        refine d_V (As := [.int (nI 0)]) (v0 := some (.ref x)) hG E hw hl (m_J2_get l hG (hch.2.1.lst0 (by omega)) hx0) (QAt.dyn hlm) rfl (cwV 1 hts (lw_V q806 q807 q808 q145 q809) rfl rfl rfl ⟨rfl, kd_J2_get⟩ ⟨(show 3 + 1 ≤ fr + 1 by omega), (show 8 + (2 + 11) + 120 ≤ lo + 40 by omega)⟩) rfl (rest := []) (st1 := [.ref x]) rfl rfl rfl dX3_either_53 ⟨(show cells ≤ pc_ r by omega), (show slots ≤ 12 * pc_ r by omega)⟩ (fun H locs hw => ?_)
        refine r_castK hG E hw (AskAt.ext hch.1.2.1 _ _ _ _ hT) q818 dX3_either_56 ?_
        refine lv_goto (tgt := 71) hx hb dX3_either_59 (by decide) ?_
        exact p_aret (a := alV 0 its) (c0 := c0) (c1 := 0) E hr (Or.inl ⟨_, rfl⟩) hz (by omega) (by omega) hch.1.1 ⟨x, rfl, AskAt.up _ _ _ _ (AskAt.ext hch.1.emb _ _ _ _ hT)⟩ hw dX3_either_71
    · rw [if_pos c1] at h
      refine lv_aload_n hx hb dX3_either_27 rfl (lv_at hl 1 rfl) ?_
      refine d_V (As := []) (v0 := none) hG E hw hl (m_X3_next l hG hC h13 hS hn ht) (qT13 h13) rfl (cwV 0 hts (lw_V q406 q408 qs1 q141 q409) rfl rfl rfl ⟨rfl, kd_X3_next⟩ ⟨(show 6 + 1 ≤ fr + 1 by omega), (show 8 + (3 + 11) + 240 ≤ lo + 40 by omega)⟩) rfl (rest := []) (st1 := []) rfl rfl rfl dX3_either_28 ⟨(show cells ≤ pc_ r by omega), (show slots ≤ 12 * pc_ r by omega)⟩ (fun H locs hw => ?_)
      refine lv_aload_n hx hb dX3_either_31 rfl (lv_at hl 0 rfl) ?_
      refine lv_aload_n hx hb dX3_either_32 rfl (lv_at hl 1 rfl) ?_
      have nx := TK.nx (D := A 3) ht
      refine c_B (As := []) (rest := [.ref lm]) (V1 := VA K dep M) hG E hnt hw h13 hch.1.1 h hz hc hs (fun r1 h1 => hM M _ r1 nx.1 (by rw [nx.2]; exact ho) h1) (fun r1 => (cwV 0 hts (lw_V q569 q571 qs11 q141 q572) rfl rfl rfl ⟨rfl, kd_X3_both⟩ ⟨(show fr + 1 ≤ fr + 1 by omega), (show 8 + (2 + 11) + lo ≤ lo + 40 by omega)⟩)) hl rfl rfl rfl dX3_either_33 (fun q2 t2 cst v M1 H locs y1 ho1 h hz hc hs hx1 hV hw => ?_)
      obtain ⟨x, rfl, hT⟩ := hV
      refine W.eq (g2 := F0 m 36 ls [.ref x, .ref lm]) rfl ?_
      obtain ⟨y2, h, hy2⟩ := pad_s h
      rw [hy2, padd_padd] at hz
      have hch1 := hch.call hx1
      have tk := hP _ _ _ _ nx.1 ho1
      have hTF := AskAt.ext (qfr_new (F := F)) _ _ _ _ hT
      have hle2 : c0 + cst + addCost its.length ≤ pc_ r := by rw [hz, pc_add]; exact Nat.le_add_right _ _
      refine c_V (As := [.ref x]) (rest := []) hG E hw (m_J2_add l hG hLs hch1.2.1 (by omega) hch1.el (hTF.el.ext hch1.1.2.1)) (QAt.dyn (hx1 _ _ hlm)) rfl (cwV 1 hts (lw_V q612 q613 q614 q145 q615) rfl rfl rfl ⟨rfl, kd_J2_add⟩ ⟨(show 8 + 1 ≤ fr + 1 by omega), (show 8 + (2 + 11) + 380 ≤ lo + 40 by omega)⟩) hl rfl rfl (Nat.le_of_ble_eq_true rfl) dX3_either_36 ⟨(show cells + cst + addCost xs.length ≤ pc_ r by rw [hxl]; omega), (show slots + 12 * cst + 12 * addCost xs.length ≤ 12 * pc_ r by rw [hxl]; omega)⟩ (fun v w' H locs hP9 hw => ?_)
      obtain ⟨em', M2, rfl, rfl, a2, a5, a7⟩ := hP9
      refine W.eq (g2 := F0 m 39 ls [.int 1]) rfl ?_
      refine lv_pop hx hb dX3_either_39 rfl ?_
      refine lv_goto (tgt := 17) hx hb dX3_either_40 (by decide) ?_
      exact ih lm em' (its ++ [q2]) (xs ++ [x]) (qfr F M M1) M2 t2 y2 (c0 + cst + addCost its.length) (by rw [List.length_append]; show its.length + 1 + f = 161; omega) (by rw [List.length_append]; show 1 ≤ its.length + 1; omega) h hz tk.1 (by rw [congrArg Prod.fst tk.2, congrArg Prod.fst nx.2]; exact ho) (hch1.add hTF a2 a5 a7) (by rw [hxl]; omega) (by rw [hxl]; omega) hw hl
set_option maxHeartbeats 8000000 in
theorem m_X3_either_of (l : Launch) {K : QK} {G : State → Prop} {A B : QA} {L : QL} {X : QX} {M : QM} {n : Nat} {y : QY} {t : QTS} {ea mi : Nat} {one : QTS → Option (PR QV)} {fr lo dep : Nat} {r : PR QV} (hG : QG G) (hC : QCl K) (h13 : ql K 13) (hS : QSt K G y) (hn : n ≤ 300) (hLs : QLs K G ea mi) (hfr : 12 ≤ fr) (hlo : 40 * fr + 200 ≤ lo) (hP : PT n one)
    (hM : ∀ (M : QM) (t : QTS) (r1 : PR QV), t.1 ≤ n → t.2.2.2.2.1 ≤ 8 → one t = some r1 → MP l K G yX3_both (ws_ yX3_both cX3_both 2 (some (.object "VaneCourt$Asked"))) fr lo [.ref (K.2.1 13)] A B L X M n t r1 (VA K dep M)) (ht : t.1 ≤ n) (ho : t.2.2.2.2.1 ≤ 8) (h : sAll (A 3) n one 216 0 t = some r) :
    MP l K G yX3_either (ws_ yX3_either cX3_either 2 (some (.object "VaneCourt$Asked"))) (fr + 1) (lo + 40) [.ref (K.2.1 13)] A B L X M n t r (VA K (dep + 1) M) := by
  refine MX.of (by decide) (Nat.le_of_ble_eq_true rfl) (lv := [(0, .ref (K.2.1 13))]) rfl (fun p e s m below meth c ls E hr hnt hl hw => ?_)
  have hx := E.1
  have hb := E.2.1
  have hown := E.2.2.1
  have hts := E.2.2.2.2.1
  unfold sAll at h
  obtain ⟨z, h, hz⟩ := pad_s h
  have hle : 1 ≤ pc_ r := by rw [hz, pc_add]; exact Nat.le_add_right _ _
  refine r_new (ci := 17) (fs := [.int 0, .null, .int 0]) E hw (T := TJ2) (N := 3) rfl in_J2 tyJ2 tyJ2_ok q567 q351 q145 (fun j hj => by match j, hj with | 0, _ => rfl | 1, _ => rfl | 2, _ => rfl | j + 3, hj => exact absurd hj (by omega)) (show _ ≤ pc_ r by omega) (show _ ≤ 12 * pc_ r by omega) dX3_either_0 (fun lm H hw hlm _ _ => ?_)
  have hq0 : M lm = none := hlm
  refine lv_dup hx hb dX3_either_3 rfl ?_
  refine c_I (As := []) (rest := [.ref lm]) hG E hw (m_J2_init l hG hLs va_up_s) (cwI 0 hts (lw_meth q354) rfl rfl rfl (hts _ q145) (hts _ q568) (hts _ q353) rfl kd_J2_init ⟨(show 4 + 1 ≤ fr + 1 by omega), (show 8 + (1 + 11) + 120 ≤ lo + 40 by omega)⟩) hl rfl rfl (Nat.le_of_ble_eq_true rfl) dX3_either_4 ⟨(show _ ≤ pc_ r by omega), (show _ ≤ 12 * pc_ r by omega)⟩ (fun v w' H locs hP9 hw => ?_)
  obtain ⟨rfl, rfl⟩ := hP9
  refine W.eq (g2 := F0 m 7 ls [.ref lm]) rfl ?_
  simp only [va_up_up] at hw
  refine lv_astore_n (lv' := [(1, .ref lm), (0, .ref (K.2.1 13))]) hx hb dX3_either_7 rfl hl (by decide) rfl (fun ls hl => ?_)
  have hx1 : QExt M (va_up M lm (some (.inr (17, [.int 0, .ref ea, .int 0])))) := QExt.up hq0
  have hch : AlS K ea M (fun _ => none) (va_up M lm (some (.inr (17, [.int 0, .ref ea, .int 0])))) dep lm ea [] [] := ⟨⟨hx1, fun _ _ h => (by cases h), fun _ _ _ => rfl⟩, ⟨0, va_up_s, Or.inl ⟨rfl, rfl⟩⟩, ⟨rfl, hq0⟩, fun h9 => absurd rfl h9, rfl, fun i x it h9 => (by cases h9)⟩
  refine lv_aload_n hx hb dX3_either_8 rfl (lv_at hl 0 rfl) ?_
  refine lv_aload_n hx hb dX3_either_9 rfl (lv_at hl 1 rfl) ?_
  refine c_B (c0 := 1) (As := []) (rest := [.ref lm]) (V1 := VA K dep (va_up M lm (some (.inr (17, [.int 0, .ref ea, .int 0]))))) hG E hnt hw h13 hx1 h hz (show 0 + 1 + 0 ≤ 1 by omega) (show 0 + 3 + 0 ≤ 12 * 1 by omega) (fun r1 h1 => hM _ _ r1 ht ho h1) (fun r1 => (cwV 0 hts (lw_V q569 q571 qs11 q141 q572) rfl rfl rfl ⟨rfl, kd_X3_both⟩ ⟨(show fr + 1 ≤ fr + 1 by omega), (show 8 + (2 + 11) + lo ≤ lo + 40 by omega)⟩)) hl rfl rfl rfl dX3_either_10 (fun u t1 cst v M1 H locs y1 ho1 h hz hc hs hx2 hV hw => ?_)
  obtain ⟨x, rfl, hT⟩ := hV
  refine W.eq (g2 := F0 m 13 ls [.ref x, .ref lm]) rfl ?_
  obtain ⟨y2, h, hy2⟩ := pad_s h
  rw [hy2, padd_padd] at hz
  have hch1 := hch.call hx2
  have tk := hP _ _ _ _ ht ho1
  have hTF := AskAt.ext (qfr_new (F := fun _ => none)) _ _ _ _ hT
  have hle2 : 1 + cst + 1 ≤ pc_ r := by rw [hz, pc_add]; exact Nat.le_add_right _ _
  refine c_V (As := [.ref x]) (rest := []) hG E hw (m_J2_add l hG hLs hch1.2.1 (by decide) hch1.el (hTF.el.ext hch1.1.2.1)) (QAt.dyn (hx2 _ _ va_up_s)) rfl (cwV 1 hts (lw_V q612 q613 q614 q145 q615) rfl rfl rfl ⟨rfl, kd_J2_add⟩ ⟨(show 8 + 1 ≤ fr + 1 by omega), (show 8 + (2 + 11) + 380 ≤ lo + 40 by omega)⟩) hl rfl rfl (Nat.le_of_ble_eq_true rfl) dX3_either_13 ⟨(show 0 + 1 + 0 + cst + 1 ≤ pc_ r by omega), (show 0 + 3 + 0 + 12 * cst + 12 * 1 ≤ 12 * pc_ r by omega)⟩ (fun v w' H locs hP9 hw => ?_)
  obtain ⟨em', M2, rfl, rfl, a2, a5, a7⟩ := hP9
  refine W.eq (g2 := F0 m 16 ls [.int 1]) rfl ?_
  refine lv_pop hx hb dX3_either_16 rfl ?_
  exact wl_X3_either hG hC h13 hS hn hLs hfr hlo hP hM E hr hnt 160 lm em' [u] [x] _ M2 t1 y2 (1 + cst + 1) rfl (Nat.le_refl _) h hz tk.1 (by rw [congrArg Prod.fst tk.2]; exact ho) (hch1.add hTF a2 a5 a7) (show 0 + 1 + 0 + cst + 1 ≤ _ by omega) (show 0 + 3 + 0 + 12 * cst + 12 * 1 ≤ _ by omega) hw hl
set_option maxHeartbeats 8000000 in
theorem wl_X3_most {p : Program} {l : Launch} {e : Env} {s : State} {m : MethodId} {below : List Frame} {meth : Method} {c : Code} {K : QK} {G : State → Prop} {A B : QA} {L : QL} {X : QX} {M0 : QM} {n : Nat} {t0 : QTS} {y : QY} {ea mi : Nat} {one : QTS → Option (PR QV)} {fr lo dep : Nat} {r : PR QV} (hG : QG G) (hC : QCl K) (h13 : ql K 13) (hS : QSt K G y) (hWr : QWr K G) (hlst : l.stackTraces = false) (hn : n ≤ 300) (hLs : QLs K G ea mi) (hfr : 12 ≤ fr) (hlo : 40 * fr + 200 ≤ lo) (hP : PT n one)
    (hM : ∀ (M : QM) (t : QTS) (r1 : PR QV), t.1 ≤ n → t.2.2.2.2.1 ≤ 8 → one t = some r1 → MP l K G yX3_either (ws_ yX3_either cX3_either 2 (some (.object "VaneCourt$Asked"))) fr lo [.ref (K.2.1 13)] A B L X M n t r1 (VA K dep M))
    (E : EV K G p s m #[.ref (K.2.1 13)] meth c cX3_most RX3 2) (hr : meth.sig.returnType = some (.object "VaneCourt$Asked")) (hnt : ∀ x ∈ c.exceptionTable.toList, False) (h7 : t0.2.2.2.2.1 ≤ 7) :
    ∀ (f : Nat) (lm em : Nat) (its : List QV) (xs : List Nat) (F M : QM) (t : QTS) (z : PR QV) (c0 : Nat), its.length + f = 8 → its.length ≤ 6 → sMoL (A 3) n one f its t = some z → r = padd c0 z → TU n t0 t → AlS K ea M0 F M dep lm em its xs →
    ∀ {H : Heap} {locs : List Loc} {ls : Array Slot} {cells slots : Nat}, cells ≤ c0 → slots ≤ 12 * c0 → WP K (tw A n t, B, L, X, M) H locs → lv_has ls 2 [(1, .ref lm), (0, .ref (K.2.1 13))] → W p l e (pR (fr + 1) (lo + 40) r) s m #[.ref (K.2.1 13)] below meth c H locs cells slots (PQ below K A B L X n M0 (VA K (dep + 1) M0) #[.ref (K.2.1 13)] s r) (F0 m 27 ls []) := by
  have hx := E.1
  have hb := E.2.1
  have hown := E.2.2.1
  have hts := E.2.2.2.2.1
  intro f
  induction f with
  | zero => intro lm em its xs F M t z c0 _ _ h; cases h
  | succ f ih =>
    intro lm em its xs F M t z c0 hf h6 h hz ht hch H locs ls cells slots hc hs hw hl
    have hle : c0 ≤ pc_ r := by rw [hz, pc_add]; exact Nat.le_add_right _ _
    have hxl : xs.length = its.length := hch.2.2.2.2.1
    have ho : t.2.2.2.2.1 ≤ 8 := by rw [congrArg Prod.fst ht.2]; show t0.2.2.2.2.1 + 1 ≤ 8; omega
    obtain ⟨mo, hlm, -⟩ := id hch.2.1
    rw [sMoL] at h
    refine lv_aload_n hx hb dX3_most_27 rfl (lv_at hl 1 rfl) ?_
    refine r_gSort E hw hC h13 q317 dX3_most_28 ?_
    refine lv_bipush (v := (44:Int32)) hx hb dX3_most_31 (by decide) ?_
    refine lv_icmp_ne (tgt := 68) hx hb dX3_most_33 (by decide) (fun c1 => ?_) (fun c1 => ?_)
    · rw [if_neg c1] at h
      refine lv_aload_n hx hb dX3_most_68 rfl (lv_at hl 1 rfl) ?_
      refine lv_bipush (v := (41:Int32)) hx hb dX3_most_69 (by decide) ?_
      refine c_B (As := [.int 41]) (rest := []) (V1 := fun _ _ v => v = none) hG E hnt hw h13 hch.1.1 h hz hc hs (fun r1 h1 => by cases h1; exact m_X3_want l hG hC h13 hS hWr hlst hn ht.1) (fun r1 => (cwV 1 hts (lw_V q555 q557 qs8 q141 q558) rfl rfl rfl ⟨rfl, kd_X3_want⟩ ⟨(show 8 + 1 ≤ fr + 1 by omega), (show 8 + (2 + 11) + 300 ≤ lo + 40 by omega)⟩)) hl rfl rfl rfl dX3_most_71 (fun u t3 cst v M3 H locs y4 ho4 h hz hc hs hx3 hV hw => ?_)
      subst hV
      refine W.eq (g2 := F0 m 74 ls []) rfl ?_
      have h := Option.some.inj h
      subst h
      have tk := PT.want _ _ _ _ ht.1 ho4
      have hp : pc_ r = c0 + cst + 1 := by rw [hz]; rfl
      have ho3 : 1 ≤ t3.2.2.2.2.1 := by rw [congrArg Prod.fst tk.2, congrArg Prod.fst ht.2]; show 1 ≤ t0.2.2.2.2.1 + 1; omega
      refine lv_aload_n hx hb dX3_most_74 rfl (lv_at hl 1 rfl) ?_
      refine lv_dup hx hb dX3_most_75 rfl ?_
      refine r_gOpen E hw hC h13 q319 dX3_most_76 ?_
      refine lv_iconst (v := (1:Int32)) hx hb dX3_most_79 (by decide) ?_
      refine lv_isub hx hb dX3_most_80 ?_
      refine r_pOpen (a := t3.2.2.2.2.1 - 1) E hw h13 q319 (nI_dn ho3) dX3_most_81 (fun H locs hw => ?_)
      refine r_new (ci := 8) (fs := [.null]) E hw (T := TX8) (N := 1) rfl in_X8 tyX8 tyX8_ok q678 q679 q159 (fun j hj => by match j, hj with | 0, _ => rfl | j + 1, hj => exact absurd hj (by omega)) (show _ ≤ pc_ r by omega) (show _ ≤ 12 * pc_ r by omega) dX3_most_84 (fun q H hw hq _ _ => ?_)
      have hq1 : M3 q = none := hq
      refine lv_dup hx hb dX3_most_87 rfl ?_
      refine lv_aload_n hx hb dX3_most_88 rfl (lv_at hl 0 rfl) ?_
      refine c_IN (As := [.ref lm]) (rest := [.ref q]) hG E hw (m_X8_init l hG va_up_s) ⟨va_cnB 1 hts (lw_meth q682) rfl rfl rfl (hG.2.2 s _ E.2.2.2.2.2.1 q680 rfl) (hts _ q159) kd_X8_init ⟨(show 3 + 1 ≤ fr + 1 by omega), (show 8 + (2 + 11) + 80 ≤ lo + 40 by omega)⟩, rfl, hts _ q681⟩ hl rfl rfl (Nat.le_of_ble_eq_true rfl) dX3_most_89 ⟨(show _ ≤ pc_ r by omega), (show _ ≤ 12 * pc_ r by omega)⟩ (fun v w' H locs hP9 hw => ?_)
      obtain ⟨rfl, rfl⟩ := hP9
      refine W.eq (g2 := F0 m 92 ls [.ref q]) rfl ?_
      simp only [va_up_up] at hw
      have hx9 : QExt M (va_up M3 q (some (.inr (8, [.ref lm])))) := hx3.trans (QExt.up hq1)
      have hqM : M q = none := by
        cases h9 : M q with
        | none => rfl
        | some e9 => rw [hx3 q e9 h9] at hq1; cases hq1
      exact p_aret (a := moV its) (c0 := c0 + cst) (c1 := 1) E hr (Or.inl ⟨_, rfl⟩) hz (by omega) (by omega) (hch.1.1.trans hx9) ⟨q, rfl, (hch.call hx9).most (by omega) va_up_s (hch.1.no hqM).2⟩ hw dX3_most_92
    · rw [if_pos c1] at h
      refine lv_aload_n hx hb dX3_most_36 rfl (lv_at hl 0 rfl) ?_
      refine d_V (As := []) (v0 := some (.int (nI xs.length))) hG E hw hl (m_J2_size l (QAt.dyn hlm)) (QAt.dyn hlm) rfl (cwV 0 hts (lw_V q674 q675 q676 q145 q677) rfl rfl rfl ⟨rfl, kd_J2_size⟩ ⟨(show 1 + 1 ≤ fr + 1 by omega), (show 8 + (1 + 11) + 40 ≤ lo + 40 by omega)⟩) rfl (rest := []) (st1 := [.int (nI xs.length)]) rfl rfl rfl dX3_most_37 ⟨(show cells ≤ pc_ r by omega), (show slots ≤ 12 * pc_ r by omega)⟩ (fun H locs hw => ?_)
      refine lv_bipush (v := (6:Int32)) hx hb dX3_most_40 (by decide) ?_
      refine lv_icmp_ne (tgt := 52) hx hb dX3_most_42 (by decide) (fun c2 => ?_) (fun c2 => ?_)
      · have h9 : its.length ≠ 6 := fun e9 => c2 (by rw [hxl, e9]; rfl)
        rw [if_neg h9] at h
        refine lv_aload_n hx hb dX3_most_52 rfl (lv_at hl 1 rfl) ?_
        refine d_V (As := []) (v0 := none) hG E hw hl (m_X3_next l hG hC h13 hS hn ht.1) (qT13 h13) rfl (cwV 0 hts (lw_V q406 q408 qs1 q141 q409) rfl rfl rfl ⟨rfl, kd_X3_next⟩ ⟨(show 6 + 1 ≤ fr + 1 by omega), (show 8 + (3 + 11) + 240 ≤ lo + 40 by omega)⟩) rfl (rest := []) (st1 := []) rfl rfl rfl dX3_most_53 ⟨(show cells ≤ pc_ r by omega), (show slots ≤ 12 * pc_ r by omega)⟩ (fun H locs hw => ?_)
        refine lv_aload_n hx hb dX3_most_56 rfl (lv_at hl 0 rfl) ?_
        refine lv_aload_n hx hb dX3_most_57 rfl (lv_at hl 1 rfl) ?_
        have nx := TK.nx (D := A 3) ht.1
        refine c_B (As := []) (rest := [.ref lm]) (V1 := VA K dep M) hG E hnt hw h13 hch.1.1 h hz hc hs (fun r1 h1 => hM M _ r1 nx.1 (by rw [nx.2]; exact ho) h1) (fun r1 => (cwV 0 hts (lw_V q563 q565 qs10 q141 q566) rfl rfl rfl ⟨rfl, kd_X3_either⟩ ⟨(show fr + 1 ≤ fr + 1 by omega), (show 8 + (2 + 11) + lo ≤ lo + 40 by omega)⟩)) hl rfl rfl rfl dX3_most_58 (fun q2 t2 cst v M1 H locs y1 ho1 h hz hc hs hx1 hV hw => ?_)
        obtain ⟨x, rfl, hT⟩ := hV
        refine W.eq (g2 := F0 m 61 ls [.ref x, .ref lm]) rfl ?_
        obtain ⟨y2, h, hy2⟩ := pad_s h
        rw [hy2, padd_padd] at hz
        have hch1 := hch.call hx1
        have tk := nx.tr (hP _ _ _ _ nx.1 ho1)
        have hTF := AskAt.ext (qfr_new (F := F)) _ _ _ _ hT
        have hle2 : c0 + cst + addCost its.length ≤ pc_ r := by rw [hz, pc_add]; exact Nat.le_add_right _ _
        refine c_V (As := [.ref x]) (rest := []) hG E hw (m_J2_add l hG hLs hch1.2.1 (by omega) hch1.el (hTF.el.ext hch1.1.2.1)) (QAt.dyn (hx1 _ _ hlm)) rfl (cwV 1 hts (lw_V q612 q613 q614 q145 q615) rfl rfl rfl ⟨rfl, kd_J2_add⟩ ⟨(show 8 + 1 ≤ fr + 1 by omega), (show 8 + (2 + 11) + 380 ≤ lo + 40 by omega)⟩) hl rfl rfl (Nat.le_of_ble_eq_true rfl) dX3_most_61 ⟨(show cells + cst + addCost xs.length ≤ pc_ r by rw [hxl]; omega), (show slots + 12 * cst + 12 * addCost xs.length ≤ 12 * pc_ r by rw [hxl]; omega)⟩ (fun v w' H locs hP9 hw => ?_)
        obtain ⟨em', M2, rfl, rfl, a2, a5, a7⟩ := hP9
        refine W.eq (g2 := F0 m 64 ls [.int 1]) rfl ?_
        refine lv_pop hx hb dX3_most_64 rfl ?_
        refine lv_goto (tgt := 27) hx hb dX3_most_65 (by decide) ?_
        exact ih lm em' (its ++ [q2]) (xs ++ [x]) (qfr F M M1) M2 t2 y2 (c0 + cst + addCost its.length) (by rw [List.length_append]; show its.length + 1 + f = 8; omega) (by rw [List.length_append]; show its.length + 1 ≤ 6; omega) h hz ⟨tk.1, tk.2.trans ht.2⟩ (hch1.add hTF a2 a5 a7) (by rw [hxl]; omega) (by rw [hxl]; omega) hw hl
      · have h9 : its.length = 6 := by rw [← hxl]; exact nI_inj c2 (by omega) (by decide)
        rw [if_pos h9] at h
        have h := Option.some.inj h
        subst h
        refine lv_aload_n hx hb dX3_most_45 rfl (lv_at hl 1 rfl) ?_
        refine lv_bipush (v := (7:Int32)) hx hb dX3_most_46 (by decide) ?_
        exact p_throw hG hC h13 hWr hlst E hnt hw hl hch.1.1 hz hc hs (cwV 1 hts (lw_V q475 q477 qs3 q141 q478) rfl rfl rfl ⟨rfl, kd_X3_wrong⟩ ⟨(show 7 + 1 ≤ fr + 1 by omega), (show 8 + (2 + 11) + 160 ≤ lo + 40 by omega)⟩) rfl dX3_most_48 dX3_most_51
set_option maxHeartbeats 8000000 in
theorem m_X3_most_of (l : Launch) {K : QK} {G : State → Prop} {A B : QA} {L : QL} {X : QX} {M : QM} {n : Nat} {y : QY} {t : QTS} {ea mi : Nat} {one : QTS → Option (PR QV)} {fr lo dep : Nat} {r : PR QV} (hG : QG G) (hC : QCl K) (h13 : ql K 13) (hS : QSt K G y) (hWr : QWr K G) (hlst : l.stackTraces = false) (hn : n ≤ 300) (hLs : QLs K G ea mi) (hfr : 12 ≤ fr) (hlo : 40 * fr + 200 ≤ lo) (hP : PT n one)
    (hM : ∀ (M : QM) (t : QTS) (r1 : PR QV), t.1 ≤ n → t.2.2.2.2.1 ≤ 8 → one t = some r1 → MP l K G yX3_either (ws_ yX3_either cX3_either 2 (some (.object "VaneCourt$Asked"))) fr lo [.ref (K.2.1 13)] A B L X M n t r1 (VA K dep M)) (ht : t.1 ≤ n) (ho : t.2.2.2.2.1 ≤ 8) (h : sMost (A 3) n one t = some r) :
    MP l K G yX3_most (ws_ yX3_most cX3_most 2 (some (.object "VaneCourt$Asked"))) (fr + 1) (lo + 40) [.ref (K.2.1 13)] A B L X M n t r (VA K (dep + 1) M) := by
  refine MX.of (by decide) (Nat.le_of_ble_eq_true rfl) (lv := [(0, .ref (K.2.1 13))]) rfl (fun p e s m below meth c ls E hr hnt hl hw => ?_)
  have hx := E.1
  have hb := E.2.1
  have hown := E.2.2.1
  have hts := E.2.2.2.2.1
  unfold sMost at h
  refine lv_aload_n hx hb dX3_most_0 rfl (lv_at hl 0 rfl) ?_
  refine c_B (c0 := 0) (As := []) (rest := []) (V1 := fun _ _ v => v = none) hG E hnt hw h13 QExt.refl h padd_0.symm (Nat.le_refl _) (Nat.le_refl _) (fun r1 h1 => by cases h1; exact m_X3_opens l hG hC h13 hS hWr hlst hn ht ho) (fun r1 => (cwV 0 hts (lw_V q577 q579 qs13 q141 q580) rfl rfl rfl ⟨rfl, kd_X3_opens⟩ ⟨(show 8 + 1 ≤ fr + 1 by omega), (show 8 + (1 + 11) + 300 ≤ lo + 40 by omega)⟩)) hl rfl rfl rfl dX3_most_1 (fun u t1 cst v M1 H locs y1 ho1 h hz hc hs hx1 hV hw => ?_)
  subst hV
  refine W.eq (g2 := F0 m 4 ls []) rfl ?_
  obtain ⟨tu, h8⟩ := opens_t ht ho1
  obtain ⟨y2, h, hy2⟩ := pad_s h
  rw [hy2, padd_padd] at hz
  have hle : 0 + cst + 1 ≤ pc_ r := by rw [hz, pc_add]; exact Nat.le_add_right _ _
  refine r_new (ci := 17) (fs := [.int 0, .null, .int 0]) E hw (T := TJ2) (N := 3) rfl in_J2 tyJ2 tyJ2_ok q567 q351 q145 (fun j hj => by match j, hj with | 0, _ => rfl | 1, _ => rfl | 2, _ => rfl | j + 3, hj => exact absurd hj (by omega)) (show _ ≤ pc_ r by omega) (show _ ≤ 12 * pc_ r by omega) dX3_most_4 (fun lm H hw hlm _ _ => ?_)
  have hq1 : M1 lm = none := hlm
  refine lv_dup hx hb dX3_most_7 rfl ?_
  refine c_I (As := []) (rest := [.ref lm]) hG E hw (m_J2_init l hG hLs va_up_s) (cwI 0 hts (lw_meth q354) rfl rfl rfl (hts _ q145) (hts _ q568) (hts _ q353) rfl kd_J2_init ⟨(show 4 + 1 ≤ fr + 1 by omega), (show 8 + (1 + 11) + 120 ≤ lo + 40 by omega)⟩) hl rfl rfl (Nat.le_of_ble_eq_true rfl) dX3_most_8 ⟨(show _ ≤ pc_ r by omega), (show _ ≤ 12 * pc_ r by omega)⟩ (fun v w' H locs hP9 hw => ?_)
  obtain ⟨rfl, rfl⟩ := hP9
  refine W.eq (g2 := F0 m 11 ls [.ref lm]) rfl ?_
  simp only [va_up_up] at hw
  refine lv_astore_n (lv' := [(1, .ref lm), (0, .ref (K.2.1 13))]) hx hb dX3_most_11 rfl hl (by decide) rfl (fun ls hl => ?_)
  have hx2 : QExt M1 (va_up M1 lm (some (.inr (17, [.int 0, .ref ea, .int 0])))) := QExt.up hq1
  have hq0 : M lm = none := by
    cases h9 : M lm with
    | none => rfl
    | some e9 => rw [hx1 lm e9 h9] at hq1; cases hq1
  have hch : AlS K ea M (fun _ => none) (va_up M1 lm (some (.inr (17, [.int 0, .ref ea, .int 0])))) dep lm ea [] [] := ⟨⟨hx1.trans hx2, fun _ _ h => (by cases h), fun _ _ _ => rfl⟩, ⟨0, va_up_s, Or.inl ⟨rfl, rfl⟩⟩, ⟨rfl, hq0⟩, fun h9 => absurd rfl h9, rfl, fun i x it h9 => (by cases h9)⟩
  refine lv_aload_n hx hb dX3_most_12 rfl (lv_at hl 1 rfl) ?_
  refine lv_bipush (v := (40:Int32)) hx hb dX3_most_13 (by decide) ?_
  refine c_B (c0 := 0 + cst + 1) (As := [.int 40]) (rest := []) (V1 := fun _ _ v => v = none) hG E hnt hw h13 (hx1.trans hx2) h hz (by omega) (by omega) (fun r1 h1 => by cases h1; exact m_X3_want l hG hC h13 hS hWr hlst hn tu.1) (fun r1 => (cwV 1 hts (lw_V q555 q557 qs8 q141 q558) rfl rfl rfl ⟨rfl, kd_X3_want⟩ ⟨(show 8 + 1 ≤ fr + 1 by omega), (show 8 + (2 + 11) + 300 ≤ lo + 40 by omega)⟩)) hl rfl rfl rfl dX3_most_15 (fun u2 t2 cst2 v M2 H locs y3 ho2 h hz hc hs hx3 hV hw => ?_)
  subst hV
  refine W.eq (g2 := F0 m 18 ls []) rfl ?_
  have tk2 := PT.want _ _ _ _ tu.1 ho2
  have hch2 := hch.call hx3
  refine lv_aload_n hx hb dX3_most_18 rfl (lv_at hl 0 rfl) ?_
  refine lv_aload_n hx hb dX3_most_19 rfl (lv_at hl 1 rfl) ?_
  have ho5 : t2.2.2.2.2.1 ≤ 8 := by rw [congrArg Prod.fst tk2.2, congrArg Prod.fst tu.2]; show t.2.2.2.2.1 + 1 ≤ 8; omega
  refine c_B (c0 := 0 + cst + 1 + cst2) (As := []) (rest := [.ref lm]) (V1 := VA K dep M2) hG E hnt hw h13 hch2.1.1 h hz (by omega) (by omega) (fun r1 h1 => hM _ _ r1 tk2.1 ho5 h1) (fun r1 => (cwV 0 hts (lw_V q563 q565 qs10 q141 q566) rfl rfl rfl ⟨rfl, kd_X3_either⟩ ⟨(show fr + 1 ≤ fr + 1 by omega), (show 8 + (2 + 11) + lo ≤ lo + 40 by omega)⟩)) hl rfl rfl rfl dX3_most_20 (fun u3 t3 cst3 v M3 H locs y4 ho3 h hz hc hs hx4 hV hw => ?_)
  obtain ⟨x, rfl, hT⟩ := hV
  refine W.eq (g2 := F0 m 23 ls [.ref x, .ref lm]) rfl ?_
  obtain ⟨y5, h, hy5⟩ := pad_s h
  rw [hy5, padd_padd] at hz
  have hch3 := hch2.call hx4
  have tk3 := tk2.tr (hP _ _ _ _ tk2.1 ho3)
  have hTF := AskAt.ext (qfr_new (F := qfr (fun _ => none) (va_up M1 lm (some (.inr (17, [.int 0, .ref ea, .int 0])))) M2)) _ _ _ _ hT
  have hle2 : 0 + cst + 1 + cst2 + cst3 + 1 ≤ pc_ r := by rw [hz, pc_add]; exact Nat.le_add_right _ _
  refine c_V (As := [.ref x]) (rest := []) hG E hw (m_J2_add l hG hLs hch3.2.1 (by decide) hch3.el (hTF.el.ext hch3.1.2.1)) (QAt.dyn (hx4 _ _ (hx3 _ _ va_up_s))) rfl (cwV 1 hts (lw_V q612 q613 q614 q145 q615) rfl rfl rfl ⟨rfl, kd_J2_add⟩ ⟨(show 8 + 1 ≤ fr + 1 by omega), (show 8 + (2 + 11) + 380 ≤ lo + 40 by omega)⟩) hl rfl rfl (Nat.le_of_ble_eq_true rfl) dX3_most_23 ⟨(show _ + 1 ≤ pc_ r by omega), (show _ + 12 * 1 ≤ 12 * pc_ r by omega)⟩ (fun v w' H locs hP9 hw => ?_)
  obtain ⟨em', M5, rfl, rfl, a2, a5, a7⟩ := hP9
  refine W.eq (g2 := F0 m 26 ls [.int 1]) rfl ?_
  refine lv_pop hx hb dX3_most_26 rfl ?_
  exact wl_X3_most (t0 := t) hG hC h13 hS hWr hlst hn hLs hfr hlo hP hM E hr hnt (by omega) 7 lm em' [u3] [x] _ M5 t3 y5 (0 + cst + 1 + cst2 + cst3 + 1) rfl (show 1 ≤ 6 by decide) h hz ⟨tk3.1, tk3.2.trans tu.2⟩ (hch3.add hTF a2 a5 a7) (show _ + 1 ≤ _ by omega) (show _ + 12 * 1 ≤ _ by omega) hw hl
set_option maxHeartbeats 4000000 in
theorem m_X3_fact (l : Launch) {K : QK} {G : State → Prop} {A B : QA} {L : QL} {X : QX} {M : QM} {n : Nat} {y : QY} {t : QTS} {r : PR QV} (hG : QG G) (hC : QCl K) (h13 : ql K 13) (hS : QSt K G y) (hWr : QWr K G) (hlst : l.stackTraces = false) (hn : n ≤ 300) (ht : t.1 ≤ n) (h : sFact (A 3) n t = some r) :
    MP l K G yX3_fact (ws_ yX3_fact cX3_fact 1 (some (.object "VaneCourt$Asked"))) 10 400 [.ref (K.2.1 13)] A B L X M n t r (VA K 1 M) := by
  refine MX.of (by decide) (Nat.le_of_ble_eq_true rfl) (lv := [(0, .ref (K.2.1 13))]) rfl (fun p e s m below meth c ls E hr hnt hl hw => ?_)
  have hx := E.1
  have hb := E.2.1
  have hown := E.2.2.1
  have hts := E.2.2.2.2.1
  unfold sFact at h
  refine lv_aload_n hx hb dX3_fact_0 rfl (lv_at hl 0 rfl) ?_
  refine r_gKind E hw hC h13 q320 dX3_fact_1 ?_
  refine lv_sipush (v := (200:Int32)) hx hb dX3_fact_4 (by decide) ?_
  refine lv_icmp_eq (tgt := 16) hx hb dX3_fact_7 (by decide) (fun c1 => ?_) (fun c1 => ?_)
  · rw [if_pos c1] at h
    obtain ⟨z, h, hz⟩ := pad_s h
    have hle : 1 ≤ pc_ r := by rw [hz, pc_add]; exact Nat.le_add_right _ _
    refine lv_aload_n hx hb dX3_fact_16 rfl (lv_at hl 0 rfl) ?_
    refine d_V (As := []) (v0 := none) hG E hw hl (m_X3_next l hG hC h13 hS hn ht) (qT13 h13) rfl (cwV 0 hts (lw_V q406 q408 qs1 q141 q409) rfl rfl rfl ⟨rfl, kd_X3_next⟩ ⟨Nat.le_of_ble_eq_true rfl, Nat.le_of_ble_eq_true rfl⟩) rfl (rest := []) (st1 := []) rfl rfl rfl dX3_fact_17 ⟨Nat.zero_le _, Nat.zero_le _⟩ (fun H locs hw => ?_)
    refine r_new (ci := 7) (fs := [.int 0]) E hw (T := TX7) (N := 1) rfl in_X7 tyX7 tyX7_ok q598 q599 q156 (fun j hj => by match j, hj with | 0, _ => rfl | j + 1, hj => exact absurd hj (by omega)) (show _ ≤ pc_ r by omega) (show _ ≤ 12 * pc_ r by omega) dX3_fact_20 (fun q H hw hq _ _ => ?_)
    have hq0 : M q = none := hq
    have nx := TK.nx (D := A 3) ht
    refine lv_dup hx hb dX3_fact_23 rfl ?_
    refine lv_aload_n hx hb dX3_fact_24 rfl (lv_at hl 0 rfl) ?_
    refine lv_iconst (v := (0:Int32)) hx hb dX3_fact_25 (by decide) ?_
    refine lv_bipush (v := (7:Int32)) hx hb dX3_fact_26 (by decide) ?_
    refine c_B (c0 := 1) (As := [.int 0, .int 7]) (rest := [.ref q, .ref q]) (V1 := fun _ a v => v = some (.int a)) hG E hnt hw h13 (QExt.up hq0) h hz (by omega) (by omega) (fun r1 h1 => by cases h1; exact m_X3_number l hG hC h13 hS hWr hlst hn nx.1) (fun r1 => (cwV 2 hts (lw_V q551 q553 qs7 q141 q554) rfl rfl rfl ⟨rfl, kd_X3_number⟩ ⟨Nat.le_of_ble_eq_true rfl, Nat.le_of_ble_eq_true rfl⟩)) hl rfl rfl rfl dX3_fact_28 (fun u t1 cst v M1 H locs y1 ho1 h hz hc hs hx1 hV hw => ?_)
    subst hV
    refine W.eq (g2 := F0 m 31 ls [.int u, .ref q, .ref q]) rfl ?_
    have h := Option.some.inj h
    subst h
    have hle2 : 1 + cst ≤ pc_ r := by rw [hz, pc_add]; exact Nat.le_add_right _ _
    have hu : qok u 8 = true := by
      have h9 := Option.some.inj ho1
      unfold sNumber at h9
      by_cases k1 : (sNext (A 3) n t).2.2.1 = 300
      · rw [if_pos k1] at h9
        by_cases k2 : (sNext (A 3) n t).2.2.2.1 < 0 ∨ 7 < (sNext (A 3) n t).2.2.2.1
        · rw [if_pos k2] at h9; cases h9
        · rw [if_neg k2] at h9
          cases h9
          unfold qok
          have k3 : ¬ (sNext (A 3) n t).2.2.2.1.toInt < 0 := fun e9 => k2 (Or.inl (Int32.lt_iff_toInt_lt.mpr e9))
          have k4 : ¬ 7 < (sNext (A 3) n t).2.2.2.1.toInt := fun e9 => k2 (Or.inr (Int32.lt_iff_toInt_lt.mpr e9))
          rw [decide_eq_true (by omega), decide_eq_true (by omega)]
          rfl
      · rw [if_neg k1] at h9; cases h9
    refine c_IN (As := [.int u]) (rest := [.ref q]) hG E hw (m_X7_init l hG (hx1 q _ va_up_s)) ⟨va_cnB 1 hts (lw_meth q602) rfl rfl rfl (hG.2.2 s _ E.2.2.2.2.2.1 q600 rfl) (hts _ q156) kd_X7_init ⟨Nat.le_of_ble_eq_true rfl, Nat.le_of_ble_eq_true rfl⟩, rfl, hts _ q601⟩ hl rfl rfl (Nat.le_of_ble_eq_true rfl) dX3_fact_31 ⟨(show _ ≤ pc_ r by omega), (show _ ≤ 12 * pc_ r by omega)⟩ (fun v w' H locs hP9 hw => ?_)
    obtain ⟨rfl, rfl⟩ := hP9
    refine W.eq (g2 := F0 m 34 ls [.ref q]) rfl ?_
    exact p_aret (c0 := 1 + cst) (c1 := 0) E hr (Or.inl ⟨_, rfl⟩) hz (by omega) (by omega) (QExt.up2 ((QExt.up hq0).trans hx1) hq0) ⟨q, rfl, Or.inr (Or.inl ⟨u, Or.inl ((qnew_n hq0).trans va_up_s), hu, rfl, rfl⟩)⟩ hw dX3_fact_34
  · rw [if_neg c1] at h
    have hz : r = padd 0 (.inl (5, t.2.1, 1)) := (Option.some.inj h).symm
    refine lv_aload_n hx hb dX3_fact_10 rfl (lv_at hl 0 rfl) ?_
    refine lv_iconst (v := (5:Int32)) hx hb dX3_fact_11 (by decide) ?_
    exact p_throw hG hC h13 hWr hlst E hnt hw hl QExt.refl hz (Nat.le_refl _) (Nat.le_refl _) (cwV 1 hts (lw_V q475 q477 qs3 q141 q478) rfl rfl rfl ⟨rfl, kd_X3_wrong⟩ ⟨Nat.le_of_ble_eq_true rfl, Nat.le_of_ble_eq_true rfl⟩) rfl dX3_fact_12 dX3_fact_15
theorem qnew_sub {M0 M M1 M' : QM} (h0 : QExt M0 M) (h1 : ∀ z e, M z = none → M1 z = some e → M' z = some e) : QExt (qnew M M1) (qnew M0 M') := by
  intro z e h9
  cases h8 : M z with
  | some e7 => rw [qnew_o h8] at h9; cases h9
  | none =>
    have hM0 : M0 z = none := by
      cases h7 : M0 z with
      | none => rfl
      | some e6 => rw [h0 z e6 h7] at h8; cases h8
    rw [qnew_n hM0]
    rw [qnew_n h8] at h9
    exact h1 z e h8 h9
theorem QExt.no {M M' : QM} (h : QExt M M') {z : Nat} (hz : M' z = none) : M z = none := by
  cases h9 : M z with
  | none => rfl
  | some e => rw [h z e h9] at hz; cases hz
set_option maxHeartbeats 16000000 in
theorem m_X3_ask (l : Launch) {K : QK} {G : State → Prop} {A B : QA} {L : QL} {X : QX} {n : Nat} {y : QY} {ea mi ic : Nat} {ib : Nat → Nat} (hG : QG G) (hC : QCl K) (h13 : ql K 13) (hS : QSt K G y) (hWr : QWr K G) (hlst : l.stackTraces = false) (hn : n ≤ 300) (hLs : QLs K G ea mi) (hI : QIc K G ic ib) :
    ∀ (d : Nat) (M : QM) (t : QTS) (r : PR QV), t.1 ≤ n → t.2.2.2.2.1 ≤ 8 → sAsk (A 3) n d t = some r → MP l K G yX3_ask (ws_ yX3_ask cX3_ask 3 (some (.object "VaneCourt$Asked"))) (4 * d + 45) (40 * (4 * d + 45) + 200) [.ref (K.2.1 13)] A B L X M n t r (VA K (3 * d + 20) M) := by
  intro d
  induction d with
  | zero => intro M t r _ _ h; cases h
  | succ d ih =>
    intro M t r ht ho h
    refine MX.of (by decide) (Nat.le_of_ble_eq_true rfl) (lv := [(0, .ref (K.2.1 13))]) rfl (fun p e s m below meth c ls E hr hnt hl hw => ?_)
    have hx := E.1
    have hb := E.2.1
    have hown := E.2.2.1
    have hts := E.2.2.2.2.1
    rw [sAsk] at h
    refine lv_aload_n hx hb dX3_ask_0 rfl (lv_at hl 0 rfl) ?_
    refine r_gSort E hw hC h13 q317 dX3_ask_1 ?_
    refine lv_sipush (v := (218:Int32)) hx hb dX3_ask_4 (by decide) ?_
    refine lv_icmp_ne (tgt := 38) hx hb dX3_ask_7 (by decide) (fun b0 => ?_) (fun b0 => ?_)
    · rw [if_neg b0] at h
      refine lv_aload_n hx hb dX3_ask_38 rfl (lv_at hl 0 rfl) ?_
      refine r_gSort E hw hC h13 q317 dX3_ask_39 ?_
      refine lv_sipush (v := (219:Int32)) hx hb dX3_ask_42 (by decide) ?_
      refine lv_icmp_ne (tgt := 53) hx hb dX3_ask_45 (by decide) (fun b1 => ?_) (fun b1 => ?_)
      · rw [if_neg b1] at h
        refine lv_aload_n hx hb dX3_ask_53 rfl (lv_at hl 0 rfl) ?_
        refine r_gSort E hw hC h13 q317 dX3_ask_54 ?_
        refine lv_sipush (v := (220:Int32)) hx hb dX3_ask_57 (by decide) ?_
        refine lv_icmp_ne (tgt := 68) hx hb dX3_ask_60 (by decide) (fun b2 => ?_) (fun b2 => ?_)
        · rw [if_neg b2] at h
          unfold sCmpd at h
          refine lv_aload_n hx hb dX3_ask_68 rfl (lv_at hl 0 rfl) ?_
          refine c_B (c0 := 0) (As := []) (rest := []) (V1 := VS K 20 M) hG E hnt hw h13 QExt.refl h padd_0.symm (Nat.le_refl _) (Nat.le_refl _) (fun r1 h1 => m_X3_sum l hG hC h13 hS hWr hlst hn hLs hI ht ho h1) (fun r1 => (cwV 0 hts (lw_V q688 q690 qs19 q141 q691) rfl rfl rfl ⟨rfl, kd_X3_sum⟩ ⟨(show 41 + 1 ≤ 4 * (d + 1) + 45 by omega), (show 8 + (3 + 11) + 1840 ≤ 40 * (4 * (d + 1) + 45) + 200 by omega)⟩)) hl rfl rfl rfl dX3_ask_69 (fun u t1 cst v M1 H locs y1 ho1 h hz hc hs hx1 hV hw => ?_)
          obtain ⟨a1, rfl, hT1⟩ := hV
          refine W.eq (g2 := F0 m 72 ls [.ref a1]) rfl ?_
          have tk1 := PT.sum _ _ _ _ ht ho1
          have hle0 : 0 + cst ≤ pc_ r := by rw [hz, pc_add]; exact Nat.le_add_right _ _
          refine lv_astore_n (lv' := [(1, .ref a1), (0, .ref (K.2.1 13))]) hx hb dX3_ask_72 rfl hl (by decide) rfl (fun ls hl => ?_)
          refine lv_aload_n hx hb dX3_ask_73 rfl (lv_at hl 1 rfl) ?_
          refine r_gSort E hw hC h13 q317 dX3_ask_74 ?_
          refine lv_istore_n (lv' := [(2, .int t1.2.2.1), (1, .ref a1), (0, .ref (K.2.1 13))]) hx hb dX3_ask_77 rfl hl (by decide) rfl (fun ls hl => ?_)
          have go : (t1.2.2.1 = 60 ∨ t1.2.2.1 = 62 ∨ t1.2.2.1 = 61 ∨ t1.2.2.1 = 35 ∨ t1.2.2.1 = 303 ∨ t1.2.2.1 = 304) → W p l e (pR (4 * (d + 1) + 45) (40 * (4 * (d + 1) + 45) + 200) r) s m #[.ref (K.2.1 13)] below meth c H locs (0 + cst) (0 + 12 * cst) (PQ below K A B L X n M (VA K (3 * (d + 1) + 20) M) #[.ref (K.2.1 13)] s r) (F0 m 122 ls []) := by
            intro hg
            rw [if_pos hg] at h
            obtain ⟨y2, h, hy2⟩ := pad_s h
            rw [hy2, padd_padd] at hz
            have hle : 0 + cst + 1 ≤ pc_ r := by rw [hz, pc_add]; exact Nat.le_add_right _ _
            refine lv_aload_n hx hb dX3_ask_122 rfl (lv_at hl 2 rfl) ?_
            refine d_V (As := []) (v0 := none) hG E hw hl (m_X3_next l hG hC h13 hS hn tk1.1) (qT13 h13) rfl (cwV 0 hts (lw_V q406 q408 qs1 q141 q409) rfl rfl rfl ⟨rfl, kd_X3_next⟩ ⟨(show 6 + 1 ≤ 4 * (d + 1) + 45 by omega), (show 8 + (3 + 11) + 240 ≤ 40 * (4 * (d + 1) + 45) + 200 by omega)⟩) rfl (rest := []) (st1 := []) rfl rfl rfl dX3_ask_123 ⟨(show _ ≤ pc_ r by omega), (show _ ≤ 12 * pc_ r by omega)⟩ (fun H locs hw => ?_)
            have nx := TK.nx (D := A 3) tk1.1
            refine r_new (ci := 13) (fs := [.int 0, .null, .null]) E hw (T := TX13) (N := 3) rfl in_X13 tyX13 tyX13_ok q790 q791 q167 (fun j hj => by match j, hj with | 0, _ => rfl | 1, _ => rfl | 2, _ => rfl | j + 3, hj => exact absurd hj (by omega)) (show _ ≤ pc_ r by omega) (show _ ≤ 12 * pc_ r by omega) dX3_ask_126 (fun q H hw hq _ _ => ?_)
            have hq1 : M1 q = none := hq
            have hq0 := hx1.no hq1
            refine lv_dup hx hb dX3_ask_129 rfl ?_
            refine lv_iload_n hx hb dX3_ask_130 rfl (lv_at hl 0 rfl) ?_
            refine lv_aload_n hx hb dX3_ask_131 rfl (lv_at hl 1 rfl) ?_
            refine lv_aload_n hx hb dX3_ask_132 rfl (lv_at hl 2 rfl) ?_
            refine c_B (c0 := 0 + cst + 1) (As := []) (rest := [.ref a1, .int t1.2.2.1, .ref q, .ref q]) (V1 := VS K 20 (va_up M1 q (some (.inr (13, [.int 0, .null, .null]))))) hG E hnt hw h13 (hx1.trans (QExt.up hq1)) h hz (by omega) (by omega) (fun r1 h1 => m_X3_sum l hG hC h13 hS hWr hlst hn hLs hI nx.1 (by rw [congrArg Prod.fst nx.2, congrArg Prod.fst tk1.2]; exact ho) h1) (fun r1 => (cwV 0 hts (lw_V q688 q690 qs19 q141 q691) rfl rfl rfl ⟨rfl, kd_X3_sum⟩ ⟨(show 41 + 1 ≤ 4 * (d + 1) + 45 by omega), (show 8 + (3 + 11) + 1840 ≤ 40 * (4 * (d + 1) + 45) + 200 by omega)⟩)) hl rfl rfl rfl dX3_ask_133 (fun u2 t2 cst2 v M2 H locs y3 ho2 h hz hc hs hx2 hV hw => ?_)
            obtain ⟨a2, rfl, hT2⟩ := hV
            refine W.eq (g2 := F0 m 136 ls [.ref a2, .ref a1, .int t1.2.2.1, .ref q, .ref q]) rfl ?_
            have h := Option.some.inj h
            subst h
            have hle2 : 0 + cst + 1 + cst2 ≤ pc_ r := by rw [hz, pc_add]; exact Nat.le_add_right _ _
            refine c_IN (As := [.int t1.2.2.1, .ref a1, .ref a2]) (rest := [.ref q]) hG E hw (m_X13_init l hG (hx2 q _ va_up_s)) ⟨va_cnB 3 hts (lw_meth q794) rfl rfl rfl (hG.2.2 s _ E.2.2.2.2.2.1 q792 rfl) (hts _ q167) kd_X13_init ⟨(show 3 + 1 ≤ 4 * (d + 1) + 45 by omega), (show 8 + (4 + 11) + 80 ≤ 40 * (4 * (d + 1) + 45) + 200 by omega)⟩, rfl, hts _ q793⟩ hl rfl rfl (Nat.le_of_ble_eq_true rfl) dX3_ask_136 ⟨(show _ ≤ pc_ r by omega), (show _ ≤ 12 * pc_ r by omega)⟩ (fun v w' H locs hP9 hw => ?_)
            obtain ⟨rfl, rfl⟩ := hP9
            refine W.eq (g2 := F0 m 139 ls [.ref q]) rfl ?_
            refine p_aret (c0 := 0 + cst + 1 + cst2) (c1 := 0) E hr (Or.inl ⟨_, rfl⟩) hz (by omega) (by omega) (QExt.up2 ((hx1.trans (QExt.up hq1)).trans hx2) hq0) ⟨q, rfl, AskAt.le (n := 21) (Or.inr (Or.inr (Or.inr (Or.inl ⟨t1.2.2.1, a1, a2, u.1, u2.1, u.2, u2.2, Or.inl ((qnew_n hq0).trans va_up_s), SumAt.ext (qnew_sub QExt.refl (fun z e z1 z2 => ?_)) _ _ _ _ hT1, SumAt.ext (qnew_sub (hx1.trans (QExt.up hq1)) (fun z e z1 z2 => ?_)) _ _ _ _ hT2, hg, rfl, rfl⟩)))) (by omega)⟩ hw dX3_ask_139
            · have h9 : z ≠ q := fun e9 => by rw [e9, hq1] at z2; cases z2
              rw [va_up_n h9]
              exact hx2 z e ((va_up_n h9).trans z2)
            · have h9 : z ≠ q := fun e9 => by rw [e9, va_up_s] at z1; cases z1
              rw [va_up_n h9]
              exact z2
          refine lv_iload_n hx hb dX3_ask_78 rfl (lv_at hl 0 rfl) ?_
          refine lv_bipush (v := (60:Int32)) hx hb dX3_ask_79 (by decide) ?_
          refine lv_icmp_eq (tgt := 122) hx hb dX3_ask_81 (by decide) (fun k1 => ?_) (fun k1 => ?_)
          · exact go (Or.inl k1)
          refine lv_iload_n hx hb dX3_ask_84 rfl (lv_at hl 0 rfl) ?_
          refine lv_bipush (v := (62:Int32)) hx hb dX3_ask_85 (by decide) ?_
          refine lv_icmp_eq (tgt := 122) hx hb dX3_ask_87 (by decide) (fun k2 => ?_) (fun k2 => ?_)
          · exact go (Or.inr (Or.inl k2))
          refine lv_iload_n hx hb dX3_ask_90 rfl (lv_at hl 0 rfl) ?_
          refine lv_bipush (v := (61:Int32)) hx hb dX3_ask_91 (by decide) ?_
          refine lv_icmp_eq (tgt := 122) hx hb dX3_ask_93 (by decide) (fun k3 => ?_) (fun k3 => ?_)
          · exact go (Or.inr (Or.inr (Or.inl k3)))
          refine lv_iload_n hx hb dX3_ask_96 rfl (lv_at hl 0 rfl) ?_
          refine lv_bipush (v := (35:Int32)) hx hb dX3_ask_97 (by decide) ?_
          refine lv_icmp_eq (tgt := 122) hx hb dX3_ask_99 (by decide) (fun k4 => ?_) (fun k4 => ?_)
          · exact go (Or.inr (Or.inr (Or.inr (Or.inl k4))))
          refine lv_iload_n hx hb dX3_ask_102 rfl (lv_at hl 0 rfl) ?_
          refine lv_sipush (v := (303:Int32)) hx hb dX3_ask_103 (by decide) ?_
          refine lv_icmp_eq (tgt := 122) hx hb dX3_ask_106 (by decide) (fun k5 => ?_) (fun k5 => ?_)
          · exact go (Or.inr (Or.inr (Or.inr (Or.inr (Or.inl k5)))))
          refine lv_iload_n hx hb dX3_ask_109 rfl (lv_at hl 0 rfl) ?_
          refine lv_sipush (v := (304:Int32)) hx hb dX3_ask_110 (by decide) ?_
          refine lv_icmp_eq (tgt := 122) hx hb dX3_ask_113 (by decide) (fun k6 => ?_) (fun k6 => ?_)
          · exact go (Or.inr (Or.inr (Or.inr (Or.inr (Or.inr k6)))))
          rw [if_neg (fun k => k.elim k1 (fun k => k.elim k2 (fun k => k.elim k3 (fun k => k.elim k4 (fun k => k.elim k5 k6)))))] at h
          have h := Option.some.inj h
          subst h
          refine lv_aload_n hx hb dX3_ask_116 rfl (lv_at hl 2 rfl) ?_
          refine lv_iconst (v := (1:Int32)) hx hb dX3_ask_117 (by decide) ?_
          exact p_throw hG hC h13 hWr hlst E hnt hw hl hx1 hz hc hs (cwV 1 hts (lw_V q475 q477 qs3 q141 q478) rfl rfl rfl ⟨rfl, kd_X3_wrong⟩ ⟨(show 7 + 1 ≤ 4 * (d + 1) + 45 by omega), (show 8 + (2 + 11) + 160 ≤ 40 * (4 * (d + 1) + 45) + 200 by omega)⟩) rfl dX3_ask_118 dX3_ask_121
        · rw [if_pos b2] at h
          refine lv_aload_n hx hb dX3_ask_63 rfl (lv_at hl 0 rfl) ?_
          refine c_B (c0 := 0) (k := fun a t => some (.inr (a, t, 0))) (z := r) (As := []) (rest := []) (V1 := VA K (3 * d + 20 + 1 + 1 + 1) M) hG E hnt hw h13 QExt.refl (pbo_id h) padd_0.symm (Nat.le_refl _) (Nat.le_refl _) (fun r1 h1 => m_X3_most_of l hG hC h13 hS hWr hlst hn hLs (fr := 4 * d + 45 + 1 + 1) (lo := 40 * (4 * d + 45) + 200 + 40 + 40) (by omega) (by omega) PT.eith (fun M9 t9 r9 g1 g2 g3 => m_X3_either_of l hG hC h13 hS hn hLs (fr := 4 * d + 45 + 1) (lo := 40 * (4 * d + 45) + 200 + 40) (by omega) (by omega) (PT.all (PT.ask d)) (fun M9 t9 r9 g1 g2 g3 => m_X3_both_of l hG hC h13 hS hn hLs (fr := 4 * d + 45) (lo := 40 * (4 * d + 45) + 200) (by omega) (by omega) (PT.ask d) ih g1 g2 g3) g1 g2 g3) ht ho h1) (fun r1 => (cwV 0 hts (lw_V q608 q610 qs15 q141 q611) rfl rfl rfl ⟨rfl, kd_X3_most⟩ ⟨(show 4 * d + 45 + 1 + 1 + 1 + 1 ≤ 4 * (d + 1) + 45 by omega), (show 8 + (2 + 11) + (40 * (4 * d + 45) + 200 + 40 + 40 + 40) ≤ 40 * (4 * (d + 1) + 45) + 200 by omega)⟩)) hl rfl rfl rfl dX3_ask_64 (fun u t1 cst v M1 H locs y1 ho1 h hz hc hs hx1 hV hw => ?_)
          obtain ⟨x, rfl, hT⟩ := hV
          refine W.eq (g2 := F0 m 67 ls [.ref x]) rfl ?_
          have h := Option.some.inj h
          subst h
          exact p_aret (c0 := 0 + cst) (c1 := 0) E hr (Or.inl ⟨_, rfl⟩) hz (by omega) (by omega) hx1 ⟨x, rfl, hT.le (by omega)⟩ hw dX3_ask_67
      · rw [if_pos b1] at h
        refine lv_aload_n hx hb dX3_ask_48 rfl (lv_at hl 0 rfl) ?_
        refine c_B (c0 := 0) (k := fun a t => some (.inr (a, t, 0))) (z := r) (As := []) (rest := []) (V1 := VA K 1 M) hG E hnt hw h13 QExt.refl (pbo_id h) padd_0.symm (Nat.le_refl _) (Nat.le_refl _) (fun r1 h1 => m_X3_fact l hG hC h13 hS hWr hlst hn ht h1) (fun r1 => (cwV 0 hts (lw_V q594 q596 qs14 q141 q597) rfl rfl rfl ⟨rfl, kd_X3_fact⟩ ⟨(show 10 + 1 ≤ 4 * (d + 1) + 45 by omega), (show 8 + (1 + 11) + 400 ≤ 40 * (4 * (d + 1) + 45) + 200 by omega)⟩)) hl rfl rfl rfl dX3_ask_49 (fun u t1 cst v M1 H locs y1 ho1 h hz hc hs hx1 hV hw => ?_)
        obtain ⟨x, rfl, hT⟩ := hV
        refine W.eq (g2 := F0 m 52 ls [.ref x]) rfl ?_
        have h := Option.some.inj h
        subst h
        exact p_aret (c0 := 0 + cst) (c1 := 0) E hr (Or.inl ⟨_, rfl⟩) hz (by omega) (by omega) hx1 ⟨x, rfl, hT.le (by omega)⟩ hw dX3_ask_52
    · rw [if_pos b0] at h
      refine lv_aload_n hx hb dX3_ask_10 rfl (lv_at hl 0 rfl) ?_
      refine c_B (c0 := 0) (As := []) (rest := []) (V1 := fun _ _ v => v = none) hG E hnt hw h13 QExt.refl h padd_0.symm (Nat.le_refl _) (Nat.le_refl _) (fun r1 h1 => by cases h1; exact m_X3_opens l hG hC h13 hS hWr hlst hn ht ho) (fun r1 => (cwV 0 hts (lw_V q577 q579 qs13 q141 q580) rfl rfl rfl ⟨rfl, kd_X3_opens⟩ ⟨(show 8 + 1 ≤ 4 * (d + 1) + 45 by omega), (show 8 + (1 + 11) + 300 ≤ 40 * (4 * (d + 1) + 45) + 200 by omega)⟩)) hl rfl rfl rfl dX3_ask_11 (fun u t1 cst v M1 H locs y1 ho1 h hz hc hs hx1 hV hw => ?_)
      subst hV
      refine W.eq (g2 := F0 m 14 ls []) rfl ?_
      obtain ⟨tu, h8⟩ := opens_t ht ho1
      obtain ⟨y2, h, hy2⟩ := pad_s h
      rw [hy2, padd_padd] at hz
      have hle : 0 + cst + 1 ≤ pc_ r := by rw [hz, pc_add]; exact Nat.le_add_right _ _
      refine r_new (ci := 6) (fs := [.null]) E hw (T := TX6) (N := 1) rfl in_X6 tyX6 tyX6_ok q581 q582 q155 (fun j hj => by match j, hj with | 0, _ => rfl | j + 1, hj => exact absurd hj (by omega)) (show _ ≤ pc_ r by omega) (show _ ≤ 12 * pc_ r by omega) dX3_ask_14 (fun q H hw hq _ _ => ?_)
      have hq1 : M1 q = none := hq
      have hq0 := hx1.no hq1
      have hx2 : QExt M (va_up M1 q (some (.inr (6, [.null])))) := hx1.trans (QExt.up hq1)
      refine lv_dup hx hb dX3_ask_17 rfl ?_
      refine lv_aload_n hx hb dX3_ask_18 rfl (lv_at hl 0 rfl) ?_
      refine c_B (c0 := 0 + cst + 1) (As := []) (rest := [.ref q, .ref q]) (V1 := VA K (3 * d + 20) (va_up M1 q (some (.inr (6, [.null]))))) hG E hnt hw h13 hx2 h hz (by omega) (by omega) (fun r1 h1 => ih _ _ _ tu.1 (by rw [congrArg Prod.fst tu.2]; show t.2.2.2.2.1 + 1 ≤ 8; omega) h1) (fun r1 => (cwV 0 hts (lw_V q573 q575 qs12 q141 q576) rfl rfl rfl ⟨rfl, kd_X3_ask⟩ ⟨(show 4 * d + 45 + 1 ≤ 4 * (d + 1) + 45 by omega), (show 8 + (3 + 11) + (40 * (4 * d + 45) + 200) ≤ 40 * (4 * (d + 1) + 45) + 200 by omega)⟩)) hl rfl rfl rfl dX3_ask_19 (fun u2 t2 cst2 v M2 H locs y3 ho2 h hz hc hs hx3 hV hw => ?_)
      obtain ⟨b, rfl, hT⟩ := hV
      refine W.eq (g2 := F0 m 22 ls [.ref b, .ref q, .ref q]) rfl ?_
      have h := Option.some.inj h
      subst h
      have hle2 : 0 + cst + 1 + cst2 ≤ pc_ r := by rw [hz, pc_add]; exact Nat.le_add_right _ _
      refine c_IN (As := [.ref b]) (rest := [.ref q]) hG E hw (m_X6_init l hG (hx3 q _ va_up_s)) ⟨va_cnB 1 hts (lw_meth q585) rfl rfl rfl (hG.2.2 s _ E.2.2.2.2.2.1 q583 rfl) (hts _ q155) kd_X6_init ⟨(show 3 + 1 ≤ 4 * (d + 1) + 45 by omega), (show 8 + (2 + 11) + 80 ≤ 40 * (4 * (d + 1) + 45) + 200 by omega)⟩, rfl, hts _ q584⟩ hl rfl rfl (Nat.le_of_ble_eq_true rfl) dX3_ask_22 ⟨(show _ ≤ pc_ r by omega), (show _ ≤ 12 * pc_ r by omega)⟩ (fun v w' H locs hP9 hw => ?_)
      obtain ⟨rfl, rfl⟩ := hP9
      refine W.eq (g2 := F0 m 25 ls [.ref q]) rfl ?_
      have ho3 : 1 ≤ t2.2.2.2.2.1 := by rw [congrArg Prod.fst (PT.ask d _ _ _ _ tu.1 ho2).2, congrArg Prod.fst tu.2]; show 1 ≤ t.2.2.2.2.1 + 1; omega
      refine lv_astore_n (lv' := [(1, .ref q), (0, .ref (K.2.1 13))]) hx hb dX3_ask_25 rfl hl (by decide) rfl (fun ls hl => ?_)
      refine lv_aload_n hx hb dX3_ask_26 rfl (lv_at hl 1 rfl) ?_
      refine lv_dup hx hb dX3_ask_27 rfl ?_
      refine r_gOpen E hw hC h13 q319 dX3_ask_28 ?_
      refine lv_iconst (v := (1:Int32)) hx hb dX3_ask_31 (by decide) ?_
      refine lv_isub hx hb dX3_ask_32 ?_
      refine r_pOpen (a := t2.2.2.2.2.1 - 1) E hw h13 q319 (nI_dn ho3) dX3_ask_33 (fun H locs hw => ?_)
      refine lv_aload_n hx hb dX3_ask_36 rfl (lv_at hl 0 rfl) ?_
      refine p_aret (c0 := 0 + cst + 1 + cst2) (c1 := 0) E hr (Or.inl ⟨_, rfl⟩) hz (by omega) (by omega) (QExt.up2 (hx2.trans hx3) hq0) ⟨q, rfl, AskAt.le (n := 3 * d + 20 + 1) (Or.inl ⟨b, u2.1, u2.2, Or.inl ((qnew_n hq0).trans va_up_s), AskAt.ext (qnew_sub hx2 (fun z e z1 z2 => ?_)) _ _ _ _ hT, rfl, rfl⟩) (by omega)⟩ hw dX3_ask_37
      have h9 : z ≠ q := fun e9 => by rw [e9, va_up_s] at z1; cases z1
      rw [va_up_n h9]
      exact z2
theorem m_X3_either (l : Launch) {K : QK} {G : State → Prop} {A B : QA} {L : QL} {X : QX} {M : QM} {n : Nat} {t : QTS} {r : PR QV} {y : QY} {ea mi ic : Nat} {ib : Nat → Nat} (hG : QG G) (hC : QCl K) (h13 : ql K 13) (hS : QSt K G y) (hWr : QWr K G) (hlst : l.stackTraces = false) (hn : n ≤ 300) (hLs : QLs K G ea mi) (hI : QIc K G ic ib) (ht : t.1 ≤ n) (ho : t.2.2.2.2.1 ≤ 8) (h : sEither (A 3) n t = some r) :
    MP l K G yX3_either (ws_ yX3_either cX3_either 2 (some (.object "VaneCourt$Asked"))) 83 3520 [.ref (K.2.1 13)] A B L X M n t r (VA K 49 M) :=
  m_X3_either_of l hG hC h13 hS hn hLs (fr := 82) (lo := 3480) (dep := 48) (by omega) (by omega) (PT.all (PT.ask 9)) (fun M9 t9 r9 g1 g2 g3 => m_X3_both_of l hG hC h13 hS hn hLs (fr := 81) (lo := 3440) (dep := 47) (by omega) (by omega) (PT.ask 9) (fun M9 t9 r9 g1 g2 g3 => m_X3_ask l hG hC h13 hS hWr hlst hn hLs hI 9 M9 t9 r9 g1 g2 g3) g1 g2 g3) ht ho h
set_option maxHeartbeats 4000000 in
theorem m_X3_whole (l : Launch) {K : QK} {G : State → Prop} {A B : QA} {L : QL} {X : QX} {M : QM} {n : Nat} {t : QTS} {r : PR QV} {y : QY} {ea mi ic : Nat} {ib : Nat → Nat} (hG : QG G) (hC : QCl K) (h13 : ql K 13) (hS : QSt K G y) (hWr : QWr K G) (hlst : l.stackTraces = false) (hn : n ≤ 300) (hLs : QLs K G ea mi) (hI : QIc K G ic ib) (ht : t.1 ≤ n) (ho : t.2.2.2.2.1 ≤ 8) (h : sWhole (A 3) n t = some r) :
    MP l K G yX3_whole (ws_ yX3_whole cX3_whole 2 (some (.object "VaneCourt$Asked"))) 84 3560 [.ref (K.2.1 13)] A B L X M n t r (VA K 50 M) := by
  refine MX.of (by decide) (Nat.le_of_ble_eq_true rfl) (lv := [(0, .ref (K.2.1 13))]) rfl (fun p e s m below meth c ls E hr hnt hl hw => ?_)
  have hx := E.1
  have hb := E.2.1
  have hown := E.2.2.1
  have hts := E.2.2.2.2.1
  unfold sWhole at h
  refine lv_aload_n hx hb dX3_whole_0 rfl (lv_at hl 0 rfl) ?_
  refine c_B (c0 := 0) (As := []) (rest := []) (V1 := VA K 49 M) hG E hnt hw h13 QExt.refl h padd_0.symm (Nat.le_refl _) (Nat.le_refl _) (fun r1 h1 => m_X3_either l hG hC h13 hS hWr hlst hn hLs hI ht ho h1) (fun r1 => (cwV 0 hts (lw_V q563 q565 qs10 q141 q566) rfl rfl rfl ⟨rfl, kd_X3_either⟩ ⟨Nat.le_of_ble_eq_true rfl, Nat.le_of_ble_eq_true rfl⟩)) hl rfl rfl rfl dX3_whole_1 (fun u t1 cst v M1 H locs y1 ho1 h hz hc hs hx1 hV hw => ?_)
  obtain ⟨a1, rfl, hT1⟩ := hV
  refine W.eq (g2 := F0 m 4 ls [.ref a1]) rfl ?_
  have tk1 := PT.eith _ _ _ _ ht ho1
  refine lv_astore_n (lv' := [(1, .ref a1), (0, .ref (K.2.1 13))]) hx hb dX3_whole_4 rfl hl (by decide) rfl (fun ls hl => ?_)
  refine lv_aload_n hx hb dX3_whole_5 rfl (lv_at hl 1 rfl) ?_
  refine r_gSort E hw hC h13 q317 dX3_whole_6 ?_
  refine lv_sipush (v := (215:Int32)) hx hb dX3_whole_9 (by decide) ?_
  refine lv_icmp_eq (tgt := 17) hx hb dX3_whole_12 (by decide) (fun c1 => ?_) (fun c1 => ?_)
  · rw [if_pos c1] at h
    obtain ⟨y2, h, hy2⟩ := pad_s h
    rw [hy2, padd_padd] at hz
    have hle : 0 + cst + 1 ≤ pc_ r := by rw [hz, pc_add]; exact Nat.le_add_right _ _
    refine lv_aload_n hx hb dX3_whole_17 rfl (lv_at hl 1 rfl) ?_
    refine d_V (As := []) (v0 := none) hG E hw hl (m_X3_next l hG hC h13 hS hn tk1.1) (qT13 h13) rfl (cwV 0 hts (lw_V q406 q408 qs1 q141 q409) rfl rfl rfl ⟨rfl, kd_X3_next⟩ ⟨Nat.le_of_ble_eq_true rfl, Nat.le_of_ble_eq_true rfl⟩) rfl (rest := []) (st1 := []) rfl rfl rfl dX3_whole_18 ⟨(show _ ≤ pc_ r by omega), (show _ ≤ 12 * pc_ r by omega)⟩ (fun H locs hw => ?_)
    have nx := TK.nx (D := A 3) tk1.1
    refine r_new (ci := 15) (fs := [.null, .null]) E hw (T := TX15) (N := 2) rfl in_X15 tyX15 tyX15_ok q832 q833 q170 (fun j hj => by match j, hj with | 0, _ => rfl | 1, _ => rfl | j + 2, hj => exact absurd hj (by omega)) (show _ ≤ pc_ r by omega) (show _ ≤ 12 * pc_ r by omega) dX3_whole_21 (fun q H hw hq _ _ => ?_)
    have hq1 : M1 q = none := hq
    have hq0 := hx1.no hq1
    refine lv_dup hx hb dX3_whole_24 rfl ?_
    refine lv_aload_n hx hb dX3_whole_25 rfl (lv_at hl 0 rfl) ?_
    refine lv_aload_n hx hb dX3_whole_26 rfl (lv_at hl 1 rfl) ?_
    refine c_B (c0 := 0 + cst + 1) (As := []) (rest := [.ref a1, .ref q, .ref q]) (V1 := VA K 49 (va_up M1 q (some (.inr (15, [.null, .null]))))) hG E hnt hw h13 (hx1.trans (QExt.up hq1)) h hz (by omega) (by omega) (fun r1 h1 => m_X3_either l hG hC h13 hS hWr hlst hn hLs hI nx.1 (by rw [congrArg Prod.fst nx.2, congrArg Prod.fst tk1.2]; exact ho) h1) (fun r1 => (cwV 0 hts (lw_V q563 q565 qs10 q141 q566) rfl rfl rfl ⟨rfl, kd_X3_either⟩ ⟨Nat.le_of_ble_eq_true rfl, Nat.le_of_ble_eq_true rfl⟩)) hl rfl rfl rfl dX3_whole_27 (fun u2 t2 cst2 v M2 H locs y3 ho2 h hz hc hs hx2 hV hw => ?_)
    obtain ⟨a2, rfl, hT2⟩ := hV
    refine W.eq (g2 := F0 m 30 ls [.ref a2, .ref a1, .ref q, .ref q]) rfl ?_
    have h := Option.some.inj h
    subst h
    have hle2 : 0 + cst + 1 + cst2 ≤ pc_ r := by rw [hz, pc_add]; exact Nat.le_add_right _ _
    refine c_IN (As := [.ref a1, .ref a2]) (rest := [.ref q]) hG E hw (m_X15_init l hG (hx2 q _ va_up_s)) ⟨va_cnB 2 hts (lw_meth q836) rfl rfl rfl (hG.2.2 s _ E.2.2.2.2.2.1 q834 rfl) (hts _ q170) kd_X15_init ⟨Nat.le_of_ble_eq_true rfl, Nat.le_of_ble_eq_true rfl⟩, rfl, hts _ q835⟩ hl rfl rfl (Nat.le_of_ble_eq_true rfl) dX3_whole_30 ⟨(show _ ≤ pc_ r by omega), (show _ ≤ 12 * pc_ r by omega)⟩ (fun v w' H locs hP9 hw => ?_)
    obtain ⟨rfl, rfl⟩ := hP9
    refine W.eq (g2 := F0 m 33 ls [.ref q]) rfl ?_
    refine p_aret (c0 := 0 + cst + 1 + cst2) (c1 := 0) E hr (Or.inl ⟨_, rfl⟩) hz (by omega) (by omega) (QExt.up2 ((hx1.trans (QExt.up hq1)).trans hx2) hq0) ⟨q, rfl, Or.inr (Or.inr (Or.inr (Or.inr (Or.inr ⟨a1, a2, u.1, u2.1, u.2, u2.2, Or.inl ((qnew_n hq0).trans va_up_s), AskAt.ext (qnew_sub QExt.refl (fun z e z1 z2 => ?_)) _ _ _ _ hT1, AskAt.ext (qnew_sub (hx1.trans (QExt.up hq1)) (fun z e z1 z2 => ?_)) _ _ _ _ hT2, rfl, rfl⟩))))⟩ hw dX3_whole_33
    · have h9 : z ≠ q := fun e9 => by rw [e9, hq1] at z2; cases z2
      rw [va_up_n h9]
      exact hx2 z e ((va_up_n h9).trans z2)
    · have h9 : z ≠ q := fun e9 => by rw [e9, va_up_s] at z1; cases z1
      rw [va_up_n h9]
      exact z2
  · rw [if_neg c1] at h
    have h := Option.some.inj h
    subst h
    refine lv_aload_n hx hb dX3_whole_15 rfl (lv_at hl 0 rfl) ?_
    exact p_aret (c0 := 0 + cst) (c1 := 0) E hr (Or.inl ⟨_, rfl⟩) hz (by omega) (by omega) hx1 ⟨a1, rfl, AskAt.up _ _ _ _ hT1⟩ hw dX3_whole_16
