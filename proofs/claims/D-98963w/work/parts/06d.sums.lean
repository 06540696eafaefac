/-! sum and product (printed by mk06d.py) -/
set_option maxRecDepth 100000
theorem kd_X3_one : yX3_one.cls ≠ "java/lang/invoke/MethodHandle" ∧ yX3_one.cls ≠ "java/lang/invoke/VarHandle" ∧ (parseMethodDescriptor yX3_one.desc).map (fun d => d.parameters.length) = some 0 := by decide +kernel
theorem kd_X3_product : yX3_product.cls ≠ "java/lang/invoke/MethodHandle" ∧ yX3_product.cls ≠ "java/lang/invoke/VarHandle" ∧ (parseMethodDescriptor yX3_product.desc).map (fun d => d.parameters.length) = some 0 := by decide +kernel
theorem kd_X9_add : yX9_add.cls ≠ "java/lang/invoke/MethodHandle" ∧ yX9_add.cls ≠ "java/lang/invoke/VarHandle" ∧ (parseMethodDescriptor yX9_add.desc).map (fun d => d.parameters.length) = some 2 := by decide +kernel
theorem kd_X9_init : yX9_init.cls ≠ "java/lang/invoke/MethodHandle" ∧ yX9_init.cls ≠ "java/lang/invoke/VarHandle" ∧ (parseMethodDescriptor yX9_init.desc).map (fun d => d.parameters.length) = some 1 := by decide +kernel
theorem kd_X9_itself : yX9_itself.cls ≠ "java/lang/invoke/MethodHandle" ∧ yX9_itself.cls ≠ "java/lang/invoke/VarHandle" ∧ (parseMethodDescriptor yX9_itself.desc).map (fun d => d.parameters.length) = some 0 := by decide +kernel
set_option maxHeartbeats 8000000 in
theorem wl_X3_product {p : Program} {l : Launch} {e : Env} {s : State} {m : MethodId} {below : List Frame} {meth : Method} {c : Code} {K : QK} {G : State → Prop} {A B : QA} {L : QL} {X : QX} {M0 : QM} {n : Nat} {y : QY} {ea mi ic : Nat} {ib : Nat → Nat} {one : QTS → Option (PR QU)} {fr lo dep : Nat} {r : PR QU} (hG : QG G) (hC : QCl K) (h13 : ql K 13) (hS : QSt K G y) (hn : n ≤ 300) (hLs : QLs K G ea mi) (hI : QIc K G ic ib) (hfr : 12 ≤ fr) (hlo : 40 * fr + 200 ≤ lo) (hP : PT n one)
    (hM : ∀ (M : QM) (t : QTS) (r1 : PR QU), t.1 ≤ n → t.2.2.2.2.1 ≤ 8 → one t = some r1 → MP l K G yX3_one (ws_ yX3_one cX3_one 3 (some (.object "VaneCourt$Sum"))) fr lo [.ref (K.2.1 13)] A B L X M n t r1 (VS K dep M))
    (E : EV K G p s m #[.ref (K.2.1 13)] meth c cX3_product RX3 3) (hr : meth.sig.returnType = some (.object "VaneCourt$Sum")) (hnt : ∀ x ∈ c.exceptionTable.toList, False) :
    ∀ (f : Nat) (q b qm em qs es : Nat) (u : QU) (its : List QUi) (xs : List Nat) (F M : QM) (t : QTS) (z : PR QU) (c0 : Nat), its.length + f = 160 → sChL (A 3) n one 42 47 f u its t = some z → r = padd c0 z → t.1 ≤ n → t.2.2.2.2.1 ≤ 8 → ChS K ea ib M0 F M dep q b qm em qs es u its xs →
    ∀ {H : Heap} {locs : List Loc} {ls : Array Slot} {cells slots : Nat}, cells ≤ c0 → slots ≤ 12 * c0 → WP K (tw A n t, B, L, X, M) H locs → lv_has ls 3 [(1, .ref q), (0, .ref (K.2.1 13))] → W p l e (pR (fr + 1) (lo + 40) r) s m #[.ref (K.2.1 13)] below meth c H locs cells slots (PQ below K A B L X n M0 (VS K (dep + 1) M0) #[.ref (K.2.1 13)] s r) (F0 m 12 ls []) := by
  have hx := E.1
  have hb := E.2.1
  have hown := E.2.2.1
  have hts := E.2.2.2.2.1
  intro f
  induction f with
  | zero => intro q b qm em qs es u its xs F M t z c0 _ h; cases h
  | succ f ih =>
    intro q b qm em qs es u its xs F M t z c0 hf h hz ht ho hch H locs ls cells slots hc hs hw hl
    have hle : c0 ≤ pc_ r := by rw [hz, pc_add]; exact Nat.le_add_right _ _
    rw [sChL] at h
    have go : (t.2.2.1 = 42 ∨ t.2.2.1 = 47) → W p l e (pR (fr + 1) (lo + 40) r) s m #[.ref (K.2.1 13)] below meth c H locs cells slots (PQ below K A B L X n M0 (VS K (dep + 1) M0) #[.ref (K.2.1 13)] s r) (F0 m 30 ls []) := by
      intro c1
      rw [if_pos c1] at h
      have hsg : t.2.2.1 = 43 ∨ t.2.2.1 = 45 ∨ t.2.2.1 = 42 ∨ t.2.2.1 = 47 := by rcases c1 with c1 | c1 <;> rw [c1] <;> decide
      obtain ⟨k1, k2⟩ := sg_n hsg
      refine lv_aload_n hx hb dX3_product_30 rfl (lv_at hl 1 rfl) ?_
      refine r_gSort E hw hC h13 q317 dX3_product_31 ?_
      refine lv_istore_n (lv' := [(2, .int t.2.2.1), (1, .ref q), (0, .ref (K.2.1 13))]) hx hb dX3_product_34 rfl hl (by decide) rfl (fun ls hl => ?_)
      refine lv_aload_n hx hb dX3_product_35 rfl (lv_at hl 2 rfl) ?_
      refine d_V (As := []) (v0 := none) hG E hw hl (m_X3_next l hG hC h13 hS hn ht) (qT13 h13) rfl (cwV 0 hts (lw_V q406 q408 qs1 q141 q409) rfl rfl rfl ⟨rfl, kd_X3_next⟩ ⟨(show 6 + 1 ≤ fr + 1 by omega), (show 8 + (3 + 11) + 240 ≤ lo + 40 by omega)⟩) rfl (rest := []) (st1 := []) rfl rfl rfl dX3_product_36 ⟨(show cells ≤ pc_ r by omega), (show slots ≤ 12 * pc_ r by omega)⟩ (fun H locs hw => ?_)
      refine lv_aload_n hx hb dX3_product_39 rfl (lv_at hl 1 rfl) ?_
      refine lv_iload_n hx hb dX3_product_40 rfl (lv_at hl 0 rfl) ?_
      refine lv_aload_n hx hb dX3_product_41 rfl (lv_at hl 2 rfl) ?_
      have nx := TK.nx (D := A 3) ht
      refine c_B (As := []) (rest := [.int t.2.2.1, .ref q]) (V1 := VS K dep M) hG E hnt hw h13 hch.1.1 h hz hc hs (fun r1 h1 => hM M _ r1 nx.1 (by rw [nx.2]; exact ho) h1) (fun r1 => (cwV 0 hts (lw_V q698 q700 qs21 q141 q701) rfl rfl rfl ⟨rfl, kd_X3_one⟩ ⟨(show fr + 1 ≤ fr + 1 by omega), (show 8 + (3 + 11) + lo ≤ lo + 40 by omega)⟩)) hl rfl rfl rfl dX3_product_42 (fun q2 t2 cst v M1 H locs y1 ho1 h hz hc hs hx1 hV hw => ?_)
      obtain ⟨x, rfl, hT⟩ := hV
      refine W.eq (g2 := F0 m 45 ls [.ref x, .int t.2.2.1, .ref q]) rfl ?_
      obtain ⟨y2, h, hy2⟩ := pad_s h
      rw [hy2, padd_padd] at hz
      have hch1 := hch.call hx1
      have tk := hP _ _ _ _ nx.1 ho1
      have hTF := SumAt.ext (qfr_new (F := F)) _ _ _ _ hT
      obtain ⟨f1, f2, f3, f4, f5, f6, -, f7, f8, f9, f10⟩ := id hch1
      have hxl : xs.length = its.length := f8
      have hle2 : c0 + cst + (addCost its.length + addCost its.length) ≤ pc_ r := by rw [hz, pc_add]; exact Nat.le_add_right _ _
      have hex : ∀ z9 ∈ xs, ElO K M1 z9 := by
        intro z9 hz9
        obtain ⟨i, hi⟩ := List.getElem?_of_mem hz9
        have hi2 : i < its.length := by rw [← hxl]; exact (List.getElem?_eq_some_iff.mp hi).1
        exact (f9 i z9 its[i] hi (List.getElem?_eq_getElem hi2)).el.ext f1.2.1
      have hev : ∀ z9 ∈ its.map (fun it => ib (it.1.toNatClampNeg + 128)), ElO K M1 z9 := by
        intro z9 hz9
        obtain ⟨it, hit, rfl⟩ := List.mem_map.mp hz9
        obtain ⟨k3, k4⟩ := sg_n (f10 it hit)
        exact ⟨18, 1, RJ14, TJ14, _, rfl, hI.el k4, q2041⟩
      rw [k1]
      refine c_V (As := [.int (nI t.2.2.1.toNatClampNeg), .ref x]) (rest := []) hG E hw (m_X9_add l hG hLs hI f2 f3 f4 f5 f6 k2 (by omega) (by rw [List.length_map, hxl]) hex hev (hTF.el.ext f1.2.1)) (QAt.dyn f2) rfl (cwV 2 hts (lw_V q757 q758 q759 q160 q760) rfl rfl rfl ⟨rfl, kd_X9_add⟩ ⟨(show 9 + 1 ≤ fr + 1 by omega), (show 8 + (3 + 11) + 420 ≤ lo + 40 by omega)⟩) hl rfl rfl (Nat.le_of_ble_eq_true rfl) dX3_product_45 ⟨(show cells + cst + (addCost xs.length + addCost xs.length) ≤ pc_ r by rw [hxl]; omega), (show slots + 12 * cst + (12 * addCost xs.length + 12 * addCost xs.length) ≤ 12 * pc_ r by rw [hxl]; omega)⟩ (fun v w' H locs hP9 hw => ?_)
      obtain ⟨em', es', M2, rfl, rfl, a1, a2, a3, a4, a5, a6, a7⟩ := hP9
      refine W.eq (g2 := F0 m 48 ls []) rfl ?_
      refine lv_goto (tgt := 12) hx hb dX3_product_48 (by decide) ?_
      refine ih q b qm em' qs es' u (its ++ [(t.2.2.1, q2)]) (xs ++ [x]) (qfr F M M1) M2 t2 y2 (c0 + cst + (addCost its.length + addCost its.length)) (by rw [List.length_append]; show its.length + 1 + f = 160; omega) h hz tk.1 (by rw [congrArg Prod.fst tk.2, congrArg Prod.fst nx.2]; exact ho) (hch1.add hsg hTF a1 a2 a3 a4 a5 a6 a7) (by rw [hxl]; omega) (by rw [hxl]; omega) hw (lv_sub hl [1, 2] rfl)
    refine lv_aload_n hx hb dX3_product_12 rfl (lv_at hl 1 rfl) ?_
    refine r_gSort E hw hC h13 q317 dX3_product_13 ?_
    refine lv_bipush (v := (42:Int32)) hx hb dX3_product_16 (by decide) ?_
    refine lv_icmp_eq (tgt := 30) hx hb dX3_product_18 (by decide) (fun c1 => ?_) (fun c1 => ?_)
    · exact go (Or.inl c1)
    refine lv_aload_n hx hb dX3_product_21 rfl (lv_at hl 1 rfl) ?_
    refine r_gSort E hw hC h13 q317 dX3_product_22 ?_
    refine lv_bipush (v := (47:Int32)) hx hb dX3_product_25 (by decide) ?_
    refine lv_icmp_ne (tgt := 51) hx hb dX3_product_27 (by decide) (fun c2 => ?_) (fun c2 => ?_)
    · rw [if_neg (fun c3 => c3.elim c1 c2)] at h
      have h := Option.some.inj h
      subst h
      obtain ⟨f1, f2, f3, f4, f5, f6, -, f7, f8, f9, f10⟩ := id hch
      refine lv_aload_n hx hb dX3_product_51 rfl (lv_at hl 0 rfl) ?_
      refine d_V (As := []) (v0 := some (.ref (selO xs b q))) hG E hw hl (m_X9_itself l hG f2 f3 (by omega)) (QAt.dyn f2) rfl (cwV 0 hts (lw_V q782 q783 q784 q160 q785) rfl rfl rfl ⟨rfl, kd_X9_itself⟩ ⟨(show 2 + 1 ≤ fr + 1 by omega), (show 8 + (1 + 11) + 80 ≤ lo + 40 by omega)⟩) rfl (rest := []) (st1 := [.ref (selO xs b q)]) rfl rfl rfl dX3_product_52 ⟨(show cells ≤ pc_ r by omega), (show slots ≤ 12 * pc_ r by omega)⟩ (fun H locs hw => ?_)
      exact p_aret (a := chU u its) (c0 := c0) (c1 := 0) E hr (Or.inl ⟨_, rfl⟩) hz (by omega) (by omega) f1.1 ⟨_, rfl, hch.out hI (by omega)⟩ hw dX3_product_55
    · exact go (Or.inr (c2))
set_option maxHeartbeats 8000000 in
theorem m_X3_product_of (l : Launch) {K : QK} {G : State → Prop} {A B : QA} {L : QL} {X : QX} {M : QM} {n : Nat} {y : QY} {t : QTS} {ea mi ic : Nat} {ib : Nat → Nat} {one : QTS → Option (PR QU)} {fr lo dep : Nat} {r : PR QU} (hG : QG G) (hC : QCl K) (h13 : ql K 13) (hS : QSt K G y) (hn : n ≤ 300) (hLs : QLs K G ea mi) (hI : QIc K G ic ib) (hfr : 12 ≤ fr) (hlo : 40 * fr + 200 ≤ lo) (hP : PT n one)
    (hM : ∀ (M : QM) (t : QTS) (r1 : PR QU), t.1 ≤ n → t.2.2.2.2.1 ≤ 8 → one t = some r1 → MP l K G yX3_one (ws_ yX3_one cX3_one 3 (some (.object "VaneCourt$Sum"))) fr lo [.ref (K.2.1 13)] A B L X M n t r1 (VS K dep M)) (ht : t.1 ≤ n) (ho : t.2.2.2.2.1 ≤ 8) (h : sChn (A 3) n one 42 47 t = some r) :
    MP l K G yX3_product (ws_ yX3_product cX3_product 3 (some (.object "VaneCourt$Sum"))) (fr + 1) (lo + 40) [.ref (K.2.1 13)] A B L X M n t r (VS K (dep + 1) M) := by
  refine MX.of (by decide) (Nat.le_of_ble_eq_true rfl) (lv := [(0, .ref (K.2.1 13))]) rfl (fun p e s m below meth c ls E hr hnt hl hw => ?_)
  have hx := E.1
  have hb := E.2.1
  have hown := E.2.2.1
  have hts := E.2.2.2.2.1
  unfold sChn at h
  obtain ⟨z, h, hz⟩ := pad_s h
  have hle : 1 ≤ pc_ r := by rw [hz, pc_add]; exact Nat.le_add_right _ _
  refine r_new (ci := 9) (fs := [.null, .null, .null]) E hw (T := TX9) (N := 3) rfl in_X9 tyX9 tyX9_ok q692 q693 q160 (fun j hj => by match j, hj with | 0, _ => rfl | 1, _ => rfl | 2, _ => rfl | j + 3, hj => exact absurd hj (by omega)) (show _ ≤ pc_ r by omega) (show _ ≤ 12 * pc_ r by omega) dX3_product_0 (fun q H hw hq _ _ => ?_)
  have hq0 : M q = none := hq
  have hx1 : QExt M (va_up M q (some (.inr (9, [.null, .null, .null])))) := QExt.up hq0
  refine lv_dup hx hb dX3_product_3 rfl ?_
  refine lv_aload_n hx hb dX3_product_4 rfl (lv_at hl 0 rfl) ?_
  refine c_B (c0 := 1) (As := []) (rest := [.ref q, .ref q]) (V1 := VS K dep (va_up M q (some (.inr (9, [.null, .null, .null]))))) hG E hnt hw h13 hx1 h hz (show 0 + 1 ≤ 1 by omega) (show 0 + 3 ≤ 12 * 1 by omega) (fun r1 h1 => hM _ _ r1 ht ho h1) (fun r1 => (cwV 0 hts (lw_V q698 q700 qs21 q141 q701) rfl rfl rfl ⟨rfl, kd_X3_one⟩ ⟨(show fr + 1 ≤ fr + 1 by omega), (show 8 + (3 + 11) + lo ≤ lo + 40 by omega)⟩)) hl rfl rfl rfl dX3_product_5 (fun u t1 cst v M1 H locs y1 ho1 h hz hc hs hx2 hV hw => ?_)
  obtain ⟨b, rfl, hT⟩ := hV
  refine W.eq (g2 := F0 m 8 ls [.ref b, .ref q, .ref q]) rfl ?_
  obtain ⟨y2, h, hy2⟩ := pad_s h
  rw [hy2, padd_padd] at hz
  have hq1 : M1 q = _ := hx2 q _ va_up_s
  have tk := hP _ _ _ _ ht ho1
  have hle2 : 1 + cst + 2 ≤ pc_ r := by rw [hz, pc_add]; exact Nat.le_add_right _ _
  refine c_I (As := [.ref b]) (rest := [.ref q]) hG E hw (m_X9_init l hG hLs hq1) (cwI 1 hts (lw_meth q743) rfl rfl rfl (hts _ q160) (hts _ q741) (hts _ q742) rfl kd_X9_init ⟨(show 5 + 1 ≤ fr + 1 by omega), (show 8 + (2 + 11) + 160 ≤ lo + 40 by omega)⟩) hl rfl rfl (Nat.le_of_ble_eq_true rfl) dX3_product_8 ⟨(show 0 + 1 + cst + 2 ≤ pc_ r by omega), (show 0 + 3 + 12 * cst + 24 ≤ 12 * pc_ r by omega)⟩ (fun v w' H locs hP9 hw => ?_)
  obtain ⟨qm, qs, M2, rfl, rfl, n1, n2, n3, n4, n5, n6, n7⟩ := hP9
  refine W.eq (g2 := F0 m 11 ls [.ref q]) rfl ?_
  refine lv_astore_n (lv' := [(1, .ref q), (0, .ref (K.2.1 13))]) hx hb dX3_product_11 rfl hl (by decide) rfl (fun ls hl => ?_)
  have hF0 : FRz M (fun _ => none) (va_up M q (some (.inr (9, [.null, .null, .null])))) := ⟨hx1, fun _ _ h => (by cases h), fun _ _ _ => rfl⟩
  have hF1 := hF0.call hx2
  have hTF := SumAt.ext (qfr_new (F := fun _ => none)) _ _ _ _ hT
  have oq : qfr (fun _ => none) (va_up M q (some (.inr (9, [.null, .null, .null])))) M1 q = none ∧ M q = none := ⟨qfr_no va_up_s rfl, hq0⟩
  have om := hF1.no n1
  have os := hF1.no n2
  have hF2 := hF1.own (M' := M2) (fun z => z = q ∨ z = qm ∨ z = qs) (fun z hz => by
    rcases hz with e | e | e <;> rw [e]
    · exact oq
    · exact om
    · exact os) (fun z e hz hM9 => by rw [n7 z (fun w => hz (Or.inl w)) (fun w => hz (Or.inr (Or.inl w))) (fun w => hz (Or.inr (Or.inr w)))]; exact hM9)
  exact wl_X3_product hG hC h13 hS hn hLs hI hfr hlo hP hM E hr hnt 160 q b qm ea qs ea u [] [] _ M2 t1 y2 (1 + cst + 2) rfl h hz tk.1 (by rw [congrArg Prod.fst tk.2]; exact ho) ⟨hF2, n4, n5, n6, n3, fun h9 => absurd rfl h9, ⟨oq, om, os, fun h9 => absurd rfl h9⟩, hTF, rfl, fun i x it h9 => (by cases h9), fun it h9 => (by cases h9)⟩ (by omega) (by omega) hw (lv_sub hl [0, 1] rfl)
set_option maxHeartbeats 8000000 in
theorem wl_X3_sum {p : Program} {l : Launch} {e : Env} {s : State} {m : MethodId} {below : List Frame} {meth : Method} {c : Code} {K : QK} {G : State → Prop} {A B : QA} {L : QL} {X : QX} {M0 : QM} {n : Nat} {y : QY} {ea mi ic : Nat} {ib : Nat → Nat} {one : QTS → Option (PR QU)} {fr lo dep : Nat} {r : PR QU} (hG : QG G) (hC : QCl K) (h13 : ql K 13) (hS : QSt K G y) (hn : n ≤ 300) (hLs : QLs K G ea mi) (hI : QIc K G ic ib) (hfr : 12 ≤ fr) (hlo : 40 * fr + 200 ≤ lo) (hP : PT n one)
    (hM : ∀ (M : QM) (t : QTS) (r1 : PR QU), t.1 ≤ n → t.2.2.2.2.1 ≤ 8 → one t = some r1 → MP l K G yX3_product (ws_ yX3_product cX3_product 3 (some (.object "VaneCourt$Sum"))) fr lo [.ref (K.2.1 13)] A B L X M n t r1 (VS K dep M))
    (E : EV K G p s m #[.ref (K.2.1 13)] meth c cX3_sum RX3 3) (hr : meth.sig.returnType = some (.object "VaneCourt$Sum")) (hnt : ∀ x ∈ c.exceptionTable.toList, False) :
    ∀ (f : Nat) (q b qm em qs es : Nat) (u : QU) (its : List QUi) (xs : List Nat) (F M : QM) (t : QTS) (z : PR QU) (c0 : Nat), its.length + f = 160 → sChL (A 3) n one 43 45 f u its t = some z → r = padd c0 z → t.1 ≤ n → t.2.2.2.2.1 ≤ 8 → ChS K ea ib M0 F M dep q b qm em qs es u its xs →
    ∀ {H : Heap} {locs : List Loc} {ls : Array Slot} {cells slots : Nat}, cells ≤ c0 → slots ≤ 12 * c0 → WP K (tw A n t, B, L, X, M) H locs → lv_has ls 3 [(1, .ref q), (0, .ref (K.2.1 13))] → W p l e (pR (fr + 1) (lo + 40) r) s m #[.ref (K.2.1 13)] below meth c H locs cells slots (PQ below K A B L X n M0 (VS K (dep + 1) M0) #[.ref (K.2.1 13)] s r) (F0 m 12 ls []) := by
  have hx := E.1
  have hb := E.2.1
  have hown := E.2.2.1
  have hts := E.2.2.2.2.1
  intro f
  induction f with
  | zero => intro q b qm em qs es u its xs F M t z c0 _ h; cases h
  | succ f ih =>
    intro q b qm em qs es u its xs F M t z c0 hf h hz ht ho hch H locs ls cells slots hc hs hw hl
    have hle : c0 ≤ pc_ r := by rw [hz, pc_add]; exact Nat.le_add_right _ _
    rw [sChL] at h
    have go : (t.2.2.1 = 43 ∨ t.2.2.1 = 45) → W p l e (pR (fr + 1) (lo + 40) r) s m #[.ref (K.2.1 13)] below meth c H locs cells slots (PQ below K A B L X n M0 (VS K (dep + 1) M0) #[.ref (K.2.1 13)] s r) (F0 m 30 ls []) := by
      intro c1
      rw [if_pos c1] at h
      have hsg : t.2.2.1 = 43 ∨ t.2.2.1 = 45 ∨ t.2.2.1 = 42 ∨ t.2.2.1 = 47 := by rcases c1 with c1 | c1 <;> rw [c1] <;> decide
      obtain ⟨k1, k2⟩ := sg_n hsg
      refine lv_aload_n hx hb dX3_sum_30 rfl (lv_at hl 1 rfl) ?_
      refine r_gSort E hw hC h13 q317 dX3_sum_31 ?_
      refine lv_istore_n (lv' := [(2, .int t.2.2.1), (1, .ref q), (0, .ref (K.2.1 13))]) hx hb dX3_sum_34 rfl hl (by decide) rfl (fun ls hl => ?_)
      refine lv_aload_n hx hb dX3_sum_35 rfl (lv_at hl 2 rfl) ?_
      refine d_V (As := []) (v0 := none) hG E hw hl (m_X3_next l hG hC h13 hS hn ht) (qT13 h13) rfl (cwV 0 hts (lw_V q406 q408 qs1 q141 q409) rfl rfl rfl ⟨rfl, kd_X3_next⟩ ⟨(show 6 + 1 ≤ fr + 1 by omega), (show 8 + (3 + 11) + 240 ≤ lo + 40 by omega)⟩) rfl (rest := []) (st1 := []) rfl rfl rfl dX3_sum_36 ⟨(show cells ≤ pc_ r by omega), (show slots ≤ 12 * pc_ r by omega)⟩ (fun H locs hw => ?_)
      refine lv_aload_n hx hb dX3_sum_39 rfl (lv_at hl 1 rfl) ?_
      refine lv_iload_n hx hb dX3_sum_40 rfl (lv_at hl 0 rfl) ?_
      refine lv_aload_n hx hb dX3_sum_41 rfl (lv_at hl 2 rfl) ?_
      have nx := TK.nx (D := A 3) ht
      refine c_B (As := []) (rest := [.int t.2.2.1, .ref q]) (V1 := VS K dep M) hG E hnt hw h13 hch.1.1 h hz hc hs (fun r1 h1 => hM M _ r1 nx.1 (by rw [nx.2]; exact ho) h1) (fun r1 => (cwV 0 hts (lw_V q694 q696 qs20 q141 q697) rfl rfl rfl ⟨rfl, kd_X3_product⟩ ⟨(show fr + 1 ≤ fr + 1 by omega), (show 8 + (3 + 11) + lo ≤ lo + 40 by omega)⟩)) hl rfl rfl rfl dX3_sum_42 (fun q2 t2 cst v M1 H locs y1 ho1 h hz hc hs hx1 hV hw => ?_)
      obtain ⟨x, rfl, hT⟩ := hV
      refine W.eq (g2 := F0 m 45 ls [.ref x, .int t.2.2.1, .ref q]) rfl ?_
      obtain ⟨y2, h, hy2⟩ := pad_s h
      rw [hy2, padd_padd] at hz
      have hch1 := hch.call hx1
      have tk := hP _ _ _ _ nx.1 ho1
      have hTF := SumAt.ext (qfr_new (F := F)) _ _ _ _ hT
      obtain ⟨f1, f2, f3, f4, f5, f6, -, f7, f8, f9, f10⟩ := id hch1
      have hxl : xs.length = its.length := f8
      have hle2 : c0 + cst + (addCost its.length + addCost its.length) ≤ pc_ r := by rw [hz, pc_add]; exact Nat.le_add_right _ _
      have hex : ∀ z9 ∈ xs, ElO K M1 z9 := by
        intro z9 hz9
        obtain ⟨i, hi⟩ := List.getElem?_of_mem hz9
        have hi2 : i < its.length := by rw [← hxl]; exact (List.getElem?_eq_some_iff.mp hi).1
        exact (f9 i z9 its[i] hi (List.getElem?_eq_getElem hi2)).el.ext f1.2.1
      have hev : ∀ z9 ∈ its.map (fun it => ib (it.1.toNatClampNeg + 128)), ElO K M1 z9 := by
        intro z9 hz9
        obtain ⟨it, hit, rfl⟩ := List.mem_map.mp hz9
        obtain ⟨k3, k4⟩ := sg_n (f10 it hit)
        exact ⟨18, 1, RJ14, TJ14, _, rfl, hI.el k4, q2041⟩
      rw [k1]
      refine c_V (As := [.int (nI t.2.2.1.toNatClampNeg), .ref x]) (rest := []) hG E hw (m_X9_add l hG hLs hI f2 f3 f4 f5 f6 k2 (by omega) (by rw [List.length_map, hxl]) hex hev (hTF.el.ext f1.2.1)) (QAt.dyn f2) rfl (cwV 2 hts (lw_V q757 q758 q759 q160 q760) rfl rfl rfl ⟨rfl, kd_X9_add⟩ ⟨(show 9 + 1 ≤ fr + 1 by omega), (show 8 + (3 + 11) + 420 ≤ lo + 40 by omega)⟩) hl rfl rfl (Nat.le_of_ble_eq_true rfl) dX3_sum_45 ⟨(show cells + cst + (addCost xs.length + addCost xs.length) ≤ pc_ r by rw [hxl]; omega), (show slots + 12 * cst + (12 * addCost xs.length + 12 * addCost xs.length) ≤ 12 * pc_ r by rw [hxl]; omega)⟩ (fun v w' H locs hP9 hw => ?_)
      obtain ⟨em', es', M2, rfl, rfl, a1, a2, a3, a4, a5, a6, a7⟩ := hP9
      refine W.eq (g2 := F0 m 48 ls []) rfl ?_
      refine lv_goto (tgt := 12) hx hb dX3_sum_48 (by decide) ?_
      refine ih q b qm em' qs es' u (its ++ [(t.2.2.1, q2)]) (xs ++ [x]) (qfr F M M1) M2 t2 y2 (c0 + cst + (addCost its.length + addCost its.length)) (by rw [List.length_append]; show its.length + 1 + f = 160; omega) h hz tk.1 (by rw [congrArg Prod.fst tk.2, congrArg Prod.fst nx.2]; exact ho) (hch1.add hsg hTF a1 a2 a3 a4 a5 a6 a7) (by rw [hxl]; omega) (by rw [hxl]; omega) hw (lv_sub hl [1, 2] rfl)
    refine lv_aload_n hx hb dX3_sum_12 rfl (lv_at hl 1 rfl) ?_
    refine r_gSort E hw hC h13 q317 dX3_sum_13 ?_
    refine lv_bipush (v := (43:Int32)) hx hb dX3_sum_16 (by decide) ?_
    refine lv_icmp_eq (tgt := 30) hx hb dX3_sum_18 (by decide) (fun c1 => ?_) (fun c1 => ?_)
    · exact go (Or.inl c1)
    refine lv_aload_n hx hb dX3_sum_21 rfl (lv_at hl 1 rfl) ?_
    refine r_gSort E hw hC h13 q317 dX3_sum_22 ?_
    refine lv_bipush (v := (45:Int32)) hx hb dX3_sum_25 (by decide) ?_
    refine lv_icmp_ne (tgt := 51) hx hb dX3_sum_27 (by decide) (fun c2 => ?_) (fun c2 => ?_)
    · rw [if_neg (fun c3 => c3.elim c1 c2)] at h
      have h := Option.some.inj h
      subst h
      obtain ⟨f1, f2, f3, f4, f5, f6, -, f7, f8, f9, f10⟩ := id hch
      refine lv_aload_n hx hb dX3_sum_51 rfl (lv_at hl 0 rfl) ?_
      refine d_V (As := []) (v0 := some (.ref (selO xs b q))) hG E hw hl (m_X9_itself l hG f2 f3 (by omega)) (QAt.dyn f2) rfl (cwV 0 hts (lw_V q782 q783 q784 q160 q785) rfl rfl rfl ⟨rfl, kd_X9_itself⟩ ⟨(show 2 + 1 ≤ fr + 1 by omega), (show 8 + (1 + 11) + 80 ≤ lo + 40 by omega)⟩) rfl (rest := []) (st1 := [.ref (selO xs b q)]) rfl rfl rfl dX3_sum_52 ⟨(show cells ≤ pc_ r by omega), (show slots ≤ 12 * pc_ r by omega)⟩ (fun H locs hw => ?_)
      exact p_aret (a := chU u its) (c0 := c0) (c1 := 0) E hr (Or.inl ⟨_, rfl⟩) hz (by omega) (by omega) f1.1 ⟨_, rfl, hch.out hI (by omega)⟩ hw dX3_sum_55
    · exact go (Or.inr (c2))
set_option maxHeartbeats 8000000 in
theorem m_X3_sum_of (l : Launch) {K : QK} {G : State → Prop} {A B : QA} {L : QL} {X : QX} {M : QM} {n : Nat} {y : QY} {t : QTS} {ea mi ic : Nat} {ib : Nat → Nat} {one : QTS → Option (PR QU)} {fr lo dep : Nat} {r : PR QU} (hG : QG G) (hC : QCl K) (h13 : ql K 13) (hS : QSt K G y) (hn : n ≤ 300) (hLs : QLs K G ea mi) (hI : QIc K G ic ib) (hfr : 12 ≤ fr) (hlo : 40 * fr + 200 ≤ lo) (hP : PT n one)
    (hM : ∀ (M : QM) (t : QTS) (r1 : PR QU), t.1 ≤ n → t.2.2.2.2.1 ≤ 8 → one t = some r1 → MP l K G yX3_product (ws_ yX3_product cX3_product 3 (some (.object "VaneCourt$Sum"))) fr lo [.ref (K.2.1 13)] A B L X M n t r1 (VS K dep M)) (ht : t.1 ≤ n) (ho : t.2.2.2.2.1 ≤ 8) (h : sChn (A 3) n one 43 45 t = some r) :
    MP l K G yX3_sum (ws_ yX3_sum cX3_sum 3 (some (.object "VaneCourt$Sum"))) (fr + 1) (lo + 40) [.ref (K.2.1 13)] A B L X M n t r (VS K (dep + 1) M) := by
  refine MX.of (by decide) (Nat.le_of_ble_eq_true rfl) (lv := [(0, .ref (K.2.1 13))]) rfl (fun p e s m below meth c ls E hr hnt hl hw => ?_)
  have hx := E.1
  have hb := E.2.1
  have hown := E.2.2.1
  have hts := E.2.2.2.2.1
  unfold sChn at h
  obtain ⟨z, h, hz⟩ := pad_s h
  have hle : 1 ≤ pc_ r := by rw [hz, pc_add]; exact Nat.le_add_right _ _
  refine r_new (ci := 9) (fs := [.null, .null, .null]) E hw (T := TX9) (N := 3) rfl in_X9 tyX9 tyX9_ok q692 q693 q160 (fun j hj => by match j, hj with | 0, _ => rfl | 1, _ => rfl | 2, _ => rfl | j + 3, hj => exact absurd hj (by omega)) (show _ ≤ pc_ r by omega) (show _ ≤ 12 * pc_ r by omega) dX3_sum_0 (fun q H hw hq _ _ => ?_)
  have hq0 : M q = none := hq
  have hx1 : QExt M (va_up M q (some (.inr (9, [.null, .null, .null])))) := QExt.up hq0
  refine lv_dup hx hb dX3_sum_3 rfl ?_
  refine lv_aload_n hx hb dX3_sum_4 rfl (lv_at hl 0 rfl) ?_
  refine c_B (c0 := 1) (As := []) (rest := [.ref q, .ref q]) (V1 := VS K dep (va_up M q (some (.inr (9, [.null, .null, .null]))))) hG E hnt hw h13 hx1 h hz (show 0 + 1 ≤ 1 by omega) (show 0 + 3 ≤ 12 * 1 by omega) (fun r1 h1 => hM _ _ r1 ht ho h1) (fun r1 => (cwV 0 hts (lw_V q694 q696 qs20 q141 q697) rfl rfl rfl ⟨rfl, kd_X3_product⟩ ⟨(show fr + 1 ≤ fr + 1 by omega), (show 8 + (3 + 11) + lo ≤ lo + 40 by omega)⟩)) hl rfl rfl rfl dX3_sum_5 (fun u t1 cst v M1 H locs y1 ho1 h hz hc hs hx2 hV hw => ?_)
  obtain ⟨b, rfl, hT⟩ := hV
  refine W.eq (g2 := F0 m 8 ls [.ref b, .ref q, .ref q]) rfl ?_
  obtain ⟨y2, h, hy2⟩ := pad_s h
  rw [hy2, padd_padd] at hz
  have hq1 : M1 q = _ := hx2 q _ va_up_s
  have tk := hP _ _ _ _ ht ho1
  have hle2 : 1 + cst + 2 ≤ pc_ r := by rw [hz, pc_add]; exact Nat.le_add_right _ _
  refine c_I (As := [.ref b]) (rest := [.ref q]) hG E hw (m_X9_init l hG hLs hq1) (cwI 1 hts (lw_meth q743) rfl rfl rfl (hts _ q160) (hts _ q741) (hts _ q742) rfl kd_X9_init ⟨(show 5 + 1 ≤ fr + 1 by omega), (show 8 + (2 + 11) + 160 ≤ lo + 40 by omega)⟩) hl rfl rfl (Nat.le_of_ble_eq_true rfl) dX3_sum_8 ⟨(show 0 + 1 + cst + 2 ≤ pc_ r by omega), (show 0 + 3 + 12 * cst + 24 ≤ 12 * pc_ r by omega)⟩ (fun v w' H locs hP9 hw => ?_)
  obtain ⟨qm, qs, M2, rfl, rfl, n1, n2, n3, n4, n5, n6, n7⟩ := hP9
  refine W.eq (g2 := F0 m 11 ls [.ref q]) rfl ?_
  refine lv_astore_n (lv' := [(1, .ref q), (0, .ref (K.2.1 13))]) hx hb dX3_sum_11 rfl hl (by decide) rfl (fun ls hl => ?_)
  have hF0 : FRz M (fun _ => none) (va_up M q (some (.inr (9, [.null, .null, .null])))) := ⟨hx1, fun _ _ h => (by cases h), fun _ _ _ => rfl⟩
  have hF1 := hF0.call hx2
  have hTF := SumAt.ext (qfr_new (F := fun _ => none)) _ _ _ _ hT
  have oq : qfr (fun _ => none) (va_up M q (some (.inr (9, [.null, .null, .null])))) M1 q = none ∧ M q = none := ⟨qfr_no va_up_s rfl, hq0⟩
  have om := hF1.no n1
  have os := hF1.no n2
  have hF2 := hF1.own (M' := M2) (fun z => z = q ∨ z = qm ∨ z = qs) (fun z hz => by
    rcases hz with e | e | e <;> rw [e]
    · exact oq
    · exact om
    · exact os) (fun z e hz hM9 => by rw [n7 z (fun w => hz (Or.inl w)) (fun w => hz (Or.inr (Or.inl w))) (fun w => hz (Or.inr (Or.inr w)))]; exact hM9)
  exact wl_X3_sum hG hC h13 hS hn hLs hI hfr hlo hP hM E hr hnt 160 q b qm ea qs ea u [] [] _ M2 t1 y2 (1 + cst + 2) rfl h hz tk.1 (by rw [congrArg Prod.fst tk.2]; exact ho) ⟨hF2, n4, n5, n6, n3, fun h9 => absurd rfl h9, ⟨oq, om, os, fun h9 => absurd rfl h9⟩, hTF, rfl, fun i x it h9 => (by cases h9), fun it h9 => (by cases h9)⟩ (by omega) (by omega) hw (lv_sub hl [0, 1] rfl)
