/-! a list's array grows -/
set_option maxRecDepth 100000
theorem kd_J12_copyOf_2 : yJ12_copyOf_2.cls ≠ "java/lang/invoke/MethodHandle" ∧ yJ12_copyOf_2.cls ≠ "java/lang/invoke/VarHandle" ∧ (parseMethodDescriptor yJ12_copyOf_2.desc).map (fun d => d.parameters.length) = some 3 := by decide +kernel
theorem nI_addn {a b : Nat} : nI a + nI b = nI (a + b) := by unfold nI; rw [Int32.ofNat_add]
set_option maxHeartbeats 4000000 in
theorem m_J11_newLength (l : Launch) {K : QK} {G : State → Prop} {w : QW} {n : Nat} (h1 : 10 ≤ n) (h2 : n < 200) : MC l K G yJ11_newLength (ws_ yJ11_newLength cJ11_newLength 4 (some .int)) 2 80 0 0 [.int (nI n), .int 1, .int (nI (n / 2))] w (QR (some (.int (nI (n + n / 2)))) w) := by
  refine MC.of (by decide) (Nat.le_of_ble_eq_true rfl) (lv := [(0, .int (nI n)), (1, .int 1), (2, .int (nI (n / 2)))]) rfl (fun p e s m below meth c ls E hr hl hw => ?_)
  have hx := E.1
  have hb := E.2.1
  have hown := E.2.2.1
  have hts := E.2.2.2.2.1
  refine lv_iload_n hx hb dJ11_newLength_0 rfl (lv_at hl 0 rfl) ?_
  refine lv_iload_n hx hb dJ11_newLength_1 rfl (lv_at hl 1 rfl) ?_
  refine lv_iload_n hx hb dJ11_newLength_2 rfl (lv_at hl 2 rfl) ?_
  refine r_mmax E hl q631 q632 q150 q633 (Nat.le_of_ble_eq_true rfl) (Nat.le_of_ble_eq_true rfl) (Nat.le_refl _) (Nat.le_refl _) dJ11_newLength_3 ?_
  rw [if_pos (show (1 : Int32) < nI (n / 2) from nI_lt (a := 1) (by omega) (by omega))]
  refine lv_iadd hx hb dJ11_newLength_6 ?_
  rw [nI_addn]
  refine lv_istore_n (lv' := [(3, .int (nI (n + n / 2))), (0, .int (nI n)), (1, .int 1), (2, .int (nI (n / 2)))]) hx hb dJ11_newLength_7 rfl hl (by decide) rfl (fun ls hl => ?_)
  refine lv_iconst (v := (0:Int32)) hx hb dJ11_newLength_8 (by decide) ?_
  refine lv_iload_n hx hb dJ11_newLength_9 rfl (lv_at hl 0 rfl) ?_
  refine lv_icmp_ge (tgt := 21) hx hb dJ11_newLength_10 (by decide) (fun c => ?_) (fun c => ?_)
  · exact absurd c (nI_nle (by omega) (by omega))
  refine lv_iload_n hx hb dJ11_newLength_13 rfl (lv_at hl 0 rfl) ?_
  refine lv_ldc (v := (2147483639:Int32)) hx hb hown (hts _ q634) dJ11_newLength_14 ?_
  refine lv_icmp_gt (tgt := 21) hx hb dJ11_newLength_16 (by decide) (fun c2 => ?_) (fun c2 => ?_)
  · exact absurd c2 (nI_nlt (a := 2147483639) (by omega) (by omega))
  refine lv_iload_n hx hb dJ11_newLength_19 rfl (lv_at hl 0 rfl) ?_
  exact d_iret E hr rfl hw rfl rfl dJ11_newLength_20
set_option maxHeartbeats 4000000 in
theorem m_J12_copyOf_2 (l : Launch) {K : QK} {G : State → Prop} (hG : QG G) {ea mi : Nat} (hLs : QLs K G ea mi) {A B : QA} {L : QL} {X : QX} {M : QM} {a0 n0 n1 : Nat} {f : Nat → Option Nat} (ha0 : M a0 = some (.inl (K.2.2.2.2 7, n0, .inr (.inr (.inr (.inr f)))))) (hle : n0 ≤ n1) (hn1 : n1 < 10000) (hel : ∀ i, i < n0 → ∀ y, f i = some y → ElO K M y) : MC l K G yJ12_copyOf_2 (ws_ yJ12_copyOf_2 cJ12_copyOf_2 4 (some (.array (.object "java/lang/Object")))) 3 140 1 n1 [.ref a0, .int (nI n1), .ref mi] (A, B, L, X, M) (fun v w' => ∃ q, v = some (.ref q) ∧ M q = none ∧ w' = (A, B, L, X, va_up M q (some (.inl (K.2.2.2.2 7, n1, .inr (.inr (.inr (.inr (va_cpy f (fun _ => none) 0 0 n0)))))))) ) := by
  refine MC.of (by decide) (Nat.le_of_ble_eq_true rfl) (lv := [(0, .ref a0), (1, .int (nI n1)), (2, .ref mi)]) rfl (fun p e s m below meth c ls E hr hl hw => ?_)
  have hx := E.1
  have hb := E.2.1
  have hown := E.2.2.1
  have hts := E.2.2.2.2.1
  have hGs := E.2.2.2.2.2.1
  refine lv_aload_n hx hb dJ12_copyOf_2_0 rfl (lv_at hl 2 rfl) ?_
  refine va_ldcM hx hb hown (hts _ q667) (hLs.2.2.1 s hGs) dJ12_copyOf_2_1 ?_
  refine lv_acmp_ne (rx := some mi) (ry := some mi) (tgt := 13) hx hb dJ12_copyOf_2_3 (by decide) (fun c => absurd rfl c) (fun _ => ?_)
  refine lv_iload_n hx hb dJ12_copyOf_2_6 rfl (lv_at hl 1 rfl) ?_
  refine r_newQ (t := 7) (N := n1) E hw rfl q669 (hLs.2.2.2 s hGs).1 rfl (by omega) (Nat.le_refl _) (show 0 + n1 ≤ n1 by omega) dJ12_copyOf_2_7 (fun q H1 hw hq hql => ?_)
  have hne : a0 ≠ q := by
    intro e9
    subst e9
    have h9 : M a0 = none := hq
    rw [ha0] at h9
    cases h9
  refine lv_goto (tgt := 24) hx hb dJ12_copyOf_2_10 (by decide) ?_
  refine lv_astore_n (lv' := [(3, .ref q), (0, .ref a0), (1, .int (nI n1)), (2, .ref mi)]) hx hb dJ12_copyOf_2_24 rfl hl (by decide) rfl (fun ls hl => ?_)
  refine lv_aload_n hx hb dJ12_copyOf_2_25 rfl (lv_at hl 1 rfl) ?_
  refine lv_iconst (v := (0:Int32)) hx hb dJ12_copyOf_2_26 (by decide) ?_
  refine lv_aload_n hx hb dJ12_copyOf_2_27 rfl (lv_at hl 0 rfl) ?_
  refine lv_iconst (v := (0:Int32)) hx hb dJ12_copyOf_2_28 (by decide) ?_
  refine lv_aload_n hx hb dJ12_copyOf_2_29 rfl (lv_at hl 1 rfl) ?_
  have hd0 : (va_up M q (some (.inl (K.2.2.2.2 7, n1, .inr (.inr (.inr (.inr (fun _ => none)))))))) a0 = some (.inl (K.2.2.2.2 7, n0, .inr (.inr (.inr (.inr f))))) := by rw [va_up_n hne]; exact ha0
  refine r_alen (t := 7) (v := nI n0) E hw rfl (QAt.dyn hd0) rfl dJ12_copyOf_2_30 ?_
  refine lv_iload_n hx hb dJ12_copyOf_2_31 rfl (lv_at hl 2 rfl) ?_
  refine r_mmin (v := nI n0) E hl q670 q472 q150 q473 (Nat.le_of_ble_eq_true rfl) (Nat.le_of_ble_eq_true rfl) (Nat.le_refl _) (show 0 + n1 ≤ n1 by omega) (if_neg (nI_nlt hle (by omega))) dJ12_copyOf_2_32 ?_
  refine r_copyG (n0 := n0) (n1 := n1) hG E hl hw hd0 va_up_s hle (by omega) q671 q234 q233 q139 (fun i hi y hy => (hel i hi y hy).ext (QExt.up hq)) (Nat.le_of_ble_eq_true rfl) (Nat.le_of_ble_eq_true rfl) dJ12_copyOf_2_35 (fun H1 locs1 hw => ?_)
  refine lv_aload_n hx hb dJ12_copyOf_2_38 rfl (lv_at hl 0 rfl) ?_
  exact r_aret E hr (Or.inr ⟨_, rfl⟩) (Or.inr ⟨_, rfl⟩) ⟨q, rfl, hq, by rw [va_up_up]⟩ hw (Nat.le_refl _) (show 0 + n1 ≤ n1 by omega) dJ12_copyOf_2_39
set_option maxHeartbeats 4000000 in
theorem m_J12_copyOf (l : Launch) {K : QK} {G : State → Prop} (hG : QG G) {ea mi : Nat} (hLs : QLs K G ea mi) {A B : QA} {L : QL} {X : QX} {M : QM} {a0 n0 n1 : Nat} {f : Nat → Option Nat} (ha0 : M a0 = some (.inl (K.2.2.2.2 7, n0, .inr (.inr (.inr (.inr f)))))) (hle : n0 ≤ n1) (hn1 : n1 < 10000) (hel : ∀ i, i < n0 → ∀ y, f i = some y → ElO K M y) : MC l K G yJ12_copyOf (ws_ yJ12_copyOf cJ12_copyOf 2 (some (.array (.object "java/lang/Object")))) 4 180 1 n1 [.ref a0, .int (nI n1)] (A, B, L, X, M) (fun v w' => ∃ q, v = some (.ref q) ∧ M q = none ∧ w' = (A, B, L, X, va_up M q (some (.inl (K.2.2.2.2 7, n1, .inr (.inr (.inr (.inr (va_cpy f (fun _ => none) 0 0 n0)))))))) ) := by
  refine MC.of (by decide) (Nat.le_of_ble_eq_true rfl) (lv := [(0, .ref a0), (1, .int (nI n1))]) rfl (fun p e s m below meth c ls E hr hl hw => ?_)
  have hx := E.1
  have hb := E.2.1
  have hown := E.2.2.1
  have hts := E.2.2.2.2.1
  have hGs := E.2.2.2.2.2.1
  refine lv_aload_n hx hb dJ12_copyOf_0 rfl (lv_at hl 0 rfl) ?_
  refine lv_iload_n hx hb dJ12_copyOf_1 rfl (lv_at hl 1 rfl) ?_
  refine lv_aload_n hx hb dJ12_copyOf_2 rfl (lv_at hl 0 rfl) ?_
  have hcell : ∃ cell : Cell, s.heap[a0]? = some cell ∧ cell.vm.isStatics = false ∧ s.vm.findClass "[Ljava/lang/Object;" = some cell.cls := by
    obtain ⟨ws, i, hP, hi⟩ := hw.own (w := (A, B, L, X, M)) (Or.inr ha0)
    obtain ⟨-, kB, comp2, -, -, -, h5⟩ := E.2.2.2.1.2 7 (K.2.2.2.2 7, .object "java/lang/Object") rfl
    exact ⟨_, hP i _ hi, rfl, h5⟩
  refine va_getC hx hb (E.2.2.2.2.2.2.2.trans hl.1.symm) hown (hts _ q641) (va_Nw.use rfl (hG.2.2 s _ hGs q2049 rfl)) (hts _ q2048) (hts _ q642) (hts _ q663) (hLs.2.2.1 s hGs) hcell (Nat.le_of_ble_eq_true rfl) (Nat.le_of_ble_eq_true rfl) dJ12_copyOf_3 ?_
  refine c_S (As := [.ref a0, .int (nI n1), .ref mi]) (rest := []) hG E hw (m_J12_copyOf_2 l hG hLs ha0 hle hn1 hel) (va_cwS 3 hts (lw_S q664 q665 q158 q666) rfl rfl rfl kd_J12_copyOf_2 ⟨Nat.le_of_ble_eq_true rfl, Nat.le_of_ble_eq_true rfl⟩) hl rfl rfl (Nat.le_of_ble_eq_true rfl) dJ12_copyOf_6 ⟨Nat.le_refl _, (show 0 + n1 ≤ n1 by omega)⟩ (fun v w' H1 locs1 hP hw => ?_)
  obtain ⟨q, rfl, hq, rfl⟩ := hP
  exact r_aret E hr (Or.inr ⟨_, rfl⟩) (Or.inr ⟨_, rfl⟩) ⟨q, rfl, hq, rfl⟩ hw (Nat.le_refl _) (show 0 + n1 ≤ n1 by omega) dJ12_copyOf_9
