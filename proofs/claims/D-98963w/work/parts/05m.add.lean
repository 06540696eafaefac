/-! ArrayList: made, added to, grown; Integer.valueOf of a sign -/
set_option maxRecDepth 100000
theorem kd_J0_init : yJ0_init.cls ≠ "java/lang/invoke/MethodHandle" ∧ yJ0_init.cls ≠ "java/lang/invoke/VarHandle" ∧ (parseMethodDescriptor yJ0_init.desc).map (fun d => d.parameters.length) = some 0 := by decide +kernel
theorem kd_J1_init : yJ1_init.cls ≠ "java/lang/invoke/MethodHandle" ∧ yJ1_init.cls ≠ "java/lang/invoke/VarHandle" ∧ (parseMethodDescriptor yJ1_init.desc).map (fun d => d.parameters.length) = some 0 := by decide +kernel
def capOf (n : Nat) : Nat := if n ≤ 10 then 10 else if n ≤ 15 then 15 else if n ≤ 22 then 22 else if n ≤ 33 then 33 else if n ≤ 49 then 49 else if n ≤ 73 then 73 else if n ≤ 109 then 109 else if n ≤ 163 then 163 else 244
def addCost (n : Nat) : Nat := if n = 0 then 1 else if n = capOf n then n / 8 + 1 else 0
theorem cap_full {n : Nat} (h : n = capOf n) (h2 : n < 200) : n = 10 ∨ n = 15 ∨ n = 22 ∨ n = 33 ∨ n = 49 ∨ n = 73 ∨ n = 109 ∨ n = 163 := by
  unfold capOf at h
  repeat' split at h
  all_goals omega
theorem cap_le {n : Nat} (h : n < 200) : n ≤ capOf n ∧ 10 ≤ capOf n ∧ capOf n ≤ 244 := by
  unfold capOf
  repeat' split
  all_goals omega
theorem cap_same {n : Nat} (h : n < 200) (h0 : n ≠ capOf n) (h1 : n ≠ 0) : capOf (n + 1) = capOf n := by
  unfold capOf at h0 ⊢
  repeat' split at h0
  all_goals (repeat' split) <;> omega
/-- a list that is being made, at a, its array at ed -/
def LM (K : QK) (ea : Nat) (M : QM) (a ed : Nat) (xs : List Nat) : Prop := ∃ mo : Int32, M a = some (.inr (17, [.int mo, .ref ed, .int (nI xs.length)])) ∧ ((xs = [] ∧ ed = ea) ∨ (xs ≠ [] ∧ ∃ f : Nat → Option Nat, M ed = some (.inl (K.2.2.2.2 7, capOf xs.length, .inr (.inr (.inr (.inr f))))) ∧ ∀ i x, xs[i]? = some x → f i = some x))
set_option maxHeartbeats 4000000 in
theorem m_J0_init (l : Launch) {K : QK} {G : State → Prop} {w : QW} {q : Nat} : MC l K G yJ0_init (ws_ yJ0_init cJ0_init 1 none) 2 40 0 0 [.ref q] w (QR none w) := by
  refine MC.of (by decide) (Nat.le_of_ble_eq_true rfl) (lv := [(0, .ref q)]) rfl (fun p e s m below meth c ls E hr hl hw => ?_)
  have hx := E.1
  have hb := E.2.1
  have hown := E.2.2.1
  have hts := E.2.2.2.2.1
  refine lv_aload_n hx hb dJ0_init_0 rfl (lv_at hl 0 rfl) ?_
  refine W.objInit hx hb hown (hts _ q361) (hts _ q178) (hts _ q179) rfl (hl.1.trans E.2.2.2.2.2.2.2.symm) rfl dJ0_init_1 (Nat.le_of_ble_eq_true rfl) (Nat.le_of_ble_eq_true rfl) ?_
  exact d_ret E hr hw rfl dJ0_init_4
set_option maxHeartbeats 4000000 in
theorem m_J1_init (l : Launch) {K : QK} {G : State → Prop} (hG : QG G) {A B : QA} {L : QL} {X : QX} {M : QM} {q : Nat} {mo sz : Int32} {v : Value} (hq : M q = some (.inr (17, [.int mo, v, .int sz]))) : MC l K G yJ1_init (ws_ yJ1_init cJ1_init 1 none) 3 80 0 0 [.ref q] (A, B, L, X, M) (QR none (A, B, L, X, va_up M q (some (.inr (17, [.int 0, v, .int sz]))))) := by
  refine MC.of (by decide) (Nat.le_of_ble_eq_true rfl) (lv := [(0, .ref q)]) rfl (fun p e s m below meth c ls E hr hl hw => ?_)
  have hx := E.1
  have hb := E.2.1
  have hown := E.2.2.1
  have hts := E.2.2.2.2.1
  refine lv_aload_n hx hb dJ1_init_0 rfl (lv_at hl 0 rfl) ?_
  refine c_I (As := []) (rest := []) hG E hw (m_J0_init l) (cwI 0 hts (lw_meth q360) rfl rfl rfl (hts _ q143) (hts _ q358) (hts _ q359) rfl kd_J0_init ⟨Nat.le_of_ble_eq_true rfl, Nat.le_of_ble_eq_true rfl⟩) hl rfl rfl (Nat.le_of_ble_eq_true rfl) dJ1_init_1 ⟨Nat.le_refl _, Nat.le_refl _⟩ (fun v1 w' H1 locs1 hP hw => ?_)
  obtain ⟨rfl, rfl⟩ := hP
  refine lv_aload_n hx hb dJ1_init_4 rfl (lv_at hl 0 rfl) ?_
  refine lv_iconst (v := (0:Int32)) hx hb dJ1_init_5 (by decide) ?_
  refine r_putD E hw (show (A, B, L, X, M).2.2.2.2 q = _ from hq) (T := TJ2) (N := 3) rfl in_J2 tyJ2 tyJ2_ok nmJ2 0 (by decide) q366 rfl rfl rfl (show 0 < 3 by decide) dJ1_init_6 (fun H locs hw => ?_)
  exact d_ret E hr hw rfl dJ1_init_9
set_option maxHeartbeats 4000000 in
theorem m_J2_init (l : Launch) {K : QK} {G : State → Prop} (hG : QG G) {ea mi : Nat} (hLs : QLs K G ea mi) {A B : QA} {L : QL} {X : QX} {M : QM} {q : Nat} {mo sz : Int32} {v : Value} (hq : M q = some (.inr (17, [.int mo, v, .int sz]))) : MC l K G yJ2_init (ws_ yJ2_init cJ2_init 1 none) 4 120 0 0 [.ref q] (A, B, L, X, M) (QR none (A, B, L, X, va_up M q (some (.inr (17, [.int 0, .ref ea, .int sz]))))) := by
  refine MC.of (by decide) (Nat.le_of_ble_eq_true rfl) (lv := [(0, .ref q)]) rfl (fun p e s m below meth c ls E hr hl hw => ?_)
  have hx := E.1
  have hb := E.2.1
  have hown := E.2.2.1
  have hts := E.2.2.2.2.1
  refine lv_aload_n hx hb dJ2_init_0 rfl (lv_at hl 0 rfl) ?_
  refine c_I (As := []) (rest := []) hG E hw (m_J1_init l hG hq) (cwI 0 hts (lw_meth q357) rfl rfl rfl (hts _ q144) (hts _ q355) (hts _ q356) rfl kd_J1_init ⟨Nat.le_of_ble_eq_true rfl, Nat.le_of_ble_eq_true rfl⟩) hl rfl rfl (Nat.le_of_ble_eq_true rfl) dJ2_init_1 ⟨Nat.le_refl _, Nat.le_refl _⟩ (fun v1 w' H1 locs1 hP hw => ?_)
  obtain ⟨rfl, rfl⟩ := hP
  refine lv_aload_n hx hb dJ2_init_4 rfl (lv_at hl 0 rfl) ?_
  refine r_gets E hw (hLs.1 s E.2.2.2.2.2.1) q362 dJ2_init_5 ?_
  refine r_putD E hw (show (A, B, L, X, va_up M q (some (.inr (17, [.int 0, v, .int sz])))).2.2.2.2 q = _ from va_up_s) (T := TJ2) (N := 3) rfl in_J2 tyJ2 tyJ2_ok nmJ2 1 (by decide) q364 rfl rfl rfl (show 1 < 3 by decide) dJ2_init_8 (fun H locs hw => ?_)
  exact d_ret E hr hw (by show (A, B, L, X, va_up (va_up M q _) q _) = _; rw [va_up_up]; rfl) dJ2_init_11
