/-! Chain: its constructor, add, itself -/
set_option maxRecDepth 100000
theorem kd_J2_init : yJ2_init.cls ≠ "java/lang/invoke/MethodHandle" ∧ yJ2_init.cls ≠ "java/lang/invoke/VarHandle" ∧ (parseMethodDescriptor yJ2_init.desc).map (fun d => d.parameters.length) = some 0 := by decide +kernel
/-- a chain's cell and its two lists, that are being made -/
def ChQ (K : QK) (ea : Nat) (M : QM) (q b qm em qs es : Nat) (xs vs : List Nat) : Prop := M q = some (.inr (9, [.ref b, .ref qm, .ref qs])) ∧ LM K ea M qm em xs ∧ LM K ea M qs es vs
set_option maxHeartbeats 8000000 in
theorem m_X9_init (l : Launch) {K : QK} {G : State → Prop} (hG : QG G) {ea mi : Nat} (hLs : QLs K G ea mi) {A B : QA} {L : QL} {X : QX} {M : QM} {q b : Nat} (hq : M q = some (.inr (9, [.null, .null, .null]))) : MC l K G yX9_init (ws_ yX9_init cX9_init 2 none) 5 160 2 24 [.ref q, .ref b] (A, B, L, X, M) (fun v w' => ∃ (qm qs : Nat) (M' : QM), v = none ∧ w' = (A, B, L, X, M') ∧ M qm = none ∧ M qs = none ∧ qm ≠ qs ∧ M' q = some (.inr (9, [.ref b, .ref qm, .ref qs])) ∧ LM K ea M' qm ea [] ∧ LM K ea M' qs ea [] ∧ ∀ z, z ≠ q → z ≠ qm → z ≠ qs → M' z = M z) := by
  refine MC.ofI (by decide) (Nat.le_of_ble_eq_true rfl) (lv := [(0, .ref q), (1, .ref b)]) rfl (fun p e s m below meth c ls E hr hin hl hw => ?_)
  have hx := E.1
  have hb := E.2.1
  have hown := E.2.2.1
  have hts := E.2.2.2.2.1
  refine lv_aload_n hx hb dX9_init_0 rfl (lv_at hl 0 rfl) ?_
  refine W.objInit hx hb hown (hts _ q744) (hts _ q178) (hts _ q179) rfl (hl.1.trans E.2.2.2.2.2.2.2.symm) rfl dX9_init_1 (Nat.le_of_ble_eq_true rfl) (Nat.le_of_ble_eq_true rfl) ?_
  refine lv_aload_n hx hb dX9_init_4 rfl (lv_at hl 0 rfl) ?_
  refine r_new (ci := 17) (fs := [.int 0, .null, .int 0]) E hw (T := TJ2) (N := 3) rfl in_J2 tyJ2 tyJ2_ok q745 q351 q145 (fun j hj => by match j, hj with
    | 0, _ => rfl
    | 1, _ => rfl
    | 2, _ => rfl
    | j + 3, hj => exact absurd hj (by omega)) (Nat.le_of_ble_eq_true rfl) (Nat.le_of_ble_eq_true rfl) dX9_init_5 (fun qm H1 hw hqm _ _ => ?_)
  have hqm : M qm = none := hqm
  have hne : q ≠ qm := fun e9 => by rw [e9, hqm] at hq; cases hq
  refine lv_dup hx hb dX9_init_8 rfl ?_
  refine c_I (As := []) (rest := [.ref qm, .ref q]) hG E hw (m_J2_init l hG hLs va_up_s) (cwI 0 hts (lw_meth q354) rfl rfl rfl (hts _ q145) (hts _ q746) (hts _ q353) rfl kd_J2_init ⟨Nat.le_of_ble_eq_true rfl, Nat.le_of_ble_eq_true rfl⟩) hl rfl rfl (Nat.le_of_ble_eq_true rfl) dX9_init_9 ⟨Nat.le_of_ble_eq_true rfl, Nat.le_of_ble_eq_true rfl⟩ (fun v1 w9 H1 locs1 hP hw => ?_)
  obtain ⟨rfl, rfl⟩ := hP
  simp only [va_up_up] at hw
  refine r_putF E hw (show va_up M qm _ q = _ from (va_up_n hne).trans hq) (T := TX9) (N := 3) rfl in_X9 tyX9 tyX9_ok nmX9 1 (by decide) q748 rfl hin rfl rfl rfl (show 1 < 3 by decide) dX9_init_12 (fun H locs hw => ?_)
  refine lv_aload_n hx hb dX9_init_15 rfl (lv_at hl 0 rfl) ?_
  refine r_new (ci := 17) (fs := [.int 0, .null, .int 0]) E hw (T := TJ2) (N := 3) rfl in_J2 tyJ2 tyJ2_ok q745 q351 q145 (fun j hj => by match j, hj with
    | 0, _ => rfl
    | 1, _ => rfl
    | 2, _ => rfl
    | j + 3, hj => exact absurd hj (by omega)) (Nat.le_of_ble_eq_true rfl) (Nat.le_of_ble_eq_true rfl) dX9_init_16 (fun qs H1 hw hqs _ _ => ?_)
  have hqs0 : va_up (va_up M qm (some (.inr (17, [.int 0, .ref ea, .int 0])))) q (some (.inr (9, [.null, .ref qm, .null]))) qs = none := hqs
  have hsq : qs ≠ q := fun e9 => by rw [e9, va_up_s] at hqs0; cases hqs0
  have hsm : qs ≠ qm := fun e9 => by rw [e9, va_up_n (Ne.symm hne), va_up_s] at hqs0; cases hqs0
  have hqs1 : M qs = none := by rw [va_up_n hsq, va_up_n hsm] at hqs0; exact hqs0
  refine lv_dup hx hb dX9_init_19 rfl ?_
  refine c_I (As := []) (rest := [.ref qs, .ref q]) hG E hw (m_J2_init l hG hLs va_up_s) (cwI 0 hts (lw_meth q354) rfl rfl rfl (hts _ q145) (hts _ q746) (hts _ q353) rfl kd_J2_init ⟨Nat.le_of_ble_eq_true rfl, Nat.le_of_ble_eq_true rfl⟩) hl rfl rfl (Nat.le_of_ble_eq_true rfl) dX9_init_20 ⟨Nat.le_of_ble_eq_true rfl, Nat.le_of_ble_eq_true rfl⟩ (fun v1 w9 H1 locs1 hP hw => ?_)
  obtain ⟨rfl, rfl⟩ := hP
  simp only [va_up_up] at hw
  refine r_putF E hw ((va_up_n (Ne.symm hsq)).trans va_up_s) (T := TX9) (N := 3) rfl in_X9 tyX9 tyX9_ok nmX9 2 (by decide) q749 rfl hin rfl rfl rfl (show 2 < 3 by decide) dX9_init_23 (fun H locs hw => ?_)
  refine lv_aload_n hx hb dX9_init_26 rfl (lv_at hl 0 rfl) ?_
  refine lv_aload_n hx hb dX9_init_27 rfl (lv_at hl 1 rfl) ?_
  refine r_putF E hw va_up_s (T := TX9) (N := 3) rfl in_X9 tyX9 tyX9_ok nmX9 0 (by decide) q747 rfl hin rfl rfl rfl (show 0 < 3 by decide) dX9_init_28 (fun H locs hw => ?_)
  simp only [va_up_up] at hw
  refine r_ret E hr ⟨qm, qs, _, rfl, rfl, hqm, hqs1, Ne.symm hsm, va_up_s, ⟨0, ?_, Or.inl ⟨rfl, rfl⟩⟩, ⟨0, ?_, Or.inl ⟨rfl, rfl⟩⟩, fun z h1 h2 h3 => ?_⟩ hw (Nat.le_of_ble_eq_true rfl) (Nat.le_of_ble_eq_true rfl) dX9_init_31
  · rw [va_up_n (Ne.symm hne), va_up_n (Ne.symm hsm), va_up_n (Ne.symm hne), va_up_s]; rfl
  · rw [va_up_n hsq, va_up_s]; rfl
  · rw [va_up_n h1, va_up_n h3, va_up_n h1, va_up_n h2]
