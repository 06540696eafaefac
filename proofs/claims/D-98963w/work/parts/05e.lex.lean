/-! a word is compared; the next token -/
set_option maxRecDepth 100000
theorem kd_J3_charAt : yJ3_charAt.cls ≠ "java/lang/invoke/MethodHandle" ∧ yJ3_charAt.cls ≠ "java/lang/invoke/VarHandle" ∧ (parseMethodDescriptor yJ3_charAt.desc).map (fun d => d.parameters.length) = some 1 := by decide +kernel
theorem kd_J3_length : yJ3_length.cls ≠ "java/lang/invoke/MethodHandle" ∧ yJ3_length.cls ≠ "java/lang/invoke/VarHandle" ∧ (parseMethodDescriptor yJ3_length.desc).map (fun d => d.parameters.length) = some 0 := by decide +kernel
def eqB (D : Nat → Int32) : List Int32 → Nat → Bool
  | [], _ => true
  | b :: w, a => decide (D a = b) && eqB D w (a + 1)
def sIsW (D : Nat → Int32) (tok at_ : Nat) (w : List Int32) : Bool := decide (at_ - tok = w.length) && eqB D w tok
def lSkip (D : Nat → Int32) : Nat → Nat → Nat
  | 0, a => a
  | r + 1, a => if D a = 32 ∨ D a = 10 then lSkip D r (a + 1) else a
def lLet (D : Nat → Int32) : Nat → Nat → Nat
  | 0, a => a
  | r + 1, a => if sLet (D a) = true then lLet D r (a + 1) else a
def sMin (y : Int32) : Int32 := if y < 99999 then y else 99999
def lNum (D : Nat → Int32) : Nat → Nat → Int32 → Nat × Int32
  | 0, a, v => (a, v)
  | r + 1, a, v => if sDig (D a) = true then lNum D r (a + 1) (sMin (10 * v + D a - 48)) else (a, v)
def sWl (D : Nat → Int32) (tok at_ : Nat) : List (List Int32) → Nat → Int32 → Int32
  | [], _, s => s
  | w :: ws, k, s => sWl D tok at_ ws (k + 1) (if sIsW D tok at_ w = true then 200 + nI k else s)
def sSg (c : Int32) : List Int32 → Int32 → Int32
  | [], s => s
  | b :: bs, s => sSg c bs (if b = c then c else s)
def sWords : List (List Int32) := wB.take 26
def sSigns : List Int32 := wB.getD 26 []
/-- the next token -/
def sNext (D : Nat → Int32) (n : Nat) (t : QTS) : QTS :=
  let a := lSkip D (n - t.1) t.1
  if a = n then (a, a, 301, t.2.2.2)
  else if sLet (D a) = true then (lLet D (n - a) a, a, sWl D a (lLet D (n - a) a) sWords 0 302, t.2.2.2)
  else if sDig (D a) = true then ((lNum D (n - a) a 0).1, a, 300, (lNum D (n - a) a 0).2, t.2.2.2.2)
  else if (D a = 60 ∨ D a = 62) ∧ a + 1 < n ∧ D (a + 1) = 61 then (a + 2, a, (if D a = 60 then 303 else 304), t.2.2.2)
  else (a + 1, a, sSg (D a) sSigns 302, t.2.2.2)
theorem lSkip_le {D : Nat → Int32} : ∀ (r a : Nat), a ≤ lSkip D r a ∧ lSkip D r a ≤ a + r := by
  intro r
  induction r with
  | zero => intro a; exact ⟨Nat.le_refl _, Nat.le_refl _⟩
  | succ r ih =>
    intro a
    rw [lSkip]
    by_cases h : D a = 32 ∨ D a = 10
    · rw [if_pos h]; have := ih (a + 1); omega
    · rw [if_neg h]; omega
theorem lLet_le {D : Nat → Int32} : ∀ (r a : Nat), a ≤ lLet D r a ∧ lLet D r a ≤ a + r := by
  intro r
  induction r with
  | zero => intro a; exact ⟨Nat.le_refl _, Nat.le_refl _⟩
  | succ r ih =>
    intro a
    rw [lLet]
    by_cases h : sLet (D a) = true
    · rw [if_pos h]; have := ih (a + 1); omega
    · rw [if_neg h]; omega
theorem lNum_le {D : Nat → Int32} : ∀ (r a : Nat) (v : Int32), a ≤ (lNum D r a v).1 ∧ (lNum D r a v).1 ≤ a + r := by
  intro r
  induction r with
  | zero => intro a v; exact ⟨Nat.le_refl _, Nat.le_refl _⟩
  | succ r ih =>
    intro a v
    rw [lNum]
    by_cases h : sDig (D a) = true
    · rw [if_pos h]; have := ih (a + 1) (sMin (10 * v + D a - 48)); omega
    · rw [if_neg h]; exact ⟨Nat.le_refl _, Nat.le_add_right _ _⟩
theorem b32_t {b : Bool} (h : ¬ b32 b = 0) : b = true := by
  cases b with
  | true => rfl
  | false => exact absurd rfl h
theorem b32_f {b : Bool} (h : b32 b = 0) : ¬ b = true := by
  cases b with
  | true => exact absurd h (by decide)
  | false => exact fun h => by cases h
set_option maxHeartbeats 4000000 in
theorem w_isWord {p : Program} {l : Launch} {e : Env} {s : State} {m : MethodId} {below : List Frame} {meth : Method} {c : Code} {K : QK} {G : State → Prop} {A B : QA} {L : QL} {X : QX} {M : QM} {n : Nat} {t : QTS} {y : QY} {i : Nat} (hG : QG G) (hC : QCl K) (h13 : ql K 13) (hS : QSt K G y) (hi : i < 27) (E : EV K G p s m #[.ref (K.2.1 13), .ref (y.2.1 i)] meth c cX3_isWord yX3_isWord.cls 3) (hr : meth.sig.returnType = some .boolean) (hle : t.2.1 + (wB.getD i []).length ≤ 300) {v0 : Bool} :
    ∀ (r : List Int32) (k : Nat), (wB.getD i []).drop k = r → k ≤ (wB.getD i []).length → eqB (A 3) r (t.2.1 + k) = v0 → ∀ {H : Heap} {locs : List Loc} {ls : Array Slot}, WP K (tw A n t, B, L, X, M) H locs → lv_has ls 3 [(2, .int (nI k)), (0, .ref (K.2.1 13)), (1, .ref (y.2.1 i))] →
      W p l e (qrm 5 200 0 0) s m #[.ref (K.2.1 13), .ref (y.2.1 i)] below meth c H locs 0 0 (MQ below (QE K (QR (some (.int (b32 v0))) (tw A n t, B, L, X, M))) #[.ref (K.2.1 13), .ref (y.2.1 i)] s 0 0 (qA K)) (F0 m 20 ls []) := by
  have hx := E.1
  have hb := E.2.1
  have hown := E.2.2.1
  have hts := E.2.2.2.2.1
  have hs := (hS.1 s E.2.2.2.2.2.1).1 i hi
  have h14 := wL_lt i hi
  intro r
  induction r with
  | nil =>
    intro k hd hk hv H locs ls hw hl
    have hk2 : k = (wB.getD i []).length := Nat.le_antisymm hk (drop_end hd)
    subst hv
    refine lv_iload_n hx hb dX3_isWord_20 rfl (lv_at hl 0 rfl) ?_
    refine lv_aload_n hx hb dX3_isWord_21 rfl (lv_at hl 2 rfl) ?_
    refine d_VO (As := []) (v0 := some (.int (nI (wB.getD i []).length))) hG E hw hl (m_J3_length l hG hS hi) hs.1 (cwV 0 hts (lw_V q419 q420 q421 q146 q422) rfl rfl rfl ⟨rfl, kd_J3_length⟩ ⟨Nat.le_of_ble_eq_true rfl, Nat.le_of_ble_eq_true rfl⟩) rfl (rest := [.int (nI k)]) (st1 := [.int (nI (wB.getD i []).length), .int (nI k)]) rfl rfl rfl dX3_isWord_22 ⟨Nat.le_of_ble_eq_true rfl, Nat.le_of_ble_eq_true rfl⟩ (fun H locs hw => ?_)
    refine lv_icmp_ge (tgt := 55) hx hb dX3_isWord_25 (by decide) (fun c => ?_) (fun c => ?_)
    · refine lv_iconst (v := (1:Int32)) hx hb dX3_isWord_55 (by decide) ?_
      exact d_iret E hr rfl hw rfl rfl dX3_isWord_56
    · exact absurd (nI_le (by omega) (by omega)) c
  | cons d r ihr =>
    intro k hd hk hv H locs ls hw hl
    obtain ⟨hkl, hkk, hd2⟩ := drop_get hd
    have hwc : wC i k = d := by
      unfold wC
      rw [List.getD_eq_getElem?_getD, hkk]
      rfl
    refine lv_iload_n hx hb dX3_isWord_20 rfl (lv_at hl 0 rfl) ?_
    refine lv_aload_n hx hb dX3_isWord_21 rfl (lv_at hl 2 rfl) ?_
    refine d_VO (As := []) (v0 := some (.int (nI (wB.getD i []).length))) hG E hw hl (m_J3_length l hG hS hi) hs.1 (cwV 0 hts (lw_V q419 q420 q421 q146 q422) rfl rfl rfl ⟨rfl, kd_J3_length⟩ ⟨Nat.le_of_ble_eq_true rfl, Nat.le_of_ble_eq_true rfl⟩) rfl (rest := [.int (nI k)]) (st1 := [.int (nI (wB.getD i []).length), .int (nI k)]) rfl rfl rfl dX3_isWord_22 ⟨Nat.le_of_ble_eq_true rfl, Nat.le_of_ble_eq_true rfl⟩ (fun H locs hw => ?_)
    refine lv_icmp_ge (tgt := 55) hx hb dX3_isWord_25 (by decide) (fun c => ?_) (fun c => ?_)
    · exact absurd c (nI_ge hkl (by omega))
    refine lv_aload_n hx hb dX3_isWord_28 rfl (lv_at hl 1 rfl) ?_
    refine r_gText E hw hC h13 q313 dX3_isWord_29 ?_
    refine lv_aload_n hx hb dX3_isWord_32 rfl (lv_at hl 1 rfl) ?_
    refine r_gTok E hw hC h13 q316 dX3_isWord_33 ?_
    refine lv_iload_n hx hb dX3_isWord_36 rfl (lv_at hl 0 rfl) ?_
    refine lv_iadd hx hb dX3_isWord_37 ?_
    refine r_gB (j := t.2.1 + k) E hw hC (by unfold nI; rw [Int32.ofNat_add]) (by omega) dX3_isWord_38 ?_
    refine lv_aload_n hx hb dX3_isWord_39 rfl (lv_at hl 2 rfl) ?_
    refine lv_iload_n hx hb dX3_isWord_40 rfl (lv_at hl 0 rfl) ?_
    refine d_VO (As := [.int (nI k)]) (v0 := some (.int (wC i k))) hG E hw hl (m_J3_charAt l hG hS hi hkl) hs.1 (cwV 1 hts (lw_V q429 q430 q431 q146 q432) rfl rfl rfl ⟨rfl, kd_J3_charAt⟩ ⟨Nat.le_of_ble_eq_true rfl, Nat.le_of_ble_eq_true rfl⟩) rfl (rest := [.int (A 3 (t.2.1 + k))]) (st1 := [.int (wC i k), .int (A 3 (t.2.1 + k))]) rfl rfl rfl dX3_isWord_41 ⟨Nat.le_of_ble_eq_true rfl, Nat.le_of_ble_eq_true rfl⟩ (fun H locs hw => ?_)
    rw [eqB] at hv
    refine lv_icmp_eq (tgt := 49) hx hb dX3_isWord_44 (by decide) (fun c => ?_) (fun c => ?_)
    · rw [hwc] at c
      rw [decide_eq_true c, Bool.true_and] at hv
      refine lv_iinc (v := nI (k + 1)) (lv' := [(2, .int (nI (k + 1))), (0, .ref (K.2.1 13)), (1, .ref (y.2.1 i))]) (k := 0) hx hb dX3_isWord_49 hl rfl (by rw [nI_succ]; rfl) (by decide) rfl (fun ls hl => ?_)
      refine lv_goto (tgt := 20) hx hb dX3_isWord_52 (by decide) ?_
      exact ihr (k + 1) hd2 hkl hv hw hl
    · rw [hwc] at c
      rw [decide_eq_false c, Bool.false_and] at hv
      subst hv
      refine lv_iconst (v := (0:Int32)) hx hb dX3_isWord_47 (by decide) ?_
      exact d_iret E hr rfl hw rfl rfl dX3_isWord_48
set_option maxHeartbeats 4000000 in
theorem m_X3_isWord (l : Launch) {K : QK} {G : State → Prop} {A B : QA} {L : QL} {X : QX} {M : QM} {n : Nat} {t : QTS} {y : QY} {i : Nat} (hG : QG G) (hC : QCl K) (h13 : ql K 13) (hS : QSt K G y) (hi : i < 27) (h1 : t.2.1 ≤ t.1) (h2 : t.1 ≤ 300) : MC l K G yX3_isWord (ws_ yX3_isWord cX3_isWord 3 (some .boolean)) 5 200 0 0 [.ref (K.2.1 13), .ref (y.2.1 i)] (tw A n t, B, L, X, M) (QR (some (.int (b32 (sIsW (A 3) t.2.1 t.1 (wB.getD i []))))) (tw A n t, B, L, X, M)) := by
  refine MC.of (by decide) (Nat.le_of_ble_eq_true rfl) (lv := [(0, .ref (K.2.1 13)), (1, .ref (y.2.1 i))]) rfl (fun p e s m below meth c ls E hr hl hw => ?_)
  have hx := E.1
  have hb := E.2.1
  have hown := E.2.2.1
  have hts := E.2.2.2.2.1
  have hs := (hS.1 s E.2.2.2.2.2.1).1 i hi
  have h14 := wL_lt i hi
  have esub : nI t.1 - nI t.2.1 = nI (t.1 - t.2.1) := by
    have e1 : nI t.1 = nI (t.1 - t.2.1) + nI t.2.1 := by
      unfold nI
      rw [← Int32.ofNat_add]
      congr 1
      omega
    rw [e1, Int32.add_sub_cancel]
  refine lv_aload_n hx hb dX3_isWord_0 rfl (lv_at hl 0 rfl) ?_
  refine r_gAt E hw hC h13 q315 dX3_isWord_1 ?_
  refine lv_aload_n hx hb dX3_isWord_4 rfl (lv_at hl 0 rfl) ?_
  refine r_gTok E hw hC h13 q316 dX3_isWord_5 ?_
  refine lv_isub hx hb dX3_isWord_8 ?_
  rw [esub]
  refine lv_aload_n hx hb dX3_isWord_9 rfl (lv_at hl 1 rfl) ?_
  refine d_VO (As := []) (v0 := some (.int (nI (wB.getD i []).length))) hG E hw hl (m_J3_length l hG hS hi) hs.1 (cwV 0 hts (lw_V q419 q420 q421 q146 q422) rfl rfl rfl ⟨rfl, kd_J3_length⟩ ⟨Nat.le_of_ble_eq_true rfl, Nat.le_of_ble_eq_true rfl⟩) rfl (rest := [.int (nI (t.1 - t.2.1))]) (st1 := [.int (nI (wB.getD i []).length), .int (nI (t.1 - t.2.1))]) rfl rfl rfl dX3_isWord_10 ⟨Nat.le_of_ble_eq_true rfl, Nat.le_of_ble_eq_true rfl⟩ (fun H locs hw => ?_)
  refine lv_icmp_eq (tgt := 18) hx hb dX3_isWord_13 (by decide) (fun c => ?_) (fun c => ?_)
  · have c2 : t.1 - t.2.1 = (wB.getD i []).length := by
      have := congrArg Int32.toNatClampNeg c
      rw [nI_clamp (by omega), nI_clamp (by omega)] at this
      exact this
    refine lv_iconst (v := (0:Int32)) hx hb dX3_isWord_18 (by decide) ?_
    refine lv_istore_n (lv' := [(2, .int (nI 0)), (0, .ref (K.2.1 13)), (1, .ref (y.2.1 i))]) hx hb dX3_isWord_19 rfl hl (by decide) rfl (fun ls hl => ?_)
    refine w_isWord hG hC h13 hS hi E hr (by omega) _ 0 rfl (Nat.zero_le _) ?_ hw hl
    rw [sIsW, decide_eq_true c2, Bool.true_and]
    rfl
  · have c2 : ¬ t.1 - t.2.1 = (wB.getD i []).length := fun q => c (by rw [q])
    refine lv_iconst (v := (0:Int32)) hx hb dX3_isWord_16 (by decide) ?_
    refine d_iret E hr rfl hw ?_ rfl dX3_isWord_17
    rw [sIsW, decide_eq_false c2, Bool.false_and]
    rfl
