/-! what may throw: written answers; wrong, want, number, opens, behind -/
set_option maxRecDepth 100000
theorem kd_X3_next : yX3_next.cls ≠ "java/lang/invoke/MethodHandle" ∧ yX3_next.cls ≠ "java/lang/invoke/VarHandle" ∧ (parseMethodDescriptor yX3_next.desc).map (fun d => d.parameters.length) = some 0 := by decide +kernel
theorem kd_X3_wrong : yX3_wrong.cls ≠ "java/lang/invoke/MethodHandle" ∧ yX3_wrong.cls ≠ "java/lang/invoke/VarHandle" ∧ (parseMethodDescriptor yX3_wrong.desc).map (fun d => d.parameters.length) = some 1 := by decide +kernel
/-- an answer: a fault with its place and cost, or what was read, where the tokens are then, the cost -/
abbrev PR (α : Type) : Type := (Int32 × Nat × Nat) ⊕ (α × QTS × Nat)
def pc_ {α : Type} (r : PR α) : Nat := match r with
  | .inl e => e.2.2
  | .inr x => x.2.2
def padd {α : Type} (c : Nat) (r : PR α) : PR α := match r with
  | .inl e => .inl (e.1, e.2.1, c + e.2.2)
  | .inr x => .inr (x.1, x.2.1, c + x.2.2)
def pb {α β : Type} (r : PR α) (k : α → QTS → PR β) : PR β := match r with
  | .inl e => .inl e
  | .inr x => padd x.2.2 (k x.1 x.2.1)
def pbo {α β : Type} (r : Option (PR α)) (k : α → QTS → Option (PR β)) : Option (PR β) := match r with
  | none => none
  | some (.inl e) => some (.inl e)
  | some (.inr x) => match k x.1 x.2.1 with
    | none => none
    | some y => some (padd x.2.2 y)
theorem pbo_s {α β : Type} {r : Option (PR α)} {k : α → QTS → Option (PR β)} {z : PR β} (h : pbo r k = some z) : (∃ e, r = some (.inl e) ∧ z = .inl e) ∨ ∃ a t c y, r = some (.inr (a, t, c)) ∧ k a t = some y ∧ z = padd c y := by
  cases r with
  | none => cases h
  | some r =>
    cases r with
    | inl e => exact Or.inl ⟨e, rfl, (Option.some.inj h).symm⟩
    | inr x =>
      obtain ⟨a, t, c⟩ := x
      unfold pbo at h
      simp only at h
      cases hk : k a t with
      | none => rw [hk] at h; cases h
      | some y =>
        rw [hk] at h
        exact Or.inr ⟨a, t, c, y, rfl, hk, (Option.some.inj h).symm⟩
theorem pc_add {α : Type} {c : Nat} {r : PR α} : pc_ (padd c r) = c + pc_ r := by cases r <;> rfl
/-- a throw's end -/
def PEr (A B : QA) (L : QL) (X : QX) (n : Nat) (M : QM) (f : Int32) (pl : Nat) : Nat → QW → Prop := fun q w' => ∃ (t' : QTS) (M' : QM), w' = (tw A n t', B, L, X, M') ∧ QExt M M' ∧ WrAt M' q f (nI pl)
def POk {α : Type} (A B : QA) (L : QL) (X : QX) (n : Nat) (M : QM) (V : QM → α → Option Value → Prop) (a : α) (t' : QTS) : Option Value → QW → Prop := fun v w' => ∃ M' : QM, w' = (tw A n t', B, L, X, M') ∧ QExt M M' ∧ V M' a v
/-- the contract of a method of the tokens, by its written answer r -/
def MP (l : Launch) (K : QK) (G : State → Prop) (y : MethodName) (ws : List Cond) (fr lo : Nat) {α : Type} (av : List Value) (A B : QA) (L : QL) (X : QX) (M : QM) (n : Nat) (t : QTS) (r : PR α) (V : QM → α → Option Value → Prop) : Prop :=
  MX l K G y ws fr lo (pc_ r) (12 * pc_ r) av (tw A n t, B, L, X, M) (fun v w' => ∃ a t' c, r = .inr (a, t', c) ∧ POk A B L X n M V a t' v w') (fun q w' => ∃ f pl c, r = .inl (f, pl, c) ∧ PEr A B L X n M f pl q w')
theorem QExt.refl {M : QM} : QExt M M := fun _ _ h => h
theorem QExt.up {M : QM} {q : Nat} {e : va_E} (h : M q = none) : QExt M (va_up M q (some e)) := by
  intro a e1 h1
  by_cases ha : a = q
  · subst ha; rw [h] at h1; cases h1
  · rw [va_up_n ha]; exact h1
theorem QExt.up2 {M M1 : QM} {q : Nat} {e : va_E} (hx : QExt M M1) (h : M q = none) : QExt M (va_up M1 q (some e)) := by
  intro a e1 h1
  by_cases ha : a = q
  · subst ha; rw [h] at h1; cases h1
  · rw [va_up_n ha]; exact hx a e1 h1
section MYK
variable {p : Program} {l : Launch} {e : Env} {R : Room} {s : State} {m : MethodId} {args : Array Value} {below : List Frame} {meth : Method} {c : Code} {H : Heap} {locs : List Loc} {cells slots : Nat} {Q : State → Prop}
variable {cc : ByteArray} {pc : Nat} {ls : Array Slot} {rest : List Value} {a : Nat} {own : String} {nL : Nat}
variable {K : QK} {G : State → Prop} {w : QW} {A B : QA} {L : QL} {X : QX} {M : QM} {n : Nat} {t : QTS}
theorem fr_blind {av : List Value} {q : Nat} (hG : QG G) : FrameBlind (va_Pc av (fun U => IN K G w U ∧ FrH K q U)) := by
  intro a U g mk h
  obtain ⟨h1, h2, h3⟩ := h
  have h4 := in_blind hG av w a U g mk ⟨h1, h2⟩
  exact ⟨h4.1, h4.2, FrH.moved (u := U) rfl (Vm.Alike.refl U.vm) h3⟩
theorem fr_pre {q : Nat} (hG : QG G) (E : EV K G p s m args meth c cc own nL) (hw : WP K w H locs) (hf : ∃ k : Class, s.vm.classes[K.2.2.2.1.1 5]? = some k ∧ H[q]? = some (freshCell (K.2.2.2.1.1 5) k)) (av : List Value) : ∀ U : State, U.heap = H → s.WarmedH U.vm → va_Pc av (fun U => IN K G w U ∧ FrH K q U) av.toArray U := by
  intro U hU hW
  obtain ⟨k, h1, h2⟩ := hf
  obtain ⟨k', h3, he⟩ := hW.alike.2.2 _ _ h1
  have h4 := in_pre hG E hw av U hU hW
  exact ⟨h4.1, h4.2, k', h3, by rw [hU, h2, he]⟩
end MYK
set_option maxHeartbeats 4000000 in
theorem m_X3_wrong (l : Launch) {K : QK} {G : State → Prop} {A B : QA} {L : QL} {X : QX} {M : QM} {n : Nat} {t : QTS} (hG : QG G) (hC : QCl K) (h13 : ql K 13) (hWr : QWr K G) (hlst : l.stackTraces = false) {f : Int32} : MC l K G yX3_wrong (ws_ yX3_wrong cX3_wrong 2 (some (.object "VaneCourt$Wrong"))) 7 160 1 8 [.ref (K.2.1 13), .int f] (tw A n t, B, L, X, M) (fun v w' => ∃ q M', v = some (.ref q) ∧ w' = (tw A n t, B, L, X, M') ∧ QExt M M' ∧ WrAt M' q f (nI t.2.1)) := by
  refine MC.of (by decide) (Nat.le_of_ble_eq_true rfl) (lv := [(0, .ref (K.2.1 13)), (1, .int f)]) rfl (fun p e s m below meth c ls E hr hl hw => ?_)
  have hx := E.1
  have hb := E.2.1
  have hown := E.2.2.1
  have hts := E.2.2.2.2.1
  refine r_new5 E hw q479 (Nat.le_of_ble_eq_true rfl) (Nat.le_of_ble_eq_true rfl) dX3_wrong_0 (fun q H1 hw hn hf => ?_)
  refine lv_dup hx hb dX3_wrong_3 rfl ?_
  refine lv_iload_n hx hb dX3_wrong_4 rfl (lv_at hl 1 rfl) ?_
  refine lv_aload_n hx hb dX3_wrong_5 rfl (lv_at hl 0 rfl) ?_
  refine r_gTok E hw hC h13 q316 dX3_wrong_6 ?_
  refine c_go (mc := 0) (ms := 0) (av := [.ref q, .int f, .int (nI t.2.1)]) (rest := [.ref q]) (va_runI (Ts := lw_all) (As := [.int f, .int (nI t.2.1)]) ⟨E.1, E.2.1, E.2.2.2.2.2.2.2, E.2.2.1, E.2.2.2.2.1⟩ (m_X5_init l hG hWr hlst (fs := dW) va_up_s) (cwI 2 hts (lw_meth q518) rfl rfl rfl (hts _ q153) (hts _ q516) (hts _ q517) rfl kd_X5_init ⟨Nat.le_of_ble_eq_true rfl, Nat.le_of_ble_eq_true rfl⟩) ⟨fr_blind hG, fr_pre hG E hw hf _⟩ rfl rfl hl.1 rfl (lv_room (Nat.le_of_ble_eq_true rfl)) dX3_wrong_9 ⟨Nat.le_of_ble_eq_true rfl, Nat.le_of_ble_eq_true rfl⟩) hw (fun v w' H1 locs1 hP hw1 => ?_)
  obtain ⟨rfl, fs', h6, h7, rfl⟩ := hP
  refine r_aret E hr (Or.inl ⟨_, rfl⟩) (Or.inr ⟨_, rfl⟩) ⟨q, _, rfl, rfl, ?_, fs', va_up_s, h6, h7⟩ hw1 (Nat.le_of_ble_eq_true rfl) (Nat.le_of_ble_eq_true rfl) dX3_wrong_12
  exact QExt.up2 (QExt.up hn) hn
theorem n_lt32' {a b : Int32} (h : a ≤ b) : ¬ b < a := Int32.not_lt.mpr h
theorem x_throw {p : Program} {l : Launch} {e : Env} {R : Room} {s : State} {m : MethodId} {args : Array Value} {below : List Frame} {meth : Method} {c : Code} {H : Heap} {locs : List Loc} {cells slots : Nat} {cc : ByteArray} {pc : Nat} {ls : Array Slot} {rest : List Value} {nL : Nat} {K : QK} {G : State → Prop} {A B : QA} {L : QL} {X : QX} {M M1 : QM} {n : Nat} {t : QTS} {f : Int32} {index mc ms : Nat} {lv : List (Nat × Value)} {P : Option Value → QW → Prop} {PX : Nat → QW → Prop}
    (hG : QG G) (hC : QCl K) (h13 : ql K 13) (hWr : QWr K G) (hlst : l.stackTraces = false) (E : EV K G p s m args meth c cc RX3 nL) (hnt : ∀ x ∈ c.exceptionTable.toList, False) (hw : WP K (tw A n t, B, L, X, M1) H locs) (hl : lv_has ls nL lv) (hx : QExt M M1)
    (cw : CallW R s args RX3 RX3 index yX3_wrong cX3_wrong 2 (some (.object "VaneCourt$Wrong")) (ws_ yX3_wrong cX3_wrong 2 (some (.object "VaneCourt$Wrong"))) (qrm 7 160 1 8) 1 8 1) (hW : Nat.ble (rest.map fun v => v.category).sum 8 = true) (hd1 : decode cc pc = .ok (.invokevirtual index, 3)) (hd2 : decode cc (pc + 3) = .ok (.athrow, 1)) (hf : cells + 1 ≤ R.cells ∧ slots + 8 ≤ R.slots) (hc : cells + 1 ≤ mc) (hs : slots + 8 ≤ ms)
    (hPX : ∀ q w', PEr A B L X n M f t.2.1 q w' → PX q w') : W p l e R s m args below meth c H locs cells slots (XQ below K P PX args s mc ms) (F0 m pc ls (.int f :: .ref (K.2.1 13) :: rest)) := by
  refine c_V (As := [.int f]) (rest := rest) hG E hw (m_X3_wrong l hG hC h13 hWr hlst) (qT13 h13) rfl cw hl rfl rfl (Nat.le_of_ble_eq_true hW) hd1 hf (fun v w' H1 locs1 hP hw1 => ?_)
  obtain ⟨q, M', rfl, rfl, hx2, hwr⟩ := hP
  obtain ⟨fs, h5, h6⟩ := id hwr
  exact x_athrow E hnt (hPX q _ ⟨t, M', rfl, hx.trans hx2, hwr⟩) hw1 h5 hc hs hd2
def sWant (D : Nat → Int32) (n : Nat) (z : Int32) (t : QTS) : PR Unit := if t.2.2.1 = z then .inr ((), sNext D n t, 0) else .inl (1, t.2.1, 1)
def sNumber (D : Nat → Int32) (n : Nat) (lo hi : Int32) (t : QTS) : PR Int32 := if t.2.2.1 = 300 then (if t.2.2.2.1 < lo ∨ hi < t.2.2.2.1 then .inl (2, t.2.1, 1) else .inr (t.2.2.2.1, sNext D n t, 0)) else .inl (1, t.2.1, 1)
def sOpens (D : Nat → Int32) (n : Nat) (t : QTS) : PR Unit := if t.2.2.2.2.1 = 8 then .inl (3, t.2.1, 1) else .inr ((), sNext D n (t.1, t.2.1, t.2.2.1, t.2.2.2.1, t.2.2.2.2.1 + 1, t.2.2.2.2.2), 0)
def sBehind (D : Nat → Int32) (n : Nat) (w lo hi : Int32) (t : QTS) : PR Int32 := pb (sWant D n w t) fun _ t => sNumber D n lo hi t
set_option maxHeartbeats 4000000 in
theorem m_X3_want (l : Launch) {K : QK} {G : State → Prop} {A B : QA} {L : QL} {X : QX} {M : QM} {n : Nat} {t : QTS} {y : QY} (hG : QG G) (hC : QCl K) (h13 : ql K 13) (hS : QSt K G y) (hWr : QWr K G) (hlst : l.stackTraces = false) (hn : n ≤ 300) (ht : t.1 ≤ n) {z : Int32} : MP l K G yX3_want (ws_ yX3_want cX3_want 2 none) 8 300 [.ref (K.2.1 13), .int z] A B L X M n t (sWant (A 3) n z t) (fun _ _ v => v = none) := by
  generalize hr0 : sWant (A 3) n z t = r
  refine MX.of (by decide) (Nat.le_of_ble_eq_true rfl) (lv := [(0, .ref (K.2.1 13)), (1, .int z)]) rfl (fun p e s m below meth c ls E hr hnt hl hw => ?_)
  have hx := E.1
  have hb := E.2.1
  have hown := E.2.2.1
  have hts := E.2.2.2.2.1
  refine lv_aload_n hx hb dX3_want_0 rfl (lv_at hl 0 rfl) ?_
  refine r_gSort E hw hC h13 q317 dX3_want_1 ?_
  refine lv_iload_n hx hb dX3_want_4 rfl (lv_at hl 1 rfl) ?_
  refine lv_icmp_eq (tgt := 14) hx hb dX3_want_5 (by decide) (fun c0 => ?_) (fun c0 => ?_)
  · have hr1 := hr0.symm.trans (if_pos c0)
    subst hr1
    refine lv_aload_n hx hb dX3_want_14 rfl (lv_at hl 0 rfl) ?_
    refine d_V (As := []) (v0 := none) hG E hw hl (m_X3_next l hG hC h13 hS hn ht) (qT13 h13) rfl (cwV 0 hts (lw_V q406 q408 qs1 q141 q409) rfl rfl rfl ⟨rfl, kd_X3_next⟩ ⟨Nat.le_of_ble_eq_true rfl, Nat.le_of_ble_eq_true rfl⟩) rfl (rest := []) (st1 := []) rfl rfl rfl dX3_want_15 ⟨Nat.zero_le _, Nat.zero_le _⟩ (fun H locs hw => ?_)
    exact vq_ret (r_ret E hr ⟨(), _, 0, rfl, M, rfl, QExt.refl, rfl⟩ hw (Nat.zero_le _) (Nat.zero_le _) dX3_want_18)
  · have hr1 := hr0.symm.trans (if_neg c0)
    subst hr1
    refine lv_aload_n hx hb dX3_want_8 rfl (lv_at hl 0 rfl) ?_
    refine lv_iconst (v := (1:Int32)) hx hb dX3_want_9 (by decide) ?_
    exact x_throw hG hC h13 hWr hlst E hnt hw hl QExt.refl (cwV 1 hts (lw_V q475 q477 qs3 q141 q478) rfl rfl rfl ⟨rfl, kd_X3_wrong⟩ ⟨Nat.le_of_ble_eq_true rfl, Nat.le_of_ble_eq_true rfl⟩) rfl dX3_want_10 dX3_want_13 ⟨Nat.le_of_ble_eq_true rfl, Nat.le_of_ble_eq_true rfl⟩ (Nat.le_of_ble_eq_true rfl) (Nat.le_of_ble_eq_true rfl) (fun q w' h => ⟨1, t.2.1, 1, rfl, h⟩)
set_option maxHeartbeats 4000000 in
theorem m_X3_number (l : Launch) {K : QK} {G : State → Prop} {A B : QA} {L : QL} {X : QX} {M : QM} {n : Nat} {t : QTS} {y : QY} (hG : QG G) (hC : QCl K) (h13 : ql K 13) (hS : QSt K G y) (hWr : QWr K G) (hlst : l.stackTraces = false) (hn : n ≤ 300) (ht : t.1 ≤ n) {lo hi : Int32} : MP l K G yX3_number (ws_ yX3_number cX3_number 4 (some .int)) 8 300 [.ref (K.2.1 13), .int lo, .int hi] A B L X M n t (sNumber (A 3) n lo hi t) (fun _ a v => v = some (.int a)) := by
  generalize hr0 : sNumber (A 3) n lo hi t = r
  unfold sNumber at hr0
  refine MX.of (by decide) (Nat.le_of_ble_eq_true rfl) (lv := [(0, .ref (K.2.1 13)), (1, .int lo), (2, .int hi)]) rfl (fun p e s m below meth c ls E hr hnt hl hw => ?_)
  have hx := E.1
  have hb := E.2.1
  have hown := E.2.2.1
  have hts := E.2.2.2.2.1
  refine lv_aload_n hx hb dX3_number_0 rfl (lv_at hl 0 rfl) ?_
  refine r_gSort E hw hC h13 q317 dX3_number_1 ?_
  refine lv_sipush (v := (300:Int32)) hx hb dX3_number_4 (by decide) ?_
  refine lv_icmp_eq (tgt := 16) hx hb dX3_number_7 (by decide) (fun c0 => ?_) (fun c0 => ?_)
  · rw [if_pos c0] at hr0
    have bad : (t.2.2.2.1 < lo ∨ hi < t.2.2.2.1) → W p l e (qrm 8 300 (pc_ r) (12 * pc_ r)) s m #[.ref (K.2.1 13), .int lo, .int hi] below meth c s.heap [] 0 0 (XQ below K (fun v w' => ∃ a t' c, r = .inr (a, t', c) ∧ POk A B L X n M (fun _ a v => v = some (.int a)) a t' v w') (fun q w' => ∃ f pl c, r = .inl (f, pl, c) ∧ PEr A B L X n M f pl q w') #[.ref (K.2.1 13), .int lo, .int hi] s (pc_ r) (12 * pc_ r)) (F0 m 32 ls []) := by
      intro hb9
      rw [if_pos hb9] at hr0
      subst hr0
      refine lv_aload_n hx hb dX3_number_32 rfl (lv_at hl 0 rfl) ?_
      refine lv_iconst (v := (2:Int32)) hx hb dX3_number_33 (by decide) ?_
      exact x_throw hG hC h13 hWr hlst E hnt hw hl QExt.refl (cwV 1 hts (lw_V q475 q477 qs3 q141 q478) rfl rfl rfl ⟨rfl, kd_X3_wrong⟩ ⟨Nat.le_of_ble_eq_true rfl, Nat.le_of_ble_eq_true rfl⟩) rfl dX3_number_34 dX3_number_37 ⟨Nat.le_of_ble_eq_true rfl, Nat.le_of_ble_eq_true rfl⟩ (Nat.le_of_ble_eq_true rfl) (Nat.le_of_ble_eq_true rfl) (fun q w' h => ⟨2, t.2.1, 1, rfl, h⟩)
    refine lv_aload_n hx hb dX3_number_16 rfl (lv_at hl 0 rfl) ?_
    refine r_gNum E hw hC h13 q318 dX3_number_17 ?_
    refine lv_iload_n hx hb dX3_number_20 rfl (lv_at hl 1 rfl) ?_
    refine lv_icmp_lt (tgt := 32) hx hb dX3_number_21 (by decide) (fun c1 => ?_) (fun c1 => ?_)
    · exact bad (Or.inl c1)
    refine lv_aload_n hx hb dX3_number_24 rfl (lv_at hl 0 rfl) ?_
    refine r_gNum E hw hC h13 q318 dX3_number_25 ?_
    refine lv_iload_n hx hb dX3_number_28 rfl (lv_at hl 2 rfl) ?_
    refine lv_icmp_le (tgt := 38) hx hb dX3_number_29 (by decide) (fun c2 => ?_) (fun c2 => ?_)
    · have hno : ¬ (t.2.2.2.1 < lo ∨ hi < t.2.2.2.1) := fun q => q.elim c1 (n_lt32' c2)
      rw [if_neg hno] at hr0
      subst hr0
      refine lv_aload_n hx hb dX3_number_38 rfl (lv_at hl 0 rfl) ?_
      refine r_gNum E hw hC h13 q318 dX3_number_39 ?_
      refine lv_istore_n (lv' := [(3, .int t.2.2.2.1), (0, .ref (K.2.1 13)), (1, .int lo), (2, .int hi)]) hx hb dX3_number_42 rfl hl (by decide) rfl (fun ls hl => ?_)
      refine lv_aload_n hx hb dX3_number_43 rfl (lv_at hl 1 rfl) ?_
      refine d_V (As := []) (v0 := none) hG E hw hl (m_X3_next l hG hC h13 hS hn ht) (qT13 h13) rfl (cwV 0 hts (lw_V q406 q408 qs1 q141 q409) rfl rfl rfl ⟨rfl, kd_X3_next⟩ ⟨Nat.le_of_ble_eq_true rfl, Nat.le_of_ble_eq_true rfl⟩) rfl (rest := []) (st1 := []) rfl rfl rfl dX3_number_44 ⟨Nat.zero_le _, Nat.zero_le _⟩ (fun H locs hw => ?_)
      refine lv_iload_n hx hb dX3_number_47 rfl (lv_at hl 0 rfl) ?_
      exact vq_ret (r_iret E hr rfl ⟨t.2.2.2.1, _, 0, rfl, M, rfl, QExt.refl, rfl⟩ hw (Nat.zero_le _) (Nat.zero_le _) dX3_number_48)
    · exact bad (Or.inr (Int32.not_le.mp c2))
  · rw [if_neg c0] at hr0
    subst hr0
    refine lv_aload_n hx hb dX3_number_10 rfl (lv_at hl 0 rfl) ?_
    refine lv_iconst (v := (1:Int32)) hx hb dX3_number_11 (by decide) ?_
    exact x_throw hG hC h13 hWr hlst E hnt hw hl QExt.refl (cwV 1 hts (lw_V q475 q477 qs3 q141 q478) rfl rfl rfl ⟨rfl, kd_X3_wrong⟩ ⟨Nat.le_of_ble_eq_true rfl, Nat.le_of_ble_eq_true rfl⟩) rfl dX3_number_12 dX3_number_15 ⟨Nat.le_of_ble_eq_true rfl, Nat.le_of_ble_eq_true rfl⟩ (Nat.le_of_ble_eq_true rfl) (Nat.le_of_ble_eq_true rfl) (fun q w' h => ⟨1, t.2.1, 1, rfl, h⟩)
set_option maxHeartbeats 4000000 in
theorem m_X3_opens (l : Launch) {K : QK} {G : State → Prop} {A B : QA} {L : QL} {X : QX} {M : QM} {n : Nat} {t : QTS} {y : QY} (hG : QG G) (hC : QCl K) (h13 : ql K 13) (hS : QSt K G y) (hWr : QWr K G) (hlst : l.stackTraces = false) (hn : n ≤ 300) (ht : t.1 ≤ n) (ho : t.2.2.2.2.1 ≤ 8) : MP l K G yX3_opens (ws_ yX3_opens cX3_opens 1 none) 8 300 [.ref (K.2.1 13)] A B L X M n t (sOpens (A 3) n t) (fun _ _ v => v = none) := by
  generalize hr0 : sOpens (A 3) n t = r
  unfold sOpens at hr0
  refine MX.of (by decide) (Nat.le_of_ble_eq_true rfl) (lv := [(0, .ref (K.2.1 13))]) rfl (fun p e s m below meth c ls E hr hnt hl hw => ?_)
  have hx := E.1
  have hb := E.2.1
  have hown := E.2.2.1
  have hts := E.2.2.2.2.1
  refine lv_aload_n hx hb dX3_opens_0 rfl (lv_at hl 0 rfl) ?_
  refine r_gOpen E hw hC h13 q319 dX3_opens_1 ?_
  refine lv_bipush (v := (8:Int32)) hx hb dX3_opens_4 (by decide) ?_
  refine lv_icmp_ne (tgt := 15) hx hb dX3_opens_6 (by decide) (fun c0 => ?_) (fun c0 => ?_)
  · have c1 : ¬ t.2.2.2.2.1 = 8 := fun q => c0 (by rw [q]; rfl)
    rw [if_neg c1] at hr0
    subst hr0
    refine lv_aload_n hx hb dX3_opens_15 rfl (lv_at hl 0 rfl) ?_
    refine lv_dup hx hb dX3_opens_16 rfl ?_
    refine r_gOpen E hw hC h13 q319 dX3_opens_17 ?_
    refine lv_iconst (v := (1:Int32)) hx hb dX3_opens_20 (by decide) ?_
    refine lv_iadd hx hb dX3_opens_21 ?_
    refine r_pOpen (a := t.2.2.2.2.1 + 1) E hw h13 q319 nI_sc dX3_opens_22 (fun H locs hw => ?_)
    refine lv_aload_n hx hb dX3_opens_25 rfl (lv_at hl 0 rfl) ?_
    refine d_V (As := []) (v0 := none) hG E hw hl (m_X3_next l hG hC h13 hS hn (t := (t.1, t.2.1, t.2.2.1, t.2.2.2.1, t.2.2.2.2.1 + 1, t.2.2.2.2.2)) ht) (qT13 h13) rfl (cwV 0 hts (lw_V q406 q408 qs1 q141 q409) rfl rfl rfl ⟨rfl, kd_X3_next⟩ ⟨Nat.le_of_ble_eq_true rfl, Nat.le_of_ble_eq_true rfl⟩) rfl (rest := []) (st1 := []) rfl rfl rfl dX3_opens_26 ⟨Nat.zero_le _, Nat.zero_le _⟩ (fun H locs hw => ?_)
    exact vq_ret (r_ret E hr ⟨(), _, 0, rfl, M, rfl, QExt.refl, rfl⟩ hw (Nat.zero_le _) (Nat.zero_le _) dX3_opens_29)
  · have c1 : t.2.2.2.2.1 = 8 := nI_inj c0 (by omega) (by decide)
    rw [if_pos c1] at hr0
    subst hr0
    refine lv_aload_n hx hb dX3_opens_9 rfl (lv_at hl 0 rfl) ?_
    refine lv_iconst (v := (3:Int32)) hx hb dX3_opens_10 (by decide) ?_
    exact x_throw hG hC h13 hWr hlst E hnt hw hl QExt.refl (cwV 1 hts (lw_V q475 q477 qs3 q141 q478) rfl rfl rfl ⟨rfl, kd_X3_wrong⟩ ⟨Nat.le_of_ble_eq_true rfl, Nat.le_of_ble_eq_true rfl⟩) rfl dX3_opens_11 dX3_opens_14 ⟨Nat.le_of_ble_eq_true rfl, Nat.le_of_ble_eq_true rfl⟩ (Nat.le_of_ble_eq_true rfl) (Nat.le_of_ble_eq_true rfl) (fun q w' h => ⟨3, t.2.1, 1, rfl, h⟩)
