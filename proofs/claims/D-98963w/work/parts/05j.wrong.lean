/-! Wrong: its constructor, wrong(..), a throw; what may throw, by its written answer -/
set_option maxRecDepth 100000
def FrH (K : QK) (q : Nat) (U : State) : Prop := ∃ k : Class, U.vm.classes[K.2.2.2.1.1 5]? = some k ∧ U.heap[q]? = some (freshCell (K.2.2.2.1.1 5) k)
def dW : List Value := [.null, .null, .null, .null, .null, .int 0, .int 0, .int 0]
def WrAt (M : QM) (q : Nat) (f p : Int32) : Prop := ∃ fs : List Value, M q = some (.inr (5, fs)) ∧ fs[6]? = some (.int f) ∧ fs[7]? = some (.int p)
def MF (l : Launch) (K : QK) (G : State → Prop) (q : Nat) (y : MethodName) (ws : List Cond) (fr lo mc ms : Nat) (av : List Value) (w : QW) (P : Option Value → QW → Prop) : Prop :=
  Met l y ws (qrm fr lo mc ms) (va_Pc av (fun U => IN K G w U ∧ FrH K q U)) (QE K P) mc ms (qA K)
theorem FrH.moved {K : QK} {q : Nat} {u U : State} (hh : U.heap = u.heap) (hvm : u.vm.Alike U.vm) (h : FrH K q u) : FrH K q U := by
  obtain ⟨k, h1, h2⟩ := h
  obtain ⟨k', h3, he⟩ := hvm.2.2 _ _ h1
  refine ⟨k', h3, ?_⟩
  rw [hh, h2, he]
theorem MF.of {l : Launch} {K : QK} {G : State → Prop} {q : Nat} {w : QW} {y : MethodName} {fr lo mc ms : Nat} {av : List Value} {P : Option Value → QW → Prop} {bytes : ByteArray} {maxL : Nat} {ret : Option FieldType} (hy : plainName y.cls = true) (hlen : (lg_sl av).length ≤ maxL) {lv : List (Nat × Value)} (hlv : lv_args 0 av = lv)
    (body : ∀ (p : Program) (e : Env) (s : State) (m : MethodId) (below : List Frame) (meth : Method) (c : Code) (ls : Array Slot), EV K G p s m av.toArray meth c bytes y.cls maxL → meth.sig.returnType = ret → meth.name = y.name → FrH K q s → lv_has ls maxL lv → WP K w s.heap [] →
      W p l e (qrm fr lo mc ms) s m av.toArray below meth c s.heap [] 0 0 (MQ below (QE K P) av.toArray s mc ms (qA K)) (F0 m 0 ls [])) : MF l K G q y (ws_ y bytes maxL ret) fr lo mc ms av w P := by
  refine Met.ofW (cc := bytes) (maxL := maxL) (ret := ret) hy rfl ?_
  intro p e s m args below meth c s₁ B hml hv
  obtain ⟨rfl, ⟨hK, hG, hw⟩, hf⟩ := hv
  have hts := atoms_spec (ws := ws_ y bytes maxL ret) B.pre
  have hts : ∀ w ∈ lw_all, w.before _ s = true := fun w h => hts w (List.mem_cons_of_mem _ h)
  have hown : s.vm.findClass y.cls = some m.cls := findClass_of_methodNamed B.named
  have hl := lv_entry av (n := maxL) hlen
  rw [lg_entry_eq]
  rw [hlv] at hl
  exact body p e s m below meth c _ ⟨B.exec, B.bytes, hown, hK, hts, hG, B.notSynchronized, hml⟩ B.returns (name_of_methodNamed B.named B.method).1 hf hl hw
section MYW
variable {p : Program} {l : Launch} {e : Env} {R : Room} {s : State} {m : MethodId} {args : Array Value} {below : List Frame} {meth : Method} {c : Code} {H : Heap} {locs : List Loc} {cells slots : Nat} {Q : State → Prop}
variable {cc : ByteArray} {pc : Nat} {ls : Array Slot} {rest : List Value} {a : Nat} {own : String} {nL : Nat}
variable {K : QK} {G : State → Prop} {w : QW}
theorem r_new5 {index : Nat} (E : EV K G p s m args meth c cc own nL) (hw : WP K w H locs) (hcl : Cond.classLink own index RX5 ∈ lw_all) (hcells : cells + 1 ≤ R.cells) (hslots : slots + 8 ≤ R.slots) (hdg : decode cc pc = .ok (.new index, 3))
    (kk : ∀ (q : Nat) (H1 : Heap), WP K (w.1, w.2.1, w.2.2.1, w.2.2.2.1, va_up w.2.2.2.2 q (some (.inr (5, dW)))) H1 locs → w.2.2.2.2 q = none → (∃ k : Class, s.vm.classes[K.2.2.2.1.1 5]? = some k ∧ H1[q]? = some (freshCell (K.2.2.2.1.1 5) k)) → W p l e R s m args below meth c H1 locs (cells + 1) (slots + 8) Q (F0 m (pc + 3) ls (.ref q :: rest))) : W p l e R s m args below meth c H locs cells slots Q (F0 m pc ls rest) := by
  obtain ⟨ws, hP, hD, hS, back⟩ := hw.add
  have hKn := E.2.2.2.1.1 5 (RX5, TX5, 8) rfl
  have hA : ∀ q, K.1.size ≤ q → qA K q := fun _ h => h
  refine W.newcK E.1 E.2.1 E.2.2.1 (E.2.2.2.2.1 _ hcl) (E.2.2.2.2.1 _ q480) (E.2.2.2.2.1 _ q153) rfl hdg hcells hslots hKn.2.1 rfl fun H1 kC hkC e1 z1 o1 => ?_
  have hk : ∀ (k : Nat) (x : Nat × va_E), ws[k]? = some x → H1[x.1]? = H[x.1]? := fun k x hx => o1 x.1 ((hP k x hx).lt)
  have p1 : va_P K.2.2.2.1 vcl (ws ++ [(H.size, .inr (5, dW))]) H1 := (hP.kept hk).app (fun k x hx => by
    have hz : k < 1 := (List.getElem?_eq_some_iff.mp hx).1
    rw [show k = 0 by omega] at hx
    cases hx
    refine ⟨_, rfl, (u_born (N := 8) tyX5 E.2.2.2.2.1 in_X5 hKn hkC e1 tyX5_ok).to (fun j hj => ?_)⟩
    match j, hj with
    | 0, _ => rfl
    | 1, _ => rfl
    | 2, _ => rfl
    | 3, _ => rfl
    | 4, _ => rfl
    | 5, _ => rfl
    | 6, _ => rfl
    | 7, _ => rfl
    | j + 8, hj => exact absurd hj (by show ¬ j + 8 < 8; omega))
  have d1 : va_D (qA K) (ws ++ [(H.size, .inr (5, dW))]) := hD.push hP rfl (hA _ hS.1)
  have s1 : va_S (qA K) K.1 H1 locs := ⟨Nat.le_trans hS.1 (by omega), fun x h1 h2 => (o1 x (Nat.lt_of_lt_of_le h1 hS.1)).trans (hS.2.1 x h1 h2), hS.2.2⟩
  obtain ⟨b1, b2, b3, b4⟩ := back H.size _ H1 locs p1 d1 s1
  exact kk H.size H1 b1 b2 ⟨kC, hkC, e1⟩
end MYW
theorem kd_X5_init : yX5_init.cls ≠ "java/lang/invoke/MethodHandle" ∧ yX5_init.cls ≠ "java/lang/invoke/VarHandle" ∧ (parseMethodDescriptor yX5_init.desc).map (fun d => d.parameters.length) = some 2 := by decide +kernel
theorem va_up_up {α : Type} {f : Nat → α} {q : Nat} {x y : α} : va_up (va_up f q x) q y = va_up f q y := by
  funext j
  unfold va_up
  by_cases h : j = q
  · rw [if_pos h, if_pos h]
  · rw [if_neg h, if_neg h, if_neg h]
theorem va_up_n {α : Type} {f : Nat → α} {q j : Nat} {x : α} (h : j ≠ q) : va_up f q x j = f j := if_neg h
set_option maxHeartbeats 4000000 in
theorem m_X5_init (l : Launch) {K : QK} {G : State → Prop} (hG : QG G) (hWr : QWr K G) (hlst : l.stackTraces = false) {w : QW} {q : Nat} {f pl : Int32} {fs : List Value} (hq : w.2.2.2.2 q = some (.inr (5, fs))) : MF l K G q yX5_init (ws_ yX5_init cX5_init 3 none) 6 120 0 0 [.ref q, .int f, .int pl] w (fun v w' => v = none ∧ ∃ fs' : List Value, fs'[6]? = some (.int f) ∧ fs'[7]? = some (.int pl) ∧ w' = (w.1, w.2.1, w.2.2.1, w.2.2.2.1, va_up w.2.2.2.2 q (some (.inr (5, fs'))))) := by
  refine MF.of (by decide) (Nat.le_of_ble_eq_true rfl) (lv := [(0, .ref q), (1, .int f), (2, .int pl)]) rfl (fun p e s m below meth c ls E hr hin hf hl hw => ?_)
  have hx := E.1
  have hb := E.2.1
  refine lv_aload_n hx hb dX5_init_0 rfl (lv_at hl 0 rfl) ?_
  refine r_super5 hG hWr E hlst hw hl hq hf (Nat.le_of_ble_eq_true rfl) (Nat.le_of_ble_eq_true rfl) ⟨Nat.le_refl _, Nat.le_refl _⟩ dX5_init_1 (fun H locs fs1 h8 hw => ?_)
  refine lv_aload_n hx hb dX5_init_4 rfl (lv_at hl 0 rfl) ?_
  refine lv_iload_n hx hb dX5_init_5 rfl (lv_at hl 1 rfl) ?_
  refine r_putF (w := (w.1, w.2.1, w.2.2.1, w.2.2.2.1, va_up w.2.2.2.2 q (some (.inr (5, fs1))))) E hw va_up_s (T := TX5) (N := 8) rfl in_X5 tyX5 tyX5_ok nmX5 6 (by decide) q523 rfl hin rfl rfl rfl (by rw [h8]; decide) dX5_init_6 (fun H locs hw => ?_)
  refine lv_aload_n hx hb dX5_init_9 rfl (lv_at hl 0 rfl) ?_
  refine lv_iload_n hx hb dX5_init_10 rfl (lv_at hl 2 rfl) ?_
  refine r_putF E hw va_up_s (T := TX5) (N := 8) rfl in_X5 tyX5 tyX5_ok nmX5 7 (by decide) q525 rfl hin rfl rfl rfl (by rw [List.length_set, h8]; decide) dX5_init_11 (fun H locs hw => ?_)
  refine r_ret E hr ⟨rfl, (fs1.set 6 (.int f)).set 7 (.int pl), ?_, ?_, ?_⟩ hw (Nat.le_refl _) (Nat.le_refl _) dX5_init_14
  · rw [List.getElem?_set_ne (by decide), List.getElem?_set, if_pos rfl, if_pos (by rw [h8]; decide)]
  · rw [List.getElem?_set, if_pos rfl, if_pos (by rw [List.length_set, h8]; decide)]
  · simp only [va_up_up]
