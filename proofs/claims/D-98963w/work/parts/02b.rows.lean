/-! MY LAYER, 2: contracts over the world, and rows -/
set_option maxRecDepth 100000
def qtys (K : QK) : List (ClassId × FieldType) := [(K.2.2.2.2 0, .int), (K.2.2.2.2 1, .byte), (K.2.2.2.2 2, .long), (K.2.2.2.2 3, .boolean), (K.2.2.2.2 4, .array .int), (K.2.2.2.2 5, .object "VaneCourt$Text"), (K.2.2.2.2 6, .object "VaneCourt$Asked"), (K.2.2.2.2 7, .object "java/lang/Object"), (K.2.2.2.2 8, .object "java/lang/String")]
/-- words that ride beside the lists -/
def qmv : Cond → Bool
  | .fieldLinkNest .. => true
  | .methodLinkNest .. => true
  | .castable .. => true
  | .declares .. => true
  | _ => false
/-- what G, the facts of the tables that ride beside the lists, must bear -/
def QG (G : State → Prop) : Prop := (∀ s U : State, s.WarmedH U.vm → G s → G U) ∧ (∀ s U : State, s.vm = U.vm → G s → G U) ∧ (∀ (U : State) (w : Cond), G U → w ∈ lw_tbl → qmv w = true → va_Nw w U)
def IN (K : QK) (G : State → Prop) (w : QW) (U : State) : Prop := va_K K.2.2.2.1 vcl (qtys K) U ∧ G U ∧ WP K w U.heap []
abbrev qrm (fr lo mc ms : Nat) : Room := { frames := fr, cells := mc, slots := ms, locals := lo }
/-- a contract's end -/
abbrev QE (K : QK) (P : Option Value → QW → Prop) : Array Value → State → Outcome → State → Prop := fun _ _ oc t => ∃ (v : Option Value) (w' : QW), oc = .returned v ∧ P v w' ∧ WP K w' t.heap []
/-- a contract: called with the values av in the world w, the method returns v in a world w' with P v w' -/
def MC (l : Launch) (K : QK) (G : State → Prop) (y : MethodName) (ws : List Cond) (fr lo mc ms : Nat) (av : List Value) (w : QW) (P : Option Value → QW → Prop) : Prop :=
  Met l y ws (qrm fr lo mc ms) (va_Pc av (IN K G w)) (QE K P) mc ms (qA K)
/-- one answer, one world -/
abbrev QR (v0 : Option Value) (w0 : QW) : Option Value → QW → Prop := fun v w => v = v0 ∧ w = w0
def EV (K : QK) (G : State → Prop) (p : Program) (s : State) (m : MethodId) (args : Array Value) (meth : Method) (c : Code) (cc : ByteArray) (own : String) (nL : Nat) : Prop :=
  p.tables.exec = Jvm.exec ∧ c.code = cc ∧ s.vm.findClass own = some m.cls ∧ va_K K.2.2.2.1 vcl (qtys K) s ∧ (∀ w ∈ lw_all, w.before args s = true) ∧ G s ∧ meth.locks = false ∧ c.maxLocals = nL
theorem WP.locs {K : QK} {w : QW} {H : Heap} {l1 l2 : List Loc} (hw : WP K w H l1) (h : ∀ x ∈ l2, qA K x.base) : WP K w H l2 := by
  obtain ⟨Ml, hM, hP, hD, hS⟩ := hw
  exact ⟨Ml, hM, hP, hD, hS.1, hS.2.1, h⟩
theorem in_blind {K : QK} {G : State → Prop} (hG : QG G) (av : List Value) (w : QW) : FrameBlind (va_Pc av (IN K G w)) := by
  intro a U g mk h
  obtain ⟨h1, h2, h3, h4⟩ := h
  exact ⟨h1, va_K.moved (u := U) (U := U.calling g mk a) (Vm.Alike.refl U.vm) h2, hG.2.1 U (U.calling g mk a) rfl h3, h4⟩
section MYV
variable {p : Program} {l : Launch} {e : Env} {R : Room} {s : State} {m : MethodId} {args : Array Value} {below : List Frame} {meth : Method} {c : Code} {H : Heap} {locs : List Loc} {cells slots : Nat} {Q : State → Prop}
variable {cc : ByteArray} {pc : Nat} {ls : Array Slot} {rest : List Value} {a : Nat} {own : String} {nL : Nat}
variable {K : QK} {G : State → Prop} {w : QW}
theorem MC.of {y : MethodName} {fr lo mc ms : Nat} {av : List Value} {P : Option Value → QW → Prop} {bytes : ByteArray} {maxL : Nat} {ret : Option FieldType} (hy : plainName y.cls = true) (hlen : (lg_sl av).length ≤ maxL) {lv : List (Nat × Value)} (hlv : lv_args 0 av = lv)
    (body : ∀ (p : Program) (e : Env) (s : State) (m : MethodId) (below : List Frame) (meth : Method) (c : Code) (ls : Array Slot), EV K G p s m av.toArray meth c bytes y.cls maxL → meth.sig.returnType = ret → lv_has ls maxL lv → WP K w s.heap [] →
      W p l e (qrm fr lo mc ms) s m av.toArray below meth c s.heap [] 0 0 (MQ below (QE K P) av.toArray s mc ms (qA K)) (F0 m 0 ls [])) : MC l K G y (ws_ y bytes maxL ret) fr lo mc ms av w P := by
  refine Met.ofW (cc := bytes) (maxL := maxL) (ret := ret) hy rfl ?_
  intro p e s m args below meth c s₁ B hml hv
  obtain ⟨rfl, hK, hG, hw⟩ := hv
  have hts := atoms_spec (ws := ws_ y bytes maxL ret) B.pre
  have hts : ∀ w ∈ lw_all, w.before _ s = true := fun w h => hts w (List.mem_cons_of_mem _ h)
  have hown : s.vm.findClass y.cls = some m.cls := findClass_of_methodNamed B.named
  have hl := lv_entry av (n := maxL) hlen
  rw [lg_entry_eq]
  rw [hlv] at hl
  exact body p e s m below meth c _ ⟨B.exec, B.bytes, hown, hK, hts, hG, B.notSynchronized, hml⟩ B.returns hl hw
theorem r_ret {P : Option Value → QW → Prop} {mc ms : Nat} (E : EV K G p s m args meth c cc own nL) (hr : meth.sig.returnType = none) (hP : P none w) (hw : WP K w H locs) (hc : cells ≤ mc) (hs : slots ≤ ms) (hdg : decode cc pc = .ok (.return_, 1)) : W p l e R s m args below meth c H locs cells slots (MQ below (QE K P) args s mc ms (qA K)) (F0 m pc ls []) := by
  refine W.widen hc hs ?_
  exact W.vret E.1 E.2.1 hr (fun t ht hW => ⟨none, w, rfl, hP, by rw [ht]; exact hw.nil⟩) hw.S.2.2 hdg E.2.2.2.2.2.2.1
theorem r_iret {P : Option Value → QW → Prop} {mc ms : Nat} {v : Int32} {ty : FieldType} (E : EV K G p s m args meth c cc own nL) (hr : meth.sig.returnType = some ty) (hn : narrow ty (.int v) = .int v) (hP : P (some (.int v)) w) (hw : WP K w H locs) (hc : cells ≤ mc) (hs : slots ≤ ms) (hdg : decode cc pc = .ok (.ireturn, 1)) : W p l e R s m args below meth c H locs cells slots (MQ below (QE K P) args s mc ms (qA K)) (F0 m pc ls [.int v]) := by
  refine W.widen hc hs ?_
  exact W.zret E.1 E.2.1 hr hn (fun t ht hW => ⟨_, w, rfl, hP, by rw [ht]; exact hw.nil⟩) hw.S.2.2 hdg E.2.2.2.2.2.2.1
theorem r_lret {P : Option Value → QW → Prop} {mc ms : Nat} {v : Int64} (E : EV K G p s m args meth c cc own nL) (hr : meth.sig.returnType = some .long) (hP : P (some (.long v)) w) (hw : WP K w H locs) (hc : cells ≤ mc) (hs : slots ≤ ms) (hdg : decode cc pc = .ok (.lreturn, 1)) : W p l e R s m args below meth c H locs cells slots (MQ below (QE K P) args s mc ms (qA K)) (F0 m pc ls [.long v]) := by
  refine W.widen hc hs ?_
  exact W.lret E.1 E.2.1 hr (fun t ht hW => ⟨_, w, rfl, hP, by rw [ht]; exact hw.nil⟩) hw.S.2.2 hdg E.2.2.2.2.2.2.1
theorem r_aret {P : Option Value → QW → Prop} {mc ms : Nat} {v : Value} {rt : FieldType} (E : EV K G p s m args meth c cc own nL) (hr : meth.sig.returnType = some rt) (hrt : (∃ n, rt = .object n) ∨ ∃ t, rt = .array t) (hv : v = .null ∨ ∃ a, v = .ref a) (hP : P (some v) w) (hw : WP K w H locs) (hc : cells ≤ mc) (hs : slots ≤ ms) (hdg : decode cc pc = .ok (.areturn, 1)) : W p l e R s m args below meth c H locs cells slots (MQ below (QE K P) args s mc ms (qA K)) (F0 m pc ls [v]) := by
  refine W.widen hc hs ?_
  exact W.aret E.1 E.2.1 hr hrt hv (fun t ht hW => ⟨_, w, rfl, hP, by rw [ht]; exact hw.nil⟩) hw.S.2.2 hdg E.2.2.2.2.2.2.1
/-! fields -/
theorem r_get {ci N : Nat} {C : String} {T : u_T} {fs : List Value} (E : EV K G p s m args meth c cc own nL) (hw : WP K w H locs) (hq : QAt K w a (.inr (ci, fs))) (hc : vcl[ci]? = some (C, T, N)) (hin : ∀ w ∈ u_ws C T N, w ∈ lw_all) (k : Nat) (hk : k < N) {index : Nat} (hlink : Cond.fieldLink own index (T k).1 (T k).2.1 (T k).2.2.1 ∈ lw_all) {v : Value} (hv : fs[k]? = some v) (hdg : decode cc pc = .ok (.getfield index, 3))
    (kk : W p l e R s m args below meth c H locs cells slots Q (F0 m (pc + 3) ls (v :: rest))) : W p l e R s m args below meth c H locs cells slots Q (F0 m pc ls (.ref a :: rest)) := by
  rcases hq.two with hq | hq
  case inr =>
    obtain ⟨r, h1, cell, g1, g2, g3, g4, g5, g6⟩ := hq
    have hr : r = (C, T, N) := Option.some.inj (h1.symm.trans hc)
    subst hr
    obtain ⟨hS, hfc, kC, hkC, hkind⟩ := E.2.2.2.1.1 ci _ hc
    obtain ⟨cf, kf, fi, f, hi, hsl⟩ := hS k hk
    refine W.getf E.1 E.2.1 E.2.2.1 (E.2.2.2.2.1 _ hlink) hi (u_facts hfc hkC (u_lays E.2.2.2.2.1 hin hk) hi).1 (by rw [hw.S.2.1 a (Array.getElem?_eq_some_iff.mp g1).1 g6]; exact g1) g4 (v := v) ?_ rfl rfl hdg kk
    rw [hsl, g5 k hk]
    simp [vp_V, hv]
  obtain ⟨ws, i, hP, hi⟩ := hw.own hq
  exact va_get E.1 E.2.1 E.2.2.2.2.1 hin E.2.2.1 E.2.2.2.1 hP i hi hc k hk (E.2.2.2.2.1 _ hlink) (fun _ h => h) hv hdg kk
theorem r_getN {ci N : Nat} {C host : String} {T : u_T} {fs : List Value} (hG : QG G) (E : EV K G p s m args meth c cc own nL) (hw : WP K w H locs) (hq : QAt K w a (.inr (ci, fs))) (hc : vcl[ci]? = some (C, T, N)) (hin : ∀ w ∈ u_ws C T N, w ∈ lw_all) (k : Nat) (hk : k < N) {index : Nat} (hlink : Cond.fieldLinkNest own index (T k).1 (T k).2.1 (T k).2.2.1 host ∈ lw_tbl) {v : Value} (hv : fs[k]? = some v) (hdg : decode cc pc = .ok (.getfield index, 3))
    (kk : W p l e R s m args below meth c H locs cells slots Q (F0 m (pc + 3) ls (v :: rest))) : W p l e R s m args below meth c H locs cells slots Q (F0 m pc ls (.ref a :: rest)) := by
  rcases hq.two with hq | hq
  case inr =>
    obtain ⟨r, h1, cell, g1, g2, g3, g4, g5, g6⟩ := hq
    have hr : r = (C, T, N) := Option.some.inj (h1.symm.trans hc)
    subst hr
    obtain ⟨hS, hfc, kC, hkC, hkind⟩ := E.2.2.2.1.1 ci _ hc
    obtain ⟨cf, kf, fi, f, hi, hsl⟩ := hS k hk
    refine va_Wgetf E.1 E.2.1 E.2.2.1 (va_Nw.use rfl (hG.2.2 s _ E.2.2.2.2.2.1 hlink rfl)) hi (u_facts hfc hkC (u_lays E.2.2.2.2.1 hin hk) hi).1 (by rw [hw.S.2.1 a (Array.getElem?_eq_some_iff.mp g1).1 g6]; exact g1) g4 (v := v) ?_ rfl rfl hdg kk
    rw [hsl, g5 k hk]
    simp [vp_V, hv]
  obtain ⟨ws, i, hP, hi⟩ := hw.own hq
  exact va_getN E.1 E.2.1 E.2.2.2.2.1 hin E.2.2.1 E.2.2.2.1 hP i hi hc k hk (va_Nw.use rfl (hG.2.2 s _ E.2.2.2.2.2.1 hlink rfl)) (fun _ h => h) hv hdg kk
theorem r_put {ci N lab : Nat} {C : String} {T : u_T} {fs : List Value} (E : EV K G p s m args meth c cc own nL) (hw : WP K w H locs) (hl : ql K lab) (hq : qat K w lab = .inr (ci, fs)) (hc : vcl[ci]? = some (C, T, N)) (hin : ∀ w ∈ u_ws C T N, w ∈ lw_all) (ty0 : Nat → FieldType) (hty : ∀ k, k < N → parseFieldDescriptor (T k).2.2.1 = some (ty0 k)) (hnm : ∀ a, a < N → ∀ b, b < N → a ≠ b → (T a).2.1 ≠ (T b).2.1) (k : Nat) (hk : k < N) {index : Nat} (hlink : Cond.fieldLink own index (T k).1 (T k).2.1 (T k).2.2.1 ∈ lw_all) (hfin : (T k).2.2.2 = false) {v : Value} (hn : narrow (ty0 k) v = v) (hfit : fits (ty0 k) v = true) (hlen : k < fs.length) (w' : QW) (hu : QUp w w' lab) (hq' : qat K w' lab = .inr (ci, fs.set k v)) (hdg : decode cc pc = .ok (.putfield index, 3))
    (kk : ∀ (H1 : Heap) (locs1 : List Loc), WP K w' H1 locs1 → W p l e R s m args below meth c H1 locs1 cells slots Q (F0 m (pc + 3) ls rest)) : W p l e R s m args below meth c H locs cells slots Q (F0 m pc ls (v :: .ref (K.2.1 lab) :: rest)) := by
  obtain ⟨ws, i, hP, hD, hS, hi, back⟩ := hw.lab hl
  rw [hq] at hi
  refine va_put E.1 E.2.1 E.2.2.2.2.1 hin ty0 hty hnm E.2.2.1 E.2.2.2.1 hP hD hS i hi hc k hk (E.2.2.2.2.1 _ hlink) (fun _ h => h) hfin (hty k hk) hn hfit hlen hdg (fun H1 locs1 p1 d1 s1 => ?_)
  rw [← hq'] at p1 d1
  exact kk H1 locs1 (back w' hu H1 locs1 p1 d1 s1)
theorem r_putD {ci N : Nat} {C : String} {T : u_T} {fs : List Value} (E : EV K G p s m args meth c cc own nL) (hw : WP K w H locs) (hq : w.2.2.2.2 a = some (.inr (ci, fs))) (hc : vcl[ci]? = some (C, T, N)) (hin : ∀ w ∈ u_ws C T N, w ∈ lw_all) (ty0 : Nat → FieldType) (hty : ∀ k, k < N → parseFieldDescriptor (T k).2.2.1 = some (ty0 k)) (hnm : ∀ a, a < N → ∀ b, b < N → a ≠ b → (T a).2.1 ≠ (T b).2.1) (k : Nat) (hk : k < N) {index : Nat} (hlink : Cond.fieldLink own index (T k).1 (T k).2.1 (T k).2.2.1 ∈ lw_all) (hfin : (T k).2.2.2 = false) {v : Value} (hn : narrow (ty0 k) v = v) (hfit : fits (ty0 k) v = true) (hlen : k < fs.length) (hdg : decode cc pc = .ok (.putfield index, 3))
    (kk : ∀ (H1 : Heap) (locs1 : List Loc), WP K (w.1, w.2.1, w.2.2.1, w.2.2.2.1, va_up w.2.2.2.2 a (some (.inr (ci, fs.set k v)))) H1 locs1 → W p l e R s m args below meth c H1 locs1 cells slots Q (F0 m (pc + 3) ls rest)) : W p l e R s m args below meth c H locs cells slots Q (F0 m pc ls (v :: .ref a :: rest)) := by
  obtain ⟨ws, i, hP, hD, hS, hi, back⟩ := hw.dyn hq
  refine va_put E.1 E.2.1 E.2.2.2.2.1 hin ty0 hty hnm E.2.2.1 E.2.2.2.1 hP hD hS i hi hc k hk (E.2.2.2.2.1 _ hlink) (fun _ h => h) hfin (hty k hk) hn hfit hlen hdg (fun H1 locs1 p1 d1 s1 => ?_)
  exact kk H1 locs1 (back _ H1 locs1 p1 d1 s1)
theorem r_putF {ci N : Nat} {C : String} {T : u_T} {fs : List Value} (E : EV K G p s m args meth c cc own nL) (hw : WP K w H locs) (hq : w.2.2.2.2 a = some (.inr (ci, fs))) (hc : vcl[ci]? = some (C, T, N)) (hin : ∀ w ∈ u_ws C T N, w ∈ lw_all) (ty0 : Nat → FieldType) (hty : ∀ k, k < N → parseFieldDescriptor (T k).2.2.1 = some (ty0 k)) (hnm : ∀ a, a < N → ∀ b, b < N → a ≠ b → (T a).2.1 ≠ (T b).2.1) (k : Nat) (hk : k < N) {index : Nat} (hlink : Cond.fieldLink own index (T k).1 (T k).2.1 (T k).2.2.1 ∈ lw_all) (hfin : (T k).2.2.2 = true) (hinit : meth.name = "<init>") (hdecl : (T k).1 = own) {v : Value} (hn : narrow (ty0 k) v = v) (hfit : fits (ty0 k) v = true) (hlen : k < fs.length) (hdg : decode cc pc = .ok (.putfield index, 3))
    (kk : ∀ (H1 : Heap) (locs1 : List Loc), WP K (w.1, w.2.1, w.2.2.1, w.2.2.2.1, va_up w.2.2.2.2 a (some (.inr (ci, fs.set k v)))) H1 locs1 → W p l e R s m args below meth c H1 locs1 cells slots Q (F0 m (pc + 3) ls rest)) : W p l e R s m args below meth c H locs cells slots Q (F0 m pc ls (v :: .ref a :: rest)) := by
  obtain ⟨ws, i, hP, hD, hS, hi, back⟩ := hw.dyn hq
  refine va_putF E.1 E.2.1 E.2.2.2.2.1 hin ty0 hty hnm E.2.2.1 E.2.2.2.1 hP hD hS i hi hc k hk (E.2.2.2.2.1 _ hlink) (fun _ h => h) hfin hinit hdecl (hty k hk) hn hfit hlen hdg (fun H1 locs1 p1 d1 s1 => ?_)
  exact kk H1 locs1 (back _ H1 locs1 p1 d1 s1)
/-! arrays: reads -/
theorem r_iald {n j : Nat} {f : Nat → Int32} {i : Int32} (E : EV K G p s m args meth c cc own nL) (hw : WP K w H locs) (hq : QAt K w a (.inl (K.2.2.2.2 0, n, .inl f))) (hin : vp_in i n) (hj : i.toNatClampNeg = j) (hdg : decode cc pc = .ok (.iaload, 1))
    (kk : W p l e R s m args below meth c H locs cells slots Q (F0 m (pc + 1) ls (.int (f j) :: rest))) : W p l e R s m args below meth c H locs cells slots Q (F0 m pc ls (.int i :: .ref a :: rest)) := by
  subst hj
  obtain ⟨ws, q, hP, hi⟩ := hw.at hq
  exact va_iald E.1 E.2.1 E.2.2.2.1 hP q 0 hi rfl hin hdg kk
theorem r_bald {n j : Nat} {f : Nat → Int32} {i : Int32} (E : EV K G p s m args meth c cc own nL) (hw : WP K w H locs) (hq : QAt K w a (.inl (K.2.2.2.2 1, n, .inl f))) (hin : vp_in i n) (hj : i.toNatClampNeg = j) (hdg : decode cc pc = .ok (.baload, 1))
    (kk : W p l e R s m args below meth c H locs cells slots Q (F0 m (pc + 1) ls (.int (f j) :: rest))) : W p l e R s m args below meth c H locs cells slots Q (F0 m pc ls (.int i :: .ref a :: rest)) := by
  subst hj
  obtain ⟨ws, q, hP, hi⟩ := hw.at hq
  exact va_bald E.1 E.2.1 E.2.2.2.1 hP q 1 hi rfl hin hdg kk
theorem r_lald {n j : Nat} {f : Nat → Int64} {i : Int32} (E : EV K G p s m args meth c cc own nL) (hw : WP K w H locs) (hq : QAt K w a (.inl (K.2.2.2.2 2, n, .inr (.inl f)))) (hin : vp_in i n) (hj : i.toNatClampNeg = j) (hdg : decode cc pc = .ok (.laload, 1))
    (kk : W p l e R s m args below meth c H locs cells slots Q (F0 m (pc + 1) ls (.long (f j) :: rest))) : W p l e R s m args below meth c H locs cells slots Q (F0 m pc ls (.int i :: .ref a :: rest)) := by
  subst hj
  obtain ⟨ws, q, hP, hi⟩ := hw.at hq
  exact va_lald E.1 E.2.1 E.2.2.2.1 hP q 2 hi rfl hin hdg kk
theorem r_zald {n j : Nat} {f : Nat → Int32} {i : Int32} (E : EV K G p s m args meth c cc own nL) (hw : WP K w H locs) (hq : QAt K w a (.inl (K.2.2.2.2 3, n, .inl f))) (hin : vp_in i n) (hj : i.toNatClampNeg = j) (hdg : decode cc pc = .ok (.baload, 1))
    (kk : W p l e R s m args below meth c H locs cells slots Q (F0 m (pc + 1) ls (.int (f j) :: rest))) : W p l e R s m args below meth c H locs cells slots Q (F0 m pc ls (.int i :: .ref a :: rest)) := by
  subst hj
  obtain ⟨ws, q, hP, hi⟩ := hw.at hq
  exact va_zald E.1 E.2.1 E.2.2.2.1 hP q 3 hi rfl hin hdg kk
/-- a row of a grid -/
theorem r_gald {n j b : Nat} {i : Int32} (E : EV K G p s m args meth c cc own nL) (hw : WP K w H locs) (hq : QAt K w a (.inl (K.2.2.2.2 4, n, .inr (.inr (.inr (.inr (qgrid K.2.1 b))))))) (hin : vp_in i n) (hj : i.toNatClampNeg = j) (hdg : decode cc pc = .ok (.aaload, 1))
    (kk : W p l e R s m args below meth c H locs cells slots Q (F0 m (pc + 1) ls (.ref (K.2.1 (b + j)) :: rest))) : W p l e R s m args below meth c H locs cells slots Q (F0 m pc ls (.int i :: .ref a :: rest)) := by
  subst hj
  obtain ⟨ws, q, hP, hi⟩ := hw.at hq
  have hlt : i.toNatClampNeg < n := Nat.not_le.mp fun q => hin (Or.inr q)
  have ht : (qtys K)[4]? = some (K.2.2.2.2 4, .array .int) := rfl
  exact W.aald (v := .ref (K.2.1 (b + i.toNatClampNeg))) (ty := .array .int) E.1 E.2.1 (hP q _ hi) ((E.2.2.2.1.2 4 _ ht).1 n (fun j => va_rf (qgrid K.2.1 b j))) rfl (fun q => by cases q) (by show ¬ (i < 0 ∨ (arrV _ _ _).slots.size ≤ _); rw [arrV_size]; exact hin) (by show (arrV _ _ _).slots[_]? = _; rw [arrV_read _ _ hlt]; rfl) rfl rfl hdg kk
theorem r_aald {n j t : Nat} {C : String} {f : Nat → Option Nat} {i : Int32} (E : EV K G p s m args meth c cc own nL) (hw : WP K w H locs) (ht : (qtys K)[t]? = some (K.2.2.2.2 t, .object C)) (hq : QAt K w a (.inl (K.2.2.2.2 t, n, .inr (.inr (.inr (.inr f)))))) (hin : vp_in i n) (hj : i.toNatClampNeg = j) (hdg : decode cc pc = .ok (.aaload, 1))
    (kk : W p l e R s m args below meth c H locs cells slots Q (F0 m (pc + 1) ls (va_rf (f j) :: rest))) : W p l e R s m args below meth c H locs cells slots Q (F0 m pc ls (.int i :: .ref a :: rest)) := by
  subst hj
  obtain ⟨ws, q, hP, hi⟩ := hw.at hq
  exact va_aldq E.1 E.2.1 E.2.2.2.1 hP q t hi ht hin hdg kk
theorem r_alen {t : Nat} {ty : FieldType} {x : vp_A} {v : Int32} (E : EV K G p s m args meth c cc own nL) (hw : WP K w H locs) (ht : (qtys K)[t]? = some (K.2.2.2.2 t, ty)) (hq : QAt K w a (.inl (K.2.2.2.2 t, x))) (hv : Int32.ofNat x.1 = v) (hdg : decode cc pc = .ok (.arraylength, 1))
    (kk : W p l e R s m args below meth c H locs cells slots Q (F0 m (pc + 1) ls (.int v :: rest))) : W p l e R s m args below meth c H locs cells slots Q (F0 m pc ls (.ref a :: rest)) := by
  obtain ⟨ws, q, hP, hi⟩ := hw.at hq
  exact va_alen E.1 E.2.1 E.2.2.2.1 hP q t hi ht hv hdg kk
/-! arrays: writes at labels; w' is w with the cell's new contents -/
def qu {α : Type} (A : Nat → Nat → α) (l i : Nat) (v : α) : Nat → Nat → α := fun j => if j = l then va_up (A l) i v else A j
def qset {α : Type} (A : Nat → Nat → α) (l : Nat) (f : Nat → α) : Nat → Nat → α := fun j => if j = l then f else A j
theorem qu_s {α : Type} {A : Nat → Nat → α} {l i : Nat} {v : α} : qu A l i v l = va_up (A l) i v := if_pos rfl
theorem qu_n {α : Type} {A : Nat → Nat → α} {l i j : Nat} {v : α} (h : j ≠ l) : qu A l i v j = A j := if_neg h
theorem qset_s {α : Type} {A : Nat → Nat → α} {l : Nat} {f : Nat → α} : qset A l f l = f := if_pos rfl
theorem qset_n {α : Type} {A : Nat → Nat → α} {l j : Nat} {f : Nat → α} (h : j ≠ l) : qset A l f j = A j := if_neg h
/-- an int array of the component, of the model -/
def qia (K : QK) (l n : Nat) : Prop := ql K l ∧ ∀ a b L x, qcont K l a b L x = .inl (K.2.2.2.2 0, n, .inl a)
def qib (K : QK) (l n : Nat) : Prop := ql K l ∧ ∀ a b L x, qcont K l a b L x = .inl (K.2.2.2.2 0, n, .inl b)
theorem qia.at {A : QA} {r : QA × QL × QX × QM} {l n : Nat} (h : qia K l n) : QAt K (A, r) (K.2.1 l) (.inl (K.2.2.2.2 0, n, .inl (A l))) := QAt.lab h.1 (h.2 _ _ _ _)
theorem qib.at {A B : QA} {r : QL × QX × QM} {l n : Nat} (h : qib K l n) : QAt K (A, B, r) (K.2.1 l) (.inl (K.2.2.2.2 0, n, .inl (B l))) := QAt.lab h.1 (h.2 _ _ _ _)
theorem qset_up {α : Type} {A : Nat → Nat → α} {l : Nat} {f : Nat → α} : ∀ j, j ≠ l → qset A l f j = A j := fun _ h => if_neg h
theorem QUp.A {A : QA} {r : QA × QL × QX × QM} {l : Nat} {f : Nat → Int32} : QUp (A, r) (qset A l f, r) l := ⟨fun _ h => if_neg h, fun _ _ => rfl, fun _ _ => rfl, fun _ _ => rfl, rfl⟩
theorem QUp.B {A B : QA} {r : QL × QX × QM} {l : Nat} {f : Nat → Int32} : QUp (A, B, r) (A, qset B l f, r) l := ⟨fun _ _ => rfl, fun _ h => if_neg h, fun _ _ => rfl, fun _ _ => rfl, rfl⟩
theorem QUp.L {A B : QA} {L : QL} {r : QX × QM} {l : Nat} {f : Nat → Int64} : QUp (A, B, L, r) (A, B, qset L l f, r) l := ⟨fun _ _ => rfl, fun _ _ => rfl, fun _ h => if_neg h, fun _ _ => rfl, rfl⟩
theorem QUp.X {A B : QA} {L : QL} {X : QX} {r : QM} {l : Nat} {f : Nat → Option Nat} : QUp (A, B, L, X, r) (A, B, L, qset X l f, r) l := ⟨fun _ _ => rfl, fun _ _ => rfl, fun _ _ => rfl, fun _ h => if_neg h, rfl⟩
theorem r_iastA {A : QA} {r : QA × QL × QX × QM} {lab n j : Nat} {i v : Int32} (E : EV K G p s m args meth c cc own nL) (hw : WP K (A, r) H locs) (hl : qia K lab n) (hin : vp_in i n) (hj : i.toNatClampNeg = j) (hdg : decode cc pc = .ok (.iastore, 1))
    (kk : ∀ (H1 : Heap) (locs1 : List Loc), WP K (qu A lab j v, r) H1 locs1 → W p l e R s m args below meth c H1 locs1 cells slots Q (F0 m (pc + 1) ls rest)) : W p l e R s m args below meth c H locs cells slots Q (F0 m pc ls (.int v :: .int i :: .ref (K.2.1 lab) :: rest)) := by
  subst hj
  obtain ⟨ws, q, hP, hD, hS, hi, back⟩ := hw.lab hl.1
  rw [qat, hl.2] at hi
  refine va_iast E.1 E.2.1 E.2.2.2.1 hP hD hS q 0 hi rfl hin hdg (fun H1 locs1 p1 d1 s1 => ?_)
  have e1 : ∀ f : Nat → Int32, qat K (qset A lab f, r) lab = .inl (K.2.2.2.2 0, n, .inl f) := fun f => by
    unfold qat
    rw [hl.2]
    show Sum.inl (_, _, Sum.inl (qset A lab f lab)) = _
    rw [qset_s]
  refine kk H1 locs1 (back _ QUp.A H1 locs1 ?_ ?_ s1)
  · rw [e1]; exact p1
  · rw [e1]; exact d1
theorem r_iastB {A B : QA} {r : QL × QX × QM} {lab n j : Nat} {i v : Int32} (E : EV K G p s m args meth c cc own nL) (hw : WP K (A, B, r) H locs) (hl : qib K lab n) (hin : vp_in i n) (hj : i.toNatClampNeg = j) (hdg : decode cc pc = .ok (.iastore, 1))
    (kk : ∀ (H1 : Heap) (locs1 : List Loc), WP K (A, qu B lab j v, r) H1 locs1 → W p l e R s m args below meth c H1 locs1 cells slots Q (F0 m (pc + 1) ls rest)) : W p l e R s m args below meth c H locs cells slots Q (F0 m pc ls (.int v :: .int i :: .ref (K.2.1 lab) :: rest)) := by
  subst hj
  obtain ⟨ws, q, hP, hD, hS, hi, back⟩ := hw.lab hl.1
  rw [qat, hl.2] at hi
  refine va_iast E.1 E.2.1 E.2.2.2.1 hP hD hS q 0 hi rfl hin hdg (fun H1 locs1 p1 d1 s1 => ?_)
  have e1 : ∀ f : Nat → Int32, qat K (A, qset B lab f, r) lab = .inl (K.2.2.2.2 0, n, .inl f) := fun f => by
    unfold qat
    rw [hl.2]
    show Sum.inl (_, _, Sum.inl (qset B lab f lab)) = _
    rw [qset_s]
  refine kk H1 locs1 (back _ QUp.B H1 locs1 ?_ ?_ s1)
  · rw [e1]; exact p1
  · rw [e1]; exact d1
theorem r_bastA {A : QA} {r : QA × QL × QX × QM} {lab n j : Nat} {i v : Int32} (E : EV K G p s m args meth c cc own nL) (hw : WP K (A, r) H locs) (hl : ql K lab ∧ ∀ a b L x, qcont K lab a b L x = .inl (K.2.2.2.2 1, n, .inl a)) (hin : vp_in i n) (hj : i.toNatClampNeg = j) (hdg : decode cc pc = .ok (.bastore, 1))
    (kk : ∀ (H1 : Heap) (locs1 : List Loc), WP K (qu A lab j v.toInt8.toInt32, r) H1 locs1 → W p l e R s m args below meth c H1 locs1 cells slots Q (F0 m (pc + 1) ls rest)) : W p l e R s m args below meth c H locs cells slots Q (F0 m pc ls (.int v :: .int i :: .ref (K.2.1 lab) :: rest)) := by
  subst hj
  obtain ⟨ws, q, hP, hD, hS, hi, back⟩ := hw.lab hl.1
  rw [qat, hl.2] at hi
  refine va_bast E.1 E.2.1 E.2.2.2.1 hP hD hS q 1 hi rfl hin hdg (fun H1 locs1 p1 d1 s1 => ?_)
  rw [vp_nar_byte] at p1 d1
  have e1 : ∀ f : Nat → Int32, qat K (qset A lab f, r) lab = .inl (K.2.2.2.2 1, n, .inl f) := fun f => by
    unfold qat
    rw [hl.2]
    show Sum.inl (_, _, Sum.inl (qset A lab f lab)) = _
    rw [qset_s]
  refine kk H1 locs1 (back _ QUp.A H1 locs1 ?_ ?_ s1)
  · rw [e1]; exact p1
  · rw [e1]; exact d1
/-! new cells -/
theorem r_new {ci N : Nat} {C : String} {T : u_T} {fs : List Value} (E : EV K G p s m args meth c cc own nL) (hw : WP K w H locs) (hc : vcl[ci]? = some (C, T, N)) (hin : ∀ w ∈ u_ws C T N, w ∈ lw_all) (ty : Nat → FieldType) (hty : ∀ k, k < N → parseFieldDescriptor (T k).2.2.1 = some (ty k)) {index : Nat} (hcl : Cond.classLink own index C ∈ lw_all) (hinst : Cond.instantiable C N ∈ lw_all) (hini : Cond.initialized C ∈ lw_all) (hfs : ∀ j, j < N → defaultValue (ty j) = vp_V fs j) (hcells : cells + 1 ≤ R.cells) (hslots : slots + N ≤ R.slots) (hdg : decode cc pc = .ok (.new index, 3))
    (kk : ∀ (q : Nat) (H1 : Heap), WP K (w.1, w.2.1, w.2.2.1, w.2.2.2.1, va_up w.2.2.2.2 q (some (.inr (ci, fs)))) H1 locs → w.2.2.2.2 q = none → (∀ j, ql K j → K.2.1 j ≠ q) → K.1.size ≤ q → W p l e R s m args below meth c H1 locs (cells + 1) (slots + N) Q (F0 m (pc + 3) ls (.ref q :: rest))) : W p l e R s m args below meth c H locs cells slots Q (F0 m pc ls rest) := by
  obtain ⟨ws, hP, hD, hS, back⟩ := hw.add
  refine va_new E.1 E.2.1 E.2.2.2.2.1 hin ty hty E.2.2.1 (E.2.2.2.2.1 _ hcl) (E.2.2.2.2.1 _ hinst) (E.2.2.2.2.1 _ hini) E.2.2.2.1 hP hD hS (fun _ h => h) hc hfs hcells hslots hdg (fun q H1 p1 d1 s1 => ?_)
  obtain ⟨h1, h2, h3, h4⟩ := back q _ H1 locs p1 d1 s1
  exact kk q H1 h1 h2 h3 h4
/-! calls -/
theorem c_go {mc ms : Nat} {st0 : List Value} {av : List Value} {P : Option Value → QW → Prop} (hr : va_Run p l e R s m args below meth c H locs cells slots mc ms (F0 m pc ls st0) rest (QE K P av.toArray) (qA K)) (hw : WP K w H locs)
    (kk : ∀ (v : Option Value) (w' : QW) (H1 : Heap) (locs1 : List Loc), P v w' → WP K w' H1 locs1 → W p l e R s m args below meth c H1 locs1 (cells + mc) (slots + ms) Q (F0 m (pc + 3) ls (v.toList ++ rest))) : W p l e R s m args below meth c H locs cells slots Q (F0 m pc ls st0) := by
  intro T hT X
  obtain ⟨v, st₀, t, T', L, h0, X', hL, e1, e2, ⟨v', w', hv, hp, hwp⟩, st⟩ := hr T hT X
  cases hv
  have hw1 : WP K w' T'.heap (locs ++ L) := by
    rw [e1]
    refine hwp.locs (fun x hx => ?_)
    rcases List.mem_append.mp hx with h | h
    · exact hw.S.2.2 x h
    · exact hL x h
  obtain ⟨t2, a1, b1⟩ := kk v w' T'.heap (locs ++ L) hp hw1 T' rfl X'
  exact ⟨t2, st t2 a1, b1⟩
theorem in_pre (hG : QG G) (E : EV K G p s m args meth c cc own nL) (hw : WP K w H locs) (av : List Value) : ∀ U : State, U.heap = H → s.WarmedH U.vm → va_Pc av (IN K G w) av.toArray U := by
  intro U hU hW
  exact ⟨rfl, va_K.moved hW.alike E.2.2.2.1, hG.1 s U hW E.2.2.2.2.2.1, by rw [hU]; exact hw.nil⟩
theorem in_recv {ci N : Nat} {C : String} {T : u_T} {fs : List Value} (E : EV K G p s m args meth c cc own nL) (hw : WP K w H locs) (hq : QAt K w a (.inr (ci, fs))) (hc : vcl[ci]? = some (C, T, N)) : ∃ cellB : Cell, H[a]? = some cellB ∧ cellB.vm.isStatics = false ∧ s.vm.findClass C = some cellB.cls := by
  rcases hq.two with hq | hq
  · obtain ⟨ws, q, hP, hi⟩ := hw.own hq
    exact va_recv E.2.2.2.1 hP hc hi
  · obtain ⟨r, h1, cell, g1, g2, g3, g4, g5, g6⟩ := hq
    exact ⟨cell, (hw.S.2.1 a (Array.getElem?_eq_some_iff.mp g1).1 g6).trans g1, g3, by rw [g2]; exact (E.2.2.2.1.1 ci _ hc).2.1⟩
theorem c_V {y : MethodName} {bytes : ByteArray} {maxL fr lo mc ms n index b ci N : Nat} {C : String} {T : u_T} {fs As : List Value} {ret : Option FieldType} {P : Option Value → QW → Prop} {lv : List (Nat × Value)} (hG : QG G) (E : EV K G p s m args meth c cc own nL) (hw : WP K w H locs) (hM : MC l K G y (ws_ y bytes maxL ret) fr lo mc ms (.ref b :: As) w P) (hq : QAt K w b (.inr (ci, fs))) (hc : vcl[ci]? = some (C, T, N)) (cw : CallW R s args own C index y bytes maxL ret (ws_ y bytes maxL ret) (qrm fr lo mc ms) mc ms n) (hl : lv_has ls nL lv) (hn : As.length = n) {st0 : List Value} (hst : st0 = As.reverse ++ .ref b :: rest) (hW : (rest.map fun v => v.category).sum ≤ 8) (hdg : decode cc pc = .ok (.invokevirtual index, 3)) (hf : cells + mc ≤ R.cells ∧ slots + ms ≤ R.slots)
    (kk : ∀ (v : Option Value) (w' : QW) (H1 : Heap) (locs1 : List Loc), P v w' → WP K w' H1 locs1 → W p l e R s m args below meth c H1 locs1 (cells + mc) (slots + ms) Q (F0 m (pc + 3) ls (v.toList ++ rest))) : W p l e R s m args below meth c H locs cells slots Q (F0 m pc ls st0) :=
  c_go (va_runV (Ts := lw_all) ⟨E.1, E.2.1, E.2.2.2.2.2.2.2, E.2.2.1, E.2.2.2.2.1⟩ hM cw ⟨in_blind hG _ w, in_recv E hw hq hc, in_pre hG E hw _⟩ rfl hn hl.1 hst (lv_room hW) hdg hf) hw kk
theorem c_S {y : MethodName} {bytes : ByteArray} {maxL fr lo mc ms n index : Nat} {As : List Value} {ret : Option FieldType} {P : Option Value → QW → Prop} {lv : List (Nat × Value)} (hG : QG G) (E : EV K G p s m args meth c cc own nL) (hw : WP K w H locs) (hM : MC l K G y (ws_ y bytes maxL ret) fr lo mc ms As w P) (cw : CallB R s args own index y bytes maxL ret (ws_ y bytes maxL ret) (qrm fr lo mc ms) mc ms n ∧ (Cond.static y).before args s = true) (hl : lv_has ls nL lv) (hn : As.length = n) {st0 : List Value} (hst : st0 = As.reverse ++ rest) (hW : (rest.map fun v => v.category).sum ≤ 8) (hdg : decode cc pc = .ok (.invokestatic index, 3)) (hf : cells + mc ≤ R.cells ∧ slots + ms ≤ R.slots)
    (kk : ∀ (v : Option Value) (w' : QW) (H1 : Heap) (locs1 : List Loc), P v w' → WP K w' H1 locs1 → W p l e R s m args below meth c H1 locs1 (cells + mc) (slots + ms) Q (F0 m (pc + 3) ls (v.toList ++ rest))) : W p l e R s m args below meth c H locs cells slots Q (F0 m pc ls st0) :=
  c_go (va_runS (Ts := lw_all) ⟨E.1, E.2.1, E.2.2.2.2.2.2.2, E.2.2.1, E.2.2.2.2.1⟩ hM cw ⟨in_blind hG _ w, in_pre hG E hw _⟩ rfl hn hl.1 hst (lv_room hW) hdg hf) hw kk
theorem c_I {y : MethodName} {bytes : ByteArray} {maxL fr lo mc ms n index b : Nat} {As : List Value} {P : Option Value → QW → Prop} {lv : List (Nat × Value)} (hG : QG G) (E : EV K G p s m args meth c cc own nL) (hw : WP K w H locs) (hM : MC l K G y (ws_ y bytes maxL none) fr lo mc ms (.ref b :: As) w P) (cw : CallB R s args own index y bytes maxL none (ws_ y bytes maxL none) (qrm fr lo mc ms) mc ms n ∧ y.name = "<init>" ∧ (Cond.instanceMethod y).before args s = true) (hl : lv_has ls nL lv) (hn : As.length = n) {st0 : List Value} (hst : st0 = As.reverse ++ .ref b :: rest) (hW : (rest.map fun v => v.category).sum ≤ 8) (hdg : decode cc pc = .ok (.invokespecial index, 3)) (hf : cells + mc ≤ R.cells ∧ slots + ms ≤ R.slots)
    (kk : ∀ (v : Option Value) (w' : QW) (H1 : Heap) (locs1 : List Loc), P v w' → WP K w' H1 locs1 → W p l e R s m args below meth c H1 locs1 (cells + mc) (slots + ms) Q (F0 m (pc + 3) ls (v.toList ++ rest))) : W p l e R s m args below meth c H locs cells slots Q (F0 m pc ls st0) :=
  c_go (va_runI (Ts := lw_all) ⟨E.1, E.2.1, E.2.2.2.2.2.2.2, E.2.2.1, E.2.2.2.2.1⟩ hM cw ⟨in_blind hG _ w, in_pre hG E hw _⟩ rfl hn hl.1 hst (lv_room hW) hdg hf) hw kk
theorem c_SN {y : MethodName} {bytes : ByteArray} {maxL fr lo mc ms n index : Nat} {host : String} {As : List Value} {ret : Option FieldType} {P : Option Value → QW → Prop} {lv : List (Nat × Value)} (hG : QG G) (E : EV K G p s m args meth c cc own nL) (hw : WP K w H locs) (hM : MC l K G y (ws_ y bytes maxL ret) fr lo mc ms As w P) (cw : va_CN R s args own index y host bytes maxL ret (ws_ y bytes maxL ret) (qrm fr lo mc ms) mc ms n ∧ (Cond.static y).before args s = true ∧ True) (hl : lv_has ls nL lv) (hn : As.length = n) {st0 : List Value} (hst : st0 = As.reverse ++ rest) (hW : (rest.map fun v => v.category).sum ≤ 8) (hdg : decode cc pc = .ok (.invokestatic index, 3)) (hf : cells + mc ≤ R.cells ∧ slots + ms ≤ R.slots)
    (kk : ∀ (v : Option Value) (w' : QW) (H1 : Heap) (locs1 : List Loc), P v w' → WP K w' H1 locs1 → W p l e R s m args below meth c H1 locs1 (cells + mc) (slots + ms) Q (F0 m (pc + 3) ls (v.toList ++ rest))) : W p l e R s m args below meth c H locs cells slots Q (F0 m pc ls st0) :=
  c_go (va_runSN (Ts := lw_all) ⟨E.1, E.2.1, E.2.2.2.2.2.2.2, E.2.2.1, E.2.2.2.2.1⟩ hM cw ⟨in_blind hG _ w, in_pre hG E hw _⟩ rfl hn hl.1 hst (lv_room hW) hdg hf) hw kk
theorem c_IN {y : MethodName} {bytes : ByteArray} {maxL fr lo mc ms n index b : Nat} {host : String} {As : List Value} {P : Option Value → QW → Prop} {lv : List (Nat × Value)} (hG : QG G) (E : EV K G p s m args meth c cc own nL) (hw : WP K w H locs) (hM : MC l K G y (ws_ y bytes maxL none) fr lo mc ms (.ref b :: As) w P) (cw : va_CN R s args own index y host bytes maxL none (ws_ y bytes maxL none) (qrm fr lo mc ms) mc ms n ∧ y.name = "<init>" ∧ (Cond.instanceMethod y).before args s = true) (hl : lv_has ls nL lv) (hn : As.length = n) {st0 : List Value} (hst : st0 = As.reverse ++ .ref b :: rest) (hW : (rest.map fun v => v.category).sum ≤ 8) (hdg : decode cc pc = .ok (.invokespecial index, 3)) (hf : cells + mc ≤ R.cells ∧ slots + ms ≤ R.slots)
    (kk : ∀ (v : Option Value) (w' : QW) (H1 : Heap) (locs1 : List Loc), P v w' → WP K w' H1 locs1 → W p l e R s m args below meth c H1 locs1 (cells + mc) (slots + ms) Q (F0 m (pc + 3) ls (v.toList ++ rest))) : W p l e R s m args below meth c H locs cells slots Q (F0 m pc ls st0) :=
  c_go (va_runIN (Ts := lw_all) ⟨E.1, E.2.1, E.2.2.2.2.2.2.2, E.2.2.1, E.2.2.2.2.1⟩ hM cw ⟨in_blind hG _ w, in_pre hG E hw _⟩ rfl hn hl.1 hst (lv_room hW) hdg hf) hw kk
end MYV
