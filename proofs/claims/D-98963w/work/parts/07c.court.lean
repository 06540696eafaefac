/-! VaneCourt's constructor (printed by mk07c.py) -/
set_option maxRecDepth 100000
theorem ad_at {K K' : QK} {l : Nat} {D : va_G} {H : Heap} {d : Nat} {a b : Nat → Int32} {L : Nat → Int64} {x : Nat → Option Nat} (had : ∀ j, j < 1000 → K'.2.1 j = K.2.1 j) (h2 : K'.2.2.2 = K.2.2.2) (hl : l < 1000) : (va_at D vcl (d, qcont K l a b L x) H ↔ va_at D vcl (d, qcont K' l a b L x) H) := by
  obtain ⟨k1, k2, k3, k4⟩ := K
  obtain ⟨k1', k2', k3', k4'⟩ := K'
  have h2 : k4' = k4 := h2
  subst h2
  have had : ∀ j, j < 1000 → k2' j = k2 j := had
  have ne : ∀ (b n i : Nat), b + n ≤ 1000 → i < n → k2 (b + i) = k2' (b + i) := fun b n i h hi => (had _ (by omega)).symm
  have ob : ∀ (n : Nat) (fs fs' : List Value), fs = fs' → (va_at D vcl (d, .inr (n, fs)) H ↔ va_at D vcl (d, .inr (n, fs')) H) := fun n fs fs' h => by rw [h]
  by_cases h0 : l = 0
  · subst h0
    refine ob 0 _ _ ?_
    show xfl (k1, k2, k3, k4') a = xfl (k1', k2', k3', k4') a
    simp only [xfl, had 1 (by decide), had 2 (by decide), had 3 (by decide), had 4 (by decide), had 5 (by decide), had 6 (by decide), had 10 (by decide), had 11 (by decide), had 12 (by decide)]
  by_cases h1 : l = 1
  · subst h1
    refine ob 1 _ _ ?_
    show sfl1 (k1, k2, k3, k4') = sfl1 (k1', k2', k3', k4')
    simp only [sfl1, had 100 (by decide), had 101 (by decide), had 102 (by decide), had 103 (by decide), had 104 (by decide), had 105 (by decide), had 106 (by decide), had 107 (by decide)]
  by_cases h2 : l = 2
  · subst h2
    refine ob 1 _ _ ?_
    show sfl2 (k1, k2, k3, k4') = sfl2 (k1', k2', k3', k4')
    simp only [sfl2, had 200 (by decide), had 201 (by decide), had 202 (by decide), had 203 (by decide), had 204 (by decide), had 205 (by decide), had 206 (by decide), had 207 (by decide)]
  by_cases h3 : l = 3
  · subst h3; exact Iff.rfl
  by_cases h13 : l = 13
  · subst h13
    refine ob 3 _ _ ?_
    show tfl (k1, k2, k3, k4') a = tfl (k1', k2', k3', k4') a
    simp only [tfl, had 3 (by decide)]
  by_cases h6 : l = 6
  · subst h6
    exact ⟨fun q => qg_at (fun i hi => ne 7 3 i (by omega) hi) q, fun q => qg_at (fun i hi => (ne 7 3 i (by omega) hi).symm) q⟩
  by_cases h102 : l = 102
  · subst h102
    exact ⟨fun q => qg_at (fun i hi => ne 110 8 i (by omega) hi) q, fun q => qg_at (fun i hi => (ne 110 8 i (by omega) hi).symm) q⟩
  by_cases h103 : l = 103
  · subst h103
    exact ⟨fun q => qg_at (fun i hi => ne 120 8 i (by omega) hi) q, fun q => qg_at (fun i hi => (ne 120 8 i (by omega) hi).symm) q⟩
  by_cases h104 : l = 104
  · subst h104
    exact ⟨fun q => qg_at (fun i hi => ne 130 8 i (by omega) hi) q, fun q => qg_at (fun i hi => (ne 130 8 i (by omega) hi).symm) q⟩
  by_cases h105 : l = 105
  · subst h105
    exact ⟨fun q => qg_at (fun i hi => ne 140 8 i (by omega) hi) q, fun q => qg_at (fun i hi => (ne 140 8 i (by omega) hi).symm) q⟩
  by_cases h106 : l = 106
  · subst h106
    exact ⟨fun q => qg_at (fun i hi => ne 150 30 i (by omega) hi) q, fun q => qg_at (fun i hi => (ne 150 30 i (by omega) hi).symm) q⟩
  by_cases h202 : l = 202
  · subst h202
    exact ⟨fun q => qg_at (fun i hi => ne 210 8 i (by omega) hi) q, fun q => qg_at (fun i hi => (ne 210 8 i (by omega) hi).symm) q⟩
  by_cases h203 : l = 203
  · subst h203
    exact ⟨fun q => qg_at (fun i hi => ne 220 8 i (by omega) hi) q, fun q => qg_at (fun i hi => (ne 220 8 i (by omega) hi).symm) q⟩
  by_cases h204 : l = 204
  · subst h204
    exact ⟨fun q => qg_at (fun i hi => ne 230 8 i (by omega) hi) q, fun q => qg_at (fun i hi => (ne 230 8 i (by omega) hi).symm) q⟩
  by_cases h205 : l = 205
  · subst h205
    exact ⟨fun q => qg_at (fun i hi => ne 240 8 i (by omega) hi) q, fun q => qg_at (fun i hi => (ne 240 8 i (by omega) hi).symm) q⟩
  by_cases h206 : l = 206
  · subst h206
    exact ⟨fun q => qg_at (fun i hi => ne 250 30 i (by omega) hi) q, fun q => qg_at (fun i hi => (ne 250 30 i (by omega) hi).symm) q⟩
  by_cases h107 : l = 107
  · subst h107; exact Iff.rfl
  by_cases h207 : l = 207
  · subst h207; exact Iff.rfl
  have h1000 : ¬ l = 1000 := by omega
  have h1008 : ¬ l = 1008 := by omega
  have h1009 : ¬ l = 1009 := by omega
  simp only [qcont, if_neg h13, if_neg h0, if_neg h1, if_neg h2, if_neg h3, if_neg h6, if_neg h102, if_neg h103, if_neg h104, if_neg h105, if_neg h106, if_neg h202, if_neg h203, if_neg h204, if_neg h205, if_neg h206, if_neg h107, if_neg h207, if_neg h1000, if_neg h1008, if_neg h1009]

theorem OwnL.newc {M0 M : QM} {Z : va_W} {p : Nat × va_E} {q : Nat} {e : va_E} (h : OwnL M0 M (p :: Z)) (hq : M q = none) : OwnL M0 (va_up M q (some e)) (p :: (q, e) :: Z) := by
  obtain ⟨h1, h2, h3⟩ := h.new (e := e) hq
  have hp : (p :: (q, e) :: Z).Perm (p :: Z ++ [(q, e)]) := by
    show (p :: (q, e) :: Z).Perm (p :: (Z ++ [(q, e)]))
    exact List.Perm.cons _ (List.perm_append_singleton _ _).symm
  exact ⟨h1, fun z hz => h2 z (hp.mem_iff.mp hz), (hp.map _).nodup_iff.mpr h3⟩
/-- contracts of constructors that lay labels -/
abbrev QEk (K : QK) (P : Option Value → QK → QW → Prop) : Array Value → State → Outcome → State → Prop := fun _ _ oc t => ∃ (v : Option Value) (K' : QK) (w' : QW), oc = .returned v ∧ (K'.1 = K.1 ∧ K'.2.2.2 = K.2.2.2) ∧ P v K' w' ∧ WP K' w' t.heap []
def MK (l : Launch) (K : QK) (G : State → Prop) (y : MethodName) (ws : List Cond) (fr lo mc ms : Nat) (av : List Value) (w : QW) (P : Option Value → QK → QW → Prop) : Prop :=
  Met l y ws (qrm fr lo mc ms) (va_Pc av (IN K G w)) (QEk K P) mc ms (qA K)
theorem MK.ofI {l : Launch} {K : QK} {G : State → Prop} {w : QW} {y : MethodName} {fr lo mc ms : Nat} {av : List Value} {P : Option Value → QK → QW → Prop} {bytes : ByteArray} {maxL : Nat} {ret : Option FieldType} (hy : plainName y.cls = true) (hlen : (lg_sl av).length ≤ maxL) {lv : List (Nat × Value)} (hlv : lv_args 0 av = lv)
    (body : ∀ (p : Program) (e : Env) (s : State) (m : MethodId) (below : List Frame) (meth : Method) (c : Code) (ls : Array Slot), EV K G p s m av.toArray meth c bytes y.cls maxL → meth.sig.returnType = ret → meth.name = y.name → lv_has ls maxL lv → WP K w s.heap [] →
      W p l e (qrm fr lo mc ms) s m av.toArray below meth c s.heap [] 0 0 (MQ below (QEk K P) av.toArray s mc ms (qA K)) (F0 m 0 ls [])) : MK l K G y (ws_ y bytes maxL ret) fr lo mc ms av w P := by
  refine Met.ofW (cc := bytes) (maxL := maxL) (ret := ret) hy rfl ?_
  intro p e s m args below meth c s₁ B hml hv
  obtain ⟨rfl, hK, hG, hw⟩ := hv
  have hts := atoms_spec (ws := ws_ y bytes maxL ret) B.pre
  have hts : ∀ w ∈ lw_all, w.before _ s = true := fun w h => hts w (List.mem_cons_of_mem _ h)
  have hown : s.vm.findClass y.cls = some m.cls := findClass_of_methodNamed B.named
  have hl := lv_entry av (n := maxL) hlen
  rw [lg_entry_eq]
  rw [hlv] at hl
  exact body p e s m below meth c _ ⟨B.exec, B.bytes, hown, hK, hts, hG, B.notSynchronized, hml⟩ B.returns (name_of_methodNamed B.named B.method).1 hl hw
section MYMK
variable {p : Program} {l : Launch} {e : Env} {R : Room} {s : State} {m : MethodId} {args : Array Value} {below : List Frame} {meth : Method} {c : Code} {H : Heap} {locs : List Loc} {cells slots : Nat} {Q : State → Prop}
variable {cc : ByteArray} {pc : Nat} {ls : Array Slot} {rest : List Value} {own : String} {nL : Nat}
variable {K : QK} {G : State → Prop} {w : QW}
theorem r_retK {K' : QK} {w' : QW} {P : Option Value → QK → QW → Prop} {mc ms : Nat} (E : EV K G p s m args meth c cc own nL) (hr : meth.sig.returnType = none) (hk : K'.1 = K.1 ∧ K'.2.2.2 = K.2.2.2) (hP : P none K' w') (hw : WP K' w' H locs) (hc : cells ≤ mc) (hs : slots ≤ ms) (hdg : decode cc pc = .ok (.return_, 1)) : W p l e R s m args below meth c H locs cells slots (MQ below (QEk K P) args s mc ms (qA K)) (F0 m pc ls []) := by
  refine W.widen hc hs ?_
  have hA : qA K' = qA K := by unfold qA; rw [hk.1]
  exact W.vret E.1 E.2.1 hr (fun t ht hW => ⟨none, K', w', rfl, hk, hP, by rw [ht]; exact hw.nil⟩) (by rw [← hA]; exact hw.S.2.2) hdg E.2.2.2.2.2.2.1
theorem c_IK {y : MethodName} {bytes : ByteArray} {maxL fr lo mc ms n index b : Nat} {As : List Value} {P : Option Value → QK → QW → Prop} {lv : List (Nat × Value)} (hG : QG G) (E : EV K G p s m args meth c cc own nL) (hw : WP K w H locs) (hM : MK l K G y (ws_ y bytes maxL none) fr lo mc ms (.ref b :: As) w P) (cw : CallB R s args own index y bytes maxL none (ws_ y bytes maxL none) (qrm fr lo mc ms) mc ms n ∧ y.name = "<init>" ∧ (Cond.instanceMethod y).before args s = true) (hl : lv_has ls nL lv) (hn : As.length = n) {st0 : List Value} (hst : st0 = As.reverse ++ .ref b :: rest) (hW : (rest.map fun v => v.category).sum ≤ 8) (hdg : decode cc pc = .ok (.invokespecial index, 3)) (hf : cells + mc ≤ R.cells ∧ slots + ms ≤ R.slots)
    (kk : ∀ (v : Option Value) (K' : QK) (w' : QW) (H1 : Heap) (locs1 : List Loc), K'.1 = K.1 ∧ K'.2.2.2 = K.2.2.2 → P v K' w' → WP K' w' H1 locs1 → W p l e R s m args below meth c H1 locs1 (cells + mc) (slots + ms) Q (F0 m (pc + 3) ls (v.toList ++ rest))) : W p l e R s m args below meth c H locs cells slots Q (F0 m pc ls st0) := by
  have hr : va_Run p l e R s m args below meth c H locs cells slots mc ms (F0 m pc ls st0) rest (QEk K P (Value.ref b :: As).toArray) (qA K) := va_runI (Ts := lw_all) ⟨E.1, E.2.1, E.2.2.2.2.2.2.2, E.2.2.1, E.2.2.2.2.1⟩ hM cw ⟨in_blind hG _ w, in_pre hG E hw _⟩ rfl hn hl.1 hst (lv_room hW) hdg hf
  intro T hT X
  obtain ⟨v, st₀, t, T', L, h0, X', hL, e1, e2, ⟨v', K', w', hv, hk, hp, hwp⟩, st⟩ := hr T hT X
  cases hv
  have hA : qA K' = qA K := by unfold qA; rw [hk.1]
  have hw1 : WP K' w' T'.heap (locs ++ L) := by
    rw [e1]
    refine hwp.locs (fun x hx => ?_)
    rw [hA]
    rcases List.mem_append.mp hx with h | h
    · exact hw.S.2.2 x h
    · exact hL x h
  obtain ⟨t2, a1, b1⟩ := kk v K' w' T'.heap (locs ++ L) hk hp hw1 T' rfl X'
  exact ⟨t2, st t2 a1, b1⟩
end MYMK
def cLab (l : Nat) : Bool := (decide (l < 13) || (decide (100 ≤ l) && (decide (l < 108) || (decide (110 ≤ l) && decide (l < 118)) || (decide (120 ≤ l) && decide (l < 128)) || (decide (130 ≤ l) && decide (l < 138)) || (decide (140 ≤ l) && decide (l < 148)) || (decide (150 ≤ l) && decide (l < 180)) || (decide (200 ≤ l) && decide (l < 208)) || (decide (210 ≤ l) && decide (l < 218)) || (decide (220 ≤ l) && decide (l < 228)) || (decide (230 ≤ l) && decide (l < 238)) || (decide (240 ≤ l) && decide (l < 248)) || (decide (250 ≤ l) && decide (l < 280)))))
abbrev iniA : QA := fun l => if l = 0 then va_up (va_up (fun _ => 0) 4 (-1)) 5 (-1) else if l = 100 then iniN else if l = 200 then iniN else if l = 101 then iniR else if l = 201 then iniR else fun _ => 0
def adS (an ar g2 g3 g4 g5 g6 ax : Nat) (o : Nat) : Nat := if o < 10 then (if o = 0 then an else if o = 1 then ar else if o = 2 then g2 else if o = 3 then g3 else if o = 4 then g4 else if o = 5 then g5 else if o = 6 then g6 else ax) else if o < 20 then g2 + 1 + (o - 10) else if o < 30 then g3 + 1 + (o - 20) else if o < 40 then g4 + 1 + (o - 30) else if o < 50 then g5 + 1 + (o - 40) else g6 + 1 + (o - 50)
def adX (x s1 s2 tp nm tr gn cm od bo : Nat) (f1 f2 : Nat → Nat) (l : Nat) : Nat := if 200 ≤ l then f2 (l - 200) else if 100 ≤ l then f1 (l - 100) else if l = 0 then x else if l = 1 then s1 else if l = 2 then s2 else if l = 3 then tp else if l = 4 then nm else if l = 5 then tr else if l = 6 then gn else if l = 10 then cm else if l = 11 then od else if l = 12 then bo else gn + 1 + (l - 7)
/-- the component's labels are laid -/
abbrev cK (K : QK) (ad : Nat → Nat) : QK := (K.1, fun l => if l < 1000 then ad l else K.2.1 l, cLab, K.2.2.2)
abbrev stL (b : Nat) : List Nat := b :: (b + 1) :: ([] ++ (b + 2) :: (List.range 8).map (fun i => b + 10 + i) ++ (b + 3) :: (List.range 8).map (fun i => b + 20 + i) ++ (b + 4) :: (List.range 8).map (fun i => b + 30 + i) ++ (b + 5) :: (List.range 8).map (fun i => b + 40 + i) ++ (b + 6) :: (List.range 30).map (fun i => b + 50 + i) ++ [b + 7])
abbrev cLs : List Nat := 0 :: 12 :: 11 :: 10 :: ((5 :: 4 :: 3 :: ((2 :: ([1] ++ stL 100)) ++ stL 200)) ++ [6, 7, 8, 9])
theorem cLs_all : ∀ l, l < 1018 → cLab l = true → l ∈ cLs := by decide +kernel
