/-! texts as cells, and rows that read them -/
set_option maxRecDepth 100000
/-- a doing: sort, a, b, c, number -/
abbrev QDo : Type := Int32 × Int32 × Int32 × Int32 × Int32
/-- a text: codes by quarter, veers, blows, sentence, fogs, doings -/
abbrev QT : Type := (Nat → Option (QC × QB)) × Option (QC × QS) × Option (QC × QS) × Option (QC × QS) × Option (QC × QB) × List QDo
abbrev tD : Nat := 60
def SOpt (K : QK) (M : QM) (v : Value) (o : Option (QC × QS)) : Prop := (v = .null ∧ o = none) ∨ ∃ (a : Nat) (q : QC × QS), v = .ref a ∧ o = some q ∧ SumAt K M tD a q.1 q.2
def AOpt (K : QK) (M : QM) (v : Value) (o : Option (QC × QB)) : Prop := (v = .null ∧ o = none) ∨ ∃ (a : Nat) (q : QC × QB), v = .ref a ∧ o = some q ∧ AskAt K M tD a q.1 q.2
theorem SOpt.ext {K : QK} {M M' : QM} {v : Value} {o : Option (QC × QS)} (h : SOpt K M v o) (hx : QExt M M') : SOpt K M' v o := by
  rcases h with h | ⟨a, q, h1, h2, h3⟩
  · exact Or.inl h
  · exact Or.inr ⟨a, q, h1, h2, SumAt.ext hx _ _ _ _ h3⟩
theorem AOpt.ext {K : QK} {M M' : QM} {v : Value} {o : Option (QC × QB)} (h : AOpt K M v o) (hx : QExt M M') : AOpt K M' v o := by
  rcases h with h | ⟨a, q, h1, h2, h3⟩
  · exact Or.inl h
  · exact Or.inr ⟨a, q, h1, h2, AskAt.ext hx _ _ _ _ h3⟩
/-- the list at a holds these doings -/
def DosAt (K : QK) (M : QM) (a : Nat) (ds : List QDo) : Prop := ∃ xs : List Nat, LstAt K M a xs ∧ xs.length = ds.length ∧ ∀ (i x : Nat) (d : QDo), xs[i]? = some x → ds[i]? = some d → DAt K M x (.inr (16, [.int d.1, .int d.2.1, .int d.2.2.1, .int d.2.2.2.1, .int d.2.2.2.2]))
theorem DosAt.ext {K : QK} {M M' : QM} {a : Nat} {ds : List QDo} (h : DosAt K M a ds) (hx : QExt M M') : DosAt K M' a ds := by
  obtain ⟨xs, h1, h2, h3⟩ := h
  exact ⟨xs, h1.ext hx, h2, fun i x d q1 q2 => (h3 i x d q1 q2).ext hx⟩
/-- a text's codes: a row that was made, or one older than the law -/
def CodAt (K : QK) (G : State → Prop) (M : QM) (ca : Nat) (cf : Nat → Option Nat) : Prop := DAt K M ca (.inl (K.2.2.2.2 6, 4, .inr (.inr (.inr (.inr cf))))) ∨ ∀ U, G U → va_T (.object "VaneCourt$Asked") ca 4 (fun j => va_rf (cf j)) (qA K) U K.1
theorem CodAt.ext {K : QK} {G : State → Prop} {M M' : QM} {ca : Nat} {cf : Nat → Option Nat} (h : CodAt K G M ca cf) (hx : QExt M M') : CodAt K G M' ca cf := by
  rcases h with h | h
  · exact Or.inl (h.ext hx)
  · exact Or.inr h
def TextAt (K : QK) (G : State → Prop) (M : QM) (a : Nat) (t : QT) : Prop := ∃ (ca : Nat) (cf : Nat → Option Nat) (ve bl se fo : Value) (cl : Int32) (da : Nat), DAt K M a (.inr (4, [.ref ca, ve, bl, se, fo, .int cl, .ref da])) ∧ CodAt K G M ca cf ∧ (∀ q, q < 4 → AOpt K M (va_rf (cf q)) (t.1 q)) ∧ SOpt K M ve t.2.1 ∧ SOpt K M bl t.2.2.1 ∧ SOpt K M se t.2.2.2.1 ∧ AOpt K M fo t.2.2.2.2.1 ∧ DosAt K M da t.2.2.2.2.2
theorem TextAt.ext {K : QK} {G : State → Prop} {M M' : QM} {a : Nat} {t : QT} (h : TextAt K G M a t) (hx : QExt M M') : TextAt K G M' a t := by
  obtain ⟨ca, cf, ve, bl, se, fo, cl, da, h1, h2, h3, h4, h5, h6, h7, h8⟩ := h
  exact ⟨ca, cf, ve, bl, se, fo, cl, da, h1.ext hx, h2.ext hx, fun q hq => (h3 q hq).ext hx, h4.ext hx, h5.ext hx, h6.ext hx, h7.ext hx, h8.ext hx⟩
/-- the texts by their handles (-1: none told), where they stand -/
def QTx (K : QK) (G : State → Prop) (X : QX) (M : QM) (T : Int32 → Option QT) (ta : Int32 → Nat) : Prop :=
  QF G ∧ (∀ h t, T h = some t → TextAt K G M (ta h) t) ∧ (∀ U, G U → va_Z "VaneCourt" "NOTHING" "LVaneCourt$Text;" (.ref (ta (-1))) (qA K) U K.1) ∧ ∀ (h : Int32) t, qok h 4 = true → T h = some t → X 107 h.toNatClampNeg = some (ta h)
def qopt {α β : Type} (o : Option α) (n : Option β) (k : α → Option β) : Option β := match o with
  | none => n
  | some a => k a
theorem qopt_c {α β : Type} {o : Option α} {n : Option β} {k : α → Option β} {z : β} (h : qopt o n k = some z) : (o = none ∧ n = some z) ∨ ∃ a, o = some a ∧ k a = some z := by
  cases o with
  | none => exact Or.inl ⟨rfl, h⟩
  | some a => exact Or.inr ⟨a, rfl, h⟩
section MYT
variable {p : Program} {l : Launch} {e : Env} {R : Room} {s : State} {m : MethodId} {args : Array Value} {below : List Frame} {meth : Method} {c : Code} {H : Heap} {locs : List Loc} {cells slots : Nat} {Q : State → Prop}
variable {cc : ByteArray} {pc : Nat} {ls : Array Slot} {rest : List Value} {own : String} {nL : Nat}
variable {K : QK} {G : State → Prop} {w : QW} {T : Int32 → Option QT} {ta : Int32 → Nat}
theorem r_gets {C n d : String} {v : Value} {index : Nat} (E : EV K G p s m args meth c cc own nL) (hw : WP K w H locs) (hZ : va_Z C n d v (qA K) s K.1) (hlink : Cond.fieldLink own index C n d ∈ lw_all) (hdg : decode cc pc = .ok (.getstatic index, 3))
    (kk : W p l e R s m args below meth c H locs cells slots Q (F0 m (pc + 3) ls (v :: rest))) : W p l e R s m args below meth c H locs cells slots Q (F0 m pc ls rest) := by
  obtain ⟨cf, kf, fi, f, a, cell, h1, h2, h3, h4, h5, h6, h7, h8⟩ := hZ
  exact W.gets E.1 E.2.1 E.2.2.1 (E.2.2.2.2.1 _ hlink) h1 h2 h3 h4 (by rw [hw.S.2.1 a (Array.getElem?_eq_some_iff.mp h5).1 h8]; exact h5) (fun e => by rw [e] at h6; cases h6) h7 rfl hdg kk
theorem r_txv {A : QA} {rs : QA × QL × QX × QM} {h : Int32} {t : QT} {host : String} (hG : QG G) (E : EV K G p s m args meth c cc own nL) (hw : WP K (A, rs) H locs) (hT : QTx K G rs.2.2.1 rs.2.2.2 T ta) (ht : T h = some t) (j : Nat) (hj : 1 ≤ j ∧ j ≤ 4) {index : Nat} (hlink : Cond.fieldLinkNest own index (TX4 j).1 (TX4 j).2.1 (TX4 j).2.2.1 host ∈ lw_tbl) (hdg : decode cc pc = .ok (.getfield index, 3))
    (kk : ∀ ve bl se fo : Value, SOpt K rs.2.2.2 ve t.2.1 → SOpt K rs.2.2.2 bl t.2.2.1 → SOpt K rs.2.2.2 se t.2.2.2.1 → AOpt K rs.2.2.2 fo t.2.2.2.2.1 → W p l e R s m args below meth c H locs cells slots Q (F0 m (pc + 3) ls (([ve, bl, se, fo].getD (j - 1) .null) :: rest))) : W p l e R s m args below meth c H locs cells slots Q (F0 m pc ls (.ref (ta h) :: rest)) := by
  obtain ⟨ca, cf, ve, bl, se, fo, cl, da, h1, h2, h3, h4, h5, h6, h7, h8⟩ := hT.2.1 h t ht
  have hv : ([.ref ca, ve, bl, se, fo, .int cl, .ref da] : List Value)[j]? = some ([ve, bl, se, fo].getD (j - 1) .null) := by
    rcases (show j = 1 ∨ j = 2 ∨ j = 3 ∨ j = 4 by omega) with rfl | rfl | rfl | rfl <;> rfl
  exact r_getN hG E hw h1.q4 (T := TX4) (N := 7) rfl in_X4 j (by omega) hlink hv hdg (kk ve bl se fo h4 h5 h6 h7)
theorem r_txc {A : QA} {rs : QA × QL × QX × QM} {h : Int32} {t : QT} {host : String} (hG : QG G) (E : EV K G p s m args meth c cc own nL) (hw : WP K (A, rs) H locs) (hT : QTx K G rs.2.2.1 rs.2.2.2 T ta) (ht : T h = some t) {index : Nat} (hlink : Cond.fieldLinkNest own index (TX4 0).1 (TX4 0).2.1 (TX4 0).2.2.1 host ∈ lw_tbl) (hdg : decode cc pc = .ok (.getfield index, 3))
    (kk : ∀ (ca : Nat) (cf : Nat → Option Nat), CodAt K G rs.2.2.2 ca cf → (∀ q, q < 4 → AOpt K rs.2.2.2 (va_rf (cf q)) (t.1 q)) → W p l e R s m args below meth c H locs cells slots Q (F0 m (pc + 3) ls (.ref ca :: rest))) : W p l e R s m args below meth c H locs cells slots Q (F0 m pc ls (.ref (ta h) :: rest)) := by
  obtain ⟨ca, cf, ve, bl, se, fo, cl, da, h1, h2, h3, h4, h5, h6, h7, h8⟩ := hT.2.1 h t ht
  exact r_getN hG E hw h1.q4 (T := TX4) (N := 7) rfl in_X4 0 (by omega) hlink rfl hdg (kk ca cf h2 h3)
/-- a value that may be null: which it is, by what is said of it -/
theorem SOpt.no {M : QM} {v : Value} {o : Option (QC × QS)} (h : SOpt K M v o) (e : o = none) : v = .null := by
  rcases h with h | ⟨a, q, h1, h2, h3⟩
  · exact h.1
  · rw [e] at h2; cases h2
theorem SOpt.so {M : QM} {v : Value} {o : Option (QC × QS)} {q : QC × QS} (h : SOpt K M v o) (e : o = some q) : ∃ a, v = .ref a ∧ SumAt K M tD a q.1 q.2 := by
  rcases h with h | ⟨a, q1, h1, h2, h3⟩
  · rw [e] at h; cases h.2
  · rw [e] at h2; cases h2; exact ⟨a, h1, h3⟩
theorem AOpt.no {M : QM} {v : Value} {o : Option (QC × QB)} (h : AOpt K M v o) (e : o = none) : v = .null := by
  rcases h with h | ⟨a, q, h1, h2, h3⟩
  · exact h.1
  · rw [e] at h2; cases h2
theorem AOpt.so {M : QM} {v : Value} {o : Option (QC × QB)} {q : QC × QB} (h : AOpt K M v o) (e : o = some q) : ∃ a, v = .ref a ∧ AskAt K M tD a q.1 q.2 := by
  rcases h with h | ⟨a, q1, h1, h2, h3⟩
  · rw [e] at h; cases h.2
  · rw [e] at h2; cases h2; exact ⟨a, h1, h3⟩
theorem r_cald {A : QA} {rs : QA × QL × QX × QM} {ca j : Nat} {cf : Nat → Option Nat} {i : Int32} (E : EV K G p s m args meth c cc own nL) (hw : WP K (A, rs) H locs) (hc : CodAt K G rs.2.2.2 ca cf) (hin : vp_in i 4) (hj : i.toNatClampNeg = j) (hdg : decode cc pc = .ok (.aaload, 1))
    (kk : W p l e R s m args below meth c H locs cells slots Q (F0 m (pc + 1) ls (va_rf (cf j) :: rest))) : W p l e R s m args below meth c H locs cells slots Q (F0 m pc ls (.int i :: .ref ca :: rest)) := by
  rcases hc with hc | hc
  · exact r_aald (t := 6) (j := j) E hw rfl hc.q4 hin hj hdg kk
  · subst hj
    obtain ⟨cell, h1, h2, h3, h4, h5, h6, h7⟩ := hc s E.2.2.2.2.2.1
    have hlt : i.toNatClampNeg < 4 := vp_in_lt hin
    have hin' : ¬ (i < 0 ∨ cell.slots.size ≤ i.toNatClampNeg) := by
      intro q
      rcases q with q | q
      · exact hin (Or.inl q)
      · omega
    exact W.aald (v := va_rf (cf i.toNatClampNeg)) (ty := .object "VaneCourt$Asked") E.1 E.2.1 (by rw [hw.S.2.1 ca (Array.getElem?_eq_some_iff.mp h1).1 h7]; exact h1) h2 rfl h3 hin' (h6 _ hlt) rfl rfl hdg kk
theorem r_caad {A : QA} {rs : QA × QL × QX × QM} {ca j : Nat} {i : Int32} {cf : Nat → Option Nat} {v : Value} (E : EV K G p s m args meth c cc own nL) (hw : WP K (A, rs) H locs) (h1 : CodAt K G rs.2.2.2 ca cf) (hin : vp_in i 4) (hj : i.toNatClampNeg = j) (hv : va_rf (cf j) = v) (hdg : decode cc pc = .ok (.aaload, 1))
    (kk : W p l e R s m args below meth c H locs cells slots Q (F0 m (pc + 1) ls (v :: rest))) : W p l e R s m args below meth c H locs cells slots Q (F0 m pc ls (.int i :: .ref ca :: rest)) := by
  refine r_cald (j := j) E hw h1 hin hj hdg ?_
  rw [hv]
  exact kk
/-- a text out of now.text -/
theorem r_txa {A : QA} {rs : QA × QL × QX × QM} {i : Int32} {t : QT} (E : EV K G p s m args meth c cc own nL) (hw : WP K (A, rs) H locs) (hC : QCl K) (hT : QTx K G rs.2.2.1 rs.2.2.2 T ta) (hi : qok i 4 = true) (ht : T i = some t) (hdg : decode cc pc = .ok (.aaload, 1))
    (kk : W p l e R s m args below meth c H locs cells slots Q (F0 m (pc + 1) ls (.ref (ta i) :: rest))) : W p l e R s m args below meth c H locs cells slots Q (F0 m pc ls (.int i :: .ref (K.2.1 107) :: rest)) := by
  refine r_aald (t := 5) (j := i.toNatClampNeg) E hw rfl (QAt.lab (hC 107 rfl) rfl) (qok_in hi) rfl hdg ?_
  rw [hT.2.2.2 i t hi ht]
  exact kk
end MYT
/-- VaneCourt.rules -/
def f_X0_rules (T : Int32 → Option QT) (A : QA) : Option Int32 :=
  if A 100 2 = (-1:Int32) then some (-1:Int32) else (
  qif (qok (A 100 2) 4) <|
  qb1 (T (A 100 2)) fun _ =>
  some (A 100 2))
set_option maxHeartbeats 4000000 in
theorem m_X0_rules (l : Launch) {K : QK} {G : State → Prop} (hG : QG G) (hC : QCl K) {rs : QA × QL × QX × QM} {T : Int32 → Option QT} {ta : Int32 → Nat} (hT : QTx K G rs.2.2.1 rs.2.2.2 T ta) {A : QA} {ro : Int32} (h : f_X0_rules T A = some ro) : MC l K G yX0_rules (ws_ yX0_rules cX0_rules 1 (some (.object "VaneCourt$Text"))) 1 40 0 0 [.ref (K.2.1 0)] (A, rs) (QR (some (.ref (ta ro))) (A, rs)) := by
  refine MC.of (by decide) (Nat.le_of_ble_eq_true rfl) (lv := [(0, .ref (K.2.1 0))]) rfl (fun p e s m below meth c ls E hr hl hw => ?_)
  have hx := E.1
  have hb := E.2.1
  have hown := E.2.2.1
  have hts := E.2.2.2.2.1
  rw [f_X0_rules] at h
  refine lv_aload_n hx hb dX0_rules_0 rfl (lv_at hl 0 rfl) ?_
  refine r_getX (v := .ref (K.2.1 1)) E hw hC 0 (by decide) q238 rfl dX0_rules_1 ?_
  refine r_getS1 (v := .ref (K.2.1 100)) hG E hw hC 0 (by decide) q191 rfl dX0_rules_4 ?_
  refine lv_iconst (v := (2:Int32)) hx hb dX0_rules_7 (by decide) ?_
  refine r_iald (j := 2) E hw (qi_100 hC).at (q_lit (k := 2) (n := 7) rfl rfl) (q_clamp (k := 2) rfl) dX0_rules_8 ?_
  refine lv_iconst (v := (-1:Int32)) hx hb dX0_rules_9 (by decide) ?_
  refine lv_icmp_ne (tgt := 19) hx hb dX0_rules_10 (by decide) (fun c => ?_) (fun c => ?_)
  · have h := qi_f c h
    obtain ⟨z, h⟩ := qif_s h
    obtain ⟨t, ht, h⟩ := qb1_s h
    have h := Option.some.inj h
    refine lv_aload_n hx hb dX0_rules_19 rfl (lv_at hl 0 rfl) ?_
    refine r_getX (v := .ref (K.2.1 1)) E hw hC 0 (by decide) q238 rfl dX0_rules_20 ?_
    refine r_getS1 (v := .ref (K.2.1 107)) hG E hw hC 7 (by decide) q205 rfl dX0_rules_23 ?_
    refine lv_aload_n hx hb dX0_rules_26 rfl (lv_at hl 0 rfl) ?_
    refine r_getX (v := .ref (K.2.1 1)) E hw hC 0 (by decide) q238 rfl dX0_rules_27 ?_
    refine r_getS1 (v := .ref (K.2.1 100)) hG E hw hC 0 (by decide) q191 rfl dX0_rules_30 ?_
    refine lv_iconst (v := (2:Int32)) hx hb dX0_rules_33 (by decide) ?_
    refine r_iald (j := 2) E hw (qi_100 hC).at (q_lit (k := 2) (n := 7) rfl rfl) (q_clamp (k := 2) rfl) dX0_rules_34 ?_
    refine r_txa E hw hC hT z ht dX0_rules_35 ?_
    exact d_aret E hr (Or.inl ⟨_, rfl⟩) (Or.inr ⟨_, rfl⟩) hw (by rw [h]) rfl dX0_rules_36
  · have h := Option.some.inj (qi_t c h)
    refine r_gets E hw (hT.2.2.1 s E.2.2.2.2.2.1) q914 dX0_rules_13 ?_
    refine lv_goto (tgt := 36) hx hb dX0_rules_16 (by decide) ?_
    exact d_aret E hr (Or.inl ⟨_, rfl⟩) (Or.inr ⟨_, rfl⟩) hw (by rw [h]) rfl dX0_rules_36
