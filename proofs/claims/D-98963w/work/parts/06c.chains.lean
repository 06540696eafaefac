/-! Chain.itself; a chain while it is being made -/
set_option maxRecDepth 100000
theorem kd_J2_isEmpty : yJ2_isEmpty.cls ≠ "java/lang/invoke/MethodHandle" ∧ yJ2_isEmpty.cls ≠ "java/lang/invoke/VarHandle" ∧ (parseMethodDescriptor yJ2_isEmpty.desc).map (fun d => d.parameters.length) = some 0 := by decide +kernel
theorem LM.ext {K : QK} {ea : Nat} {M M' : QM} {a ed : Nat} {xs : List Nat} (h : LM K ea M a ed xs) (hx : QExt M M') : LM K ea M' a ed xs := by
  obtain ⟨mo, q1, q2⟩ := h
  refine ⟨mo, hx _ _ q1, ?_⟩
  rcases q2 with q2 | ⟨q2, f, q3, q4⟩
  · exact Or.inl q2
  · exact Or.inr ⟨q2, f, hx _ _ q3, q4⟩
theorem LM.lst {K : QK} {ea : Nat} {M0 M : QM} {a ed : Nat} {xs : List Nat} (h : LM K ea M a ed xs) (h1 : M0 a = none) (h2 : xs ≠ [] → M0 ed = none) (hl : xs.length < 200) : LstAt K (qnew M0 M) a xs := by
  obtain ⟨mo, q1, q2⟩ := h
  rcases q2 with ⟨q2, -⟩ | ⟨q2, f, q3, q4⟩
  · subst q2
    exact ⟨mo, ed, 0, fun _ => none, Or.inl ((qnew_n h1).trans q1), Or.inl rfl, Nat.le_refl _, by decide, fun i x hx => by cases hx⟩
  · have hc := cap_le hl
    have hc2 := cap_244 (n := xs.length)
    exact ⟨mo, ed, capOf xs.length, f, Or.inl ((qnew_n h1).trans q1), Or.inr (Or.inl ((qnew_n (h2 q2)).trans q3)), hc.1, by omega, q4⟩
set_option maxHeartbeats 4000000 in
theorem m_J2_isEmpty (l : Launch) {K : QK} {G : State → Prop} {w : QW} {a : Nat} {mo : Int32} {sz : Nat} {ed : Nat} (h : QAt K w a (.inr (17, [.int mo, .ref ed, .int (nI sz)]))) (hz : sz < 1000) : MC l K G yJ2_isEmpty (ws_ yJ2_isEmpty cJ2_isEmpty 1 (some .boolean)) 1 40 0 0 [.ref a] w (QR (some (.int (b32 (decide (sz = 0))))) w) := by
  refine MC.of (by decide) (Nat.le_of_ble_eq_true rfl) (lv := [(0, .ref a)]) rfl (fun p e s m below meth c ls E hr hl hw => ?_)
  have hx := E.1
  have hb := E.2.1
  have hown := E.2.2.1
  have hts := E.2.2.2.2.1
  refine lv_aload_n hx hb dJ2_isEmpty_0 rfl (lv_at hl 0 rfl) ?_
  refine r_get (v := .int (nI sz)) E hw h (T := TJ2) (N := 3) rfl in_J2 2 (by decide) q365 rfl dJ2_isEmpty_1 ?_
  refine lv_if_ne (tgt := 11) hx hb dJ2_isEmpty_4 (by decide) (fun c0 => ?_) (fun c0 => ?_)
  · have h0 : ¬ sz = 0 := fun q => c0 (by rw [q]; rfl)
    rw [decide_eq_false h0]
    refine lv_iconst (v := (0:Int32)) hx hb dJ2_isEmpty_11 (by decide) ?_
    exact d_iret E hr rfl hw rfl rfl dJ2_isEmpty_12
  · have h0 : sz = 0 := nI_inj c0 (by omega) (by decide)
    rw [decide_eq_true h0]
    refine lv_iconst (v := (1:Int32)) hx hb dJ2_isEmpty_7 (by decide) ?_
    refine lv_goto (tgt := 12) hx hb dJ2_isEmpty_8 (by decide) ?_
    exact d_iret E hr rfl hw rfl rfl dJ2_isEmpty_12
def selO (xs : List Nat) (b q : Nat) : Nat := match xs with
  | [] => b
  | _ :: _ => q
set_option maxHeartbeats 4000000 in
theorem m_X9_itself (l : Launch) {K : QK} {G : State → Prop} (hG : QG G) {ea : Nat} {A B : QA} {L : QL} {X : QX} {M : QM} {q b qm em qs : Nat} {xs : List Nat} (hq : M q = some (.inr (9, [.ref b, .ref qm, .ref qs]))) (hm : LM K ea M qm em xs) (hl9 : xs.length < 1000) :
    MC l K G yX9_itself (ws_ yX9_itself cX9_itself 1 (some (.object "VaneCourt$Sum"))) 2 80 0 0 [.ref q] (A, B, L, X, M) (QR (some (.ref (selO xs b q))) (A, B, L, X, M)) := by
  refine MC.of (by decide) (Nat.le_of_ble_eq_true rfl) (lv := [(0, .ref q)]) rfl (fun p e s m below meth c ls E hr hl hw => ?_)
  have hx := E.1
  have hb := E.2.1
  have hown := E.2.2.1
  have hts := E.2.2.2.2.1
  obtain ⟨mo, hqm, -⟩ := hm
  refine lv_aload_n hx hb dX9_itself_0 rfl (lv_at hl 0 rfl) ?_
  refine r_get (v := .ref qm) E hw (QAt.dyn hq) (T := TX9) (N := 3) rfl in_X9 1 (by decide) q748 rfl dX9_itself_1 ?_
  refine d_V (As := []) (v0 := some (.int (b32 (decide (xs.length = 0))))) hG E hw hl (m_J2_isEmpty l (QAt.dyn hqm) hl9) (QAt.dyn hqm) rfl (cwV 0 hts (lw_V q786 q787 q788 q145 q789) rfl rfl rfl ⟨rfl, kd_J2_isEmpty⟩ ⟨Nat.le_of_ble_eq_true rfl, Nat.le_of_ble_eq_true rfl⟩) rfl (rest := []) (st1 := [.int (b32 (decide (xs.length = 0)))]) rfl rfl rfl dX9_itself_4 ⟨Nat.zero_le _, Nat.zero_le _⟩ (fun H locs hw => ?_)
  cases xs with
  | nil =>
    refine lv_if_eq (tgt := 17) hx hb dX9_itself_7 (by decide) (fun c0 => ?_) (fun c0 => ?_)
    · exact absurd c0 (by decide)
    refine lv_aload_n hx hb dX9_itself_10 rfl (lv_at hl 0 rfl) ?_
    refine r_get (v := .ref b) E hw (QAt.dyn hq) (T := TX9) (N := 3) rfl in_X9 0 (by decide) q747 rfl dX9_itself_11 ?_
    refine lv_goto (tgt := 18) hx hb dX9_itself_14 (by decide) ?_
    exact d_aret E hr (Or.inl ⟨_, rfl⟩) (Or.inr ⟨_, rfl⟩) hw rfl rfl dX9_itself_18
  | cons x xs =>
    refine lv_if_eq (tgt := 17) hx hb dX9_itself_7 (by decide) (fun c0 => ?_) (fun c0 => ?_)
    · refine lv_aload_n hx hb dX9_itself_17 rfl (lv_at hl 0 rfl) ?_
      exact d_aret E hr (Or.inl ⟨_, rfl⟩) (Or.inr ⟨_, rfl⟩) hw rfl rfl dX9_itself_18
    · exact absurd rfl c0
/-- a chain's cells while it is being made: q itself, its lists qm and qs, their arrays em and es; what it begins with, its items -/
def ChS (K : QK) (ea : Nat) (ib : Nat → Nat) (M0 F M : QM) (dep : Nat) (q b qm em qs es : Nat) (u : QU) (its : List QUi) (xs : List Nat) : Prop :=
  FRz M0 F M ∧ M q = some (.inr (9, [.ref b, .ref qm, .ref qs])) ∧ LM K ea M qm em xs ∧ LM K ea M qs es (its.map (fun it => ib (it.1.toNatClampNeg + 128))) ∧ qm ≠ qs ∧ (xs ≠ [] → em ≠ es) ∧
  ((F q = none ∧ M0 q = none) ∧ (F qm = none ∧ M0 qm = none) ∧ (F qs = none ∧ M0 qs = none) ∧ (xs ≠ [] → (F em = none ∧ M0 em = none) ∧ (F es = none ∧ M0 es = none))) ∧
  SumAt K F dep b u.1 u.2 ∧ xs.length = its.length ∧ (∀ (i x : Nat) (it : QUi), xs[i]? = some x → its[i]? = some it → SumAt K F dep x it.2.1 it.2.2) ∧ ∀ it ∈ its, it.1 = 43 ∨ it.1 = 45 ∨ it.1 = 42 ∨ it.1 = 47
theorem sg_n {v : Int32} (h : v = 43 ∨ v = 45 ∨ v = 42 ∨ v = 47) : v = nI v.toNatClampNeg ∧ v.toNatClampNeg < 128 := by
  rcases h with h | h | h | h <;> subst h <;> exact ⟨by decide, by decide⟩
theorem LM.arr {K : QK} {ea : Nat} {M : QM} {a ed : Nat} {xs : List Nat} (h : LM K ea M a ed xs) (h0 : xs ≠ []) : ∃ e, M ed = some (.inl e) := by
  obtain ⟨mo, q1, q2⟩ := h
  obtain ⟨-, f, h1, -⟩ := q2.resolve_left (fun z => h0 z.1)
  exact ⟨_, h1⟩
/-- something was read: its cells are frozen too -/
theorem ChS.call {K : QK} {ea : Nat} {ib : Nat → Nat} {M0 F M M' : QM} {dep q b qm em qs es : Nat} {u : QU} {its : List QUi} {xs : List Nat} (h : ChS K ea ib M0 F M dep q b qm em qs es u its xs) (hx : QExt M M') : ChS K ea ib M0 (qfr F M M') M' dep q b qm em qs es u its xs := by
  obtain ⟨h1, h2, h3, h4, h5, h6, ⟨o1, o2, o3, o4⟩, h7, h8, h9, h10⟩ := h
  have nx : ∀ z e, M z = some e → F z = none ∧ M0 z = none → qfr F M M' z = none ∧ M0 z = none := fun z e g1 g2 => ⟨qfr_no g1 g2.1, g2.2⟩
  obtain ⟨mom, hqm, -⟩ := id h3
  obtain ⟨mos, hqs, -⟩ := id h4
  refine ⟨h1.call hx, hx _ _ h2, h3.ext hx, h4.ext hx, h5, h6, ⟨nx _ _ h2 o1, nx _ _ hqm o2, nx _ _ hqs o3, fun g => ?_⟩, SumAt.ext h1.toF _ _ _ _ h7, h8, fun i x it g1 g2 => SumAt.ext h1.toF _ _ _ _ (h9 i x it g1 g2), h10⟩
  obtain ⟨e1, g1⟩ := h3.arr g
  obtain ⟨e2, g2⟩ := h4.arr (fun z => g (List.length_eq_zero_iff.mp (by rw [h8]; exact List.length_eq_zero_iff.mpr (List.map_eq_nil_iff.mp z))))
  exact ⟨nx _ _ g1 (o4 g).1, nx _ _ g2 (o4 g).2⟩
/-- it is made: the chain's tree, or what it begins with -/
theorem ChS.out {K : QK} {G : State → Prop} {ea ic : Nat} {ib : Nat → Nat} {M0 F M : QM} {dep q b qm em qs es : Nat} {u : QU} {its : List QUi} {xs : List Nat} (hI : QIc K G ic ib) (h : ChS K ea ib M0 F M dep q b qm em qs es u its xs) (hl : xs.length < 200) : SumAt K (qnew M0 M) (dep + 1) (selO xs b q) (chU u its).1 (chU u its).2 := by
  obtain ⟨h1, h2, h3, h4, h5, h6, ⟨o1, o2, o3, o4⟩, h7, h8, h9, h10⟩ := h
  cases xs with
  | nil =>
    have hi : its = [] := List.length_eq_zero_iff.mp h8.symm
    subst hi
    exact SumAt.up _ _ _ _ (SumAt.ext h1.emb _ _ _ _ h7)
  | cons x0 xs =>
    cases its with
    | nil => cases h8
    | cons it0 its =>
      have hsub := h1.emb
      have hz : (x0 :: xs).length = (it0 :: its).length := h8
      refine Or.inr (Or.inr (Or.inr ⟨b, qm, qs, u.1, u.2, ((x0 :: xs).zip (it0 :: its)).map (fun p => (p.2.1, p.1, p.2.2.1, p.2.2.2)), Or.inl ((qnew_n o1.2).trans h2), SumAt.ext hsub _ _ _ _ h7, ?_, ?_, ?_, ?_, ?_⟩))
      · have e1 : (((x0 :: xs).zip (it0 :: its)).map (fun p => (p.2.1, p.1, p.2.2.1, p.2.2.2))).map (fun it => it.2.1) = x0 :: xs := by
          rw [List.map_map]
          exact List.map_fst_zip (Nat.le_of_eq hz)
        rw [e1]
        exact h3.lst o2.2 (fun g => (o4 g).1.2) hl
      · have e1 : (((x0 :: xs).zip (it0 :: its)).map (fun p => (p.2.1, p.1, p.2.2.1, p.2.2.2))).map (fun it => it.1) = (it0 :: its).map (fun it => it.1) := by
          rw [List.map_map]
          have : ((fun it : QIt => it.1) ∘ fun p : Nat × QUi => (p.2.1, p.1, p.2.2.1, p.2.2.2)) = (fun it : QUi => it.1) ∘ Prod.snd := rfl
          rw [this, ← List.map_map, List.map_snd_zip (Nat.le_of_eq hz.symm)]
        rw [e1]
        refine ⟨_, h4.lst o3.2 (fun _ => (o4 (by simp)).2.2) (by rw [List.length_map, ← hz]; exact hl), by rw [List.length_map, List.length_map], fun i x v g1 g2 => ?_⟩
        rw [List.getElem?_map] at g1 g2
        cases hi : (it0 :: its)[i]? with
        | none => rw [hi] at g1; cases g1
        | some it =>
          rw [hi] at g1 g2
          cases g1
          cases g2
          obtain ⟨k1, k2⟩ := sg_n (h10 it (List.mem_of_getElem? hi))
          have k3 := hI.el (M := qnew M0 M) k2
          rw [← k1] at k3
          exact k3
      · intro it hit
        obtain ⟨p9, hp, rfl⟩ := List.mem_map.mp hit
        obtain ⟨i, hi⟩ := List.getElem?_of_mem hp
        obtain ⟨g1, g2⟩ := List.getElem?_zip_eq_some.mp hi
        exact SumAt.ext hsub _ _ _ _ (h9 i _ _ g1 g2)
      · show u.1 ++ (it0 :: its).flatMap (fun it => it.2.1 ++ [(opOf it.1, 0)]) = _
        congr 1
        rw [List.flatMap_map]
        have : (it0 :: its) = ((x0 :: xs).zip (it0 :: its)).map Prod.snd := (List.map_snd_zip (Nat.le_of_eq hz.symm)).symm
        conv => lhs; rw [this]
        rw [List.flatMap_map]
      · show (fun nm => (it0 :: its).foldl (fun a it => sTwo it.1 a (it.2.2 nm)) (u.2 nm)) = _
        funext nm
        unfold sChain
        rw [List.foldl_map]
        have : (it0 :: its) = ((x0 :: xs).zip (it0 :: its)).map Prod.snd := (List.map_snd_zip (Nat.le_of_eq hz.symm)).symm
        conv => lhs; rw [this]
        rw [List.foldl_map]
/-- one more: what Chain.add leaves behind -/
theorem ChS.add {K : QK} {ea : Nat} {ib : Nat → Nat} {M0 F M M' : QM} {dep q b qm em qs es em' es' x : Nat} {u v : QU} {sg : Int32} {its : List QUi} {xs : List Nat} (h : ChS K ea ib M0 F M dep q b qm em qs es u its xs) (hsg : sg = 43 ∨ sg = 45 ∨ sg = 42 ∨ sg = 47) (hv : SumAt K F dep x v.1 v.2)
    (g1 : M' q = some (.inr (9, [.ref b, .ref qm, .ref qs]))) (g2 : LM K ea M' qm em' (xs ++ [x])) (g3 : LM K ea M' qs es' (its.map (fun it => ib (it.1.toNatClampNeg + 128)) ++ [ib (sg.toNatClampNeg + 128)])) (g4 : em' ≠ es') (g5 : em' = em ∧ xs ≠ [] ∨ M em' = none) (g6 : es' = es ∧ xs ≠ [] ∨ M es' = none) (g7 : ∀ z e, z ≠ qm → z ≠ qs → z ≠ em' → z ≠ es' → M z = some e → M' z = some e) :
    ChS K ea ib M0 F M' dep q b qm em' qs es' u (its ++ [(sg, v)]) (xs ++ [x]) := by
  obtain ⟨h1, h2, h3, h4, h5, h6, ⟨o1, o2, o3, o4⟩, h7, h8, h9, h10⟩ := h
  have p1 : F em' = none ∧ M0 em' = none := by
    rcases g5 with ⟨e, z⟩ | e
    · rw [e]; exact (o4 z).1
    · exact h1.no e
  have p2 : F es' = none ∧ M0 es' = none := by
    rcases g6 with ⟨e, z⟩ | e
    · rw [e]; exact (o4 z).2
    · exact h1.no e
  refine ⟨h1.own (fun z => z = qm ∨ z = qs ∨ z = em' ∨ z = es') (fun z hz => ?_) (fun z e hz hM => g7 z e (fun w => hz (Or.inl w)) (fun w => hz (Or.inr (Or.inl w))) (fun w => hz (Or.inr (Or.inr (Or.inl w)))) (fun w => hz (Or.inr (Or.inr (Or.inr w)))) hM), g1, g2, ?_, h5, fun _ => g4, ⟨o1, o2, o3, fun _ => ⟨p1, p2⟩⟩, h7, ?_, ?_, ?_⟩
  · rcases hz with e | e | e | e <;> rw [e]
    · exact o2
    · exact o3
    · exact p1
    · exact p2
  · rw [List.map_append]
    exact g3
  · rw [List.length_append, List.length_append, h8]
    rfl
  · intro i y it k1 k2
    by_cases hi : i < xs.length
    · rw [List.getElem?_append_left hi] at k1
      rw [List.getElem?_append_left (by omega)] at k2
      exact h9 i y it k1 k2
    · rw [List.getElem?_append_right (by omega)] at k1
      rw [List.getElem?_append_right (by omega), ← h8] at k2
      by_cases h0 : i - xs.length = 0
      · rw [h0] at k1 k2
        cases k1
        cases k2
        exact hv
      · obtain ⟨j, hj⟩ := Nat.exists_eq_succ_of_ne_zero h0
        rw [hj] at k1
        cases k1
  · intro it hit
    rcases List.mem_append.mp hit with hit | hit
    · exact h10 it hit
    · rw [List.mem_singleton] at hit
      subst hit
      exact hsg
