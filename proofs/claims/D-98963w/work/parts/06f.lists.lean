/-! lists of what is asked, while they are being made -/
set_option maxRecDepth 100000
theorem LM.lst0 {K : QK} {ea : Nat} {M : QM} {a ed : Nat} {xs : List Nat} (h : LM K ea M a ed xs) (hl : xs.length < 200) : LstAt K M a xs := h.lst (M0 := fun _ => none) rfl (fun _ => rfl) hl
theorem AskAt.cls {K : QK} {M : QM} {n a : Nat} {c : QC} {ψ : QB} (h : AskAt K M n a c ψ) : ∃ (ci N : Nat) (C : String) (T : u_T) (fs : List Value), vcl[ci]? = some (C, T, N) ∧ DAt K M a (.inr (ci, fs)) ∧ Cond.castable C "VaneCourt$Asked" ∈ lw_tbl := by
  cases n with
  | zero => exact h.elim
  | succ n =>
    rcases h with ⟨b, c1, ψ1, h1, -⟩ | ⟨k, h1, -⟩ | ⟨lm, its, h1, -⟩ | ⟨g, a1, b1, c1, c2, φ1, φ2, h1, -⟩ | ⟨z, lm, it0, its, h1, -⟩ | ⟨a1, b1, c1, c2, ψ1, ψ2, h1, -⟩
    · exact ⟨6, 1, RX6, TX6, _, rfl, h1, q1015⟩
    · exact ⟨7, 1, RX7, TX7, _, rfl, h1, q997⟩
    · exact ⟨8, 1, RX8, TX8, _, rfl, h1, q1004⟩
    · exact ⟨13, 3, RX13, TX13, _, rfl, h1, q943⟩
    · exact ⟨14, 2, RX14, TX14, _, rfl, h1, q932⟩
    · exact ⟨15, 2, RX15, TX15, _, rfl, h1, q1023⟩
theorem r_castK {p : Program} {l : Launch} {e : Env} {R : Room} {s : State} {m : MethodId} {args : Array Value} {below : List Frame} {meth : Method} {c : Code} {H : Heap} {locs : List Loc} {cells slots : Nat} {Q : State → Prop} {cc : ByteArray} {pc : Nat} {ls : Array Slot} {rest : List Value} {a : Nat} {own : String} {nL : Nat} {K : QK} {G : State → Prop} {A B : QA} {L : QL} {X : QX} {M : QM} {d : Nat} {c9 : QC} {ψ : QB} {index : Nat} (hG : QG G) (E : EV K G p s m args meth c cc own nL) (hw : WP K (A, B, L, X, M) H locs) (h : AskAt K M d a c9 ψ) (hlink : Cond.classLink own index "VaneCourt$Asked" ∈ lw_all) (hdg : decode cc pc = .ok (.checkcast index, 3))
    (k : W p l e R s m args below meth c H locs cells slots Q (F0 m (pc + 3) ls (.ref a :: rest))) : W p l e R s m args below meth c H locs cells slots Q (F0 m pc ls (.ref a :: rest)) := by
  obtain ⟨ci, N, C, T, fs, h1, h2, h3⟩ := h.cls
  exact va_castY E.1 E.2.1 E.2.2.1 (E.2.2.2.2.1 _ hlink) (hG.2.2 s _ E.2.2.2.2.2.1 h3 rfl) (in_recv E hw h2.q h1) hdg k
theorem zip_fm {α β : Type} (g : α → List β) : ∀ {xs : List Nat} {its : List α}, xs.length = its.length → (xs.zip its).flatMap (fun p => g p.2) = its.flatMap g := by
  intro xs
  induction xs with
  | nil => intro its h; cases its with
    | nil => rfl
    | cons => cases h
  | cons x xs ih => intro its h; cases its with
    | nil => cases h
    | cons it its =>
      rw [List.zip_cons_cons, List.flatMap_cons, List.flatMap_cons, ih (Nat.succ.inj h)]
theorem zip_ct {nm : Nat → Int32} : ∀ {xs : List Nat} {its : List QV}, xs.length = its.length → sCount nm (xs.zip its) = (its.filter (fun it => it.2 nm)).length := by
  intro xs
  induction xs with
  | nil => intro its h; cases its with
    | nil => rfl
    | cons => cases h
  | cons x xs ih => intro its h; cases its with
    | nil => cases h
    | cons it its =>
      rw [List.zip_cons_cons, sCount_cons, ih (Nat.succ.inj h), List.filter_cons]
      by_cases h9 : it.2 nm = true
      · rw [if_pos h9, if_pos h9]; rfl
      · rw [if_neg h9, if_neg h9]; rfl
/-- a list of what is asked, while it is being made -/
def AlS (K : QK) (ea : Nat) (M0 F M : QM) (dep lm em : Nat) (its : List QV) (xs : List Nat) : Prop :=
  FRz M0 F M ∧ LM K ea M lm em xs ∧ (F lm = none ∧ M0 lm = none) ∧ (xs ≠ [] → F em = none ∧ M0 em = none) ∧ xs.length = its.length ∧ ∀ (i x : Nat) (it : QV), xs[i]? = some x → its[i]? = some it → AskAt K F dep x it.1 it.2
theorem AlS.call {K : QK} {ea : Nat} {M0 F M M' : QM} {dep lm em : Nat} {its : List QV} {xs : List Nat} (h : AlS K ea M0 F M dep lm em its xs) (hx : QExt M M') : AlS K ea M0 (qfr F M M') M' dep lm em its xs := by
  obtain ⟨h1, h3, o1, o4, h8, h9⟩ := h
  have nx : ∀ z e, M z = some e → F z = none ∧ M0 z = none → qfr F M M' z = none ∧ M0 z = none := fun z e g1 g2 => ⟨qfr_no g1 g2.1, g2.2⟩
  obtain ⟨mom, hqm, -⟩ := id h3
  refine ⟨h1.call hx, h3.ext hx, nx _ _ hqm o1, fun g => ?_, h8, fun i x it g1 g2 => AskAt.ext h1.toF _ _ _ _ (h9 i x it g1 g2)⟩
  obtain ⟨e1, g1⟩ := h3.arr g
  exact nx _ _ g1 (o4 g)
theorem AlS.add {K : QK} {ea : Nat} {M0 F M M' : QM} {dep lm em em' x : Nat} {v : QV} {its : List QV} {xs : List Nat} (h : AlS K ea M0 F M dep lm em its xs) (hv : AskAt K F dep x v.1 v.2)
    (g2 : LM K ea M' lm em' (xs ++ [x])) (g5 : em' = em ∧ 2 ≤ (xs ++ [x]).length ∧ (∃ e, M em = some (.inl e)) ∨ M em' = none) (g7 : ∀ z e, z ≠ lm → z ≠ em' → M z = some e → M' z = some e) : AlS K ea M0 F M' dep lm em' (its ++ [v]) (xs ++ [x]) := by
  obtain ⟨h1, h3, o1, o4, h8, h9⟩ := h
  have p1 : F em' = none ∧ M0 em' = none := by
    rcases g5 with ⟨e, z, -⟩ | e
    · rw [e]
      refine o4 (fun z2 => ?_)
      rw [z2] at z
      simp at z
    · exact h1.no e
  refine ⟨h1.own (fun z => z = lm ∨ z = em') (fun z hz => ?_) (fun z e hz hM => g7 z e (fun w => hz (Or.inl w)) (fun w => hz (Or.inr w)) hM), g2, o1, fun _ => p1, ?_, ?_⟩
  · rcases hz with e | e <;> rw [e]
    · exact o1
    · exact p1
  · rw [List.length_append, List.length_append, h8]
    rfl
  · intro i y it k1 k2
    by_cases hi : i < xs.length
    · rw [List.getElem?_append_left hi] at k1
      rw [List.getElem?_append_left (by omega)] at k2
      exact h9 i y it k1 k2
    · rw [List.getElem?_append_right (by omega)] at k1
      rw [List.getElem?_append_right (by omega), ← h8] at k2
      by_cases h0 : i - xs.length = 0
      · rw [h0] at k1 k2
        cases k1
        cases k2
        exact hv
      · obtain ⟨j, hj⟩ := Nat.exists_eq_succ_of_ne_zero h0
        rw [hj] at k1
        cases k1
theorem AlS.el {K : QK} {ea : Nat} {M0 F M : QM} {dep lm em : Nat} {its : List QV} {xs : List Nat} (h : AlS K ea M0 F M dep lm em its xs) : ∀ x ∈ xs, ElO K M x := by
  obtain ⟨h1, h3, o1, o4, h8, h9⟩ := h
  intro z9 hz9
  obtain ⟨i, hi⟩ := List.getElem?_of_mem hz9
  have hi2 : i < its.length := by rw [← h8]; exact (List.getElem?_eq_some_iff.mp hi).1
  exact (h9 i z9 its[i] hi (List.getElem?_eq_getElem hi2)).el.ext h1.2.1
theorem zip_at {K : QK} {F : QM} {dep : Nat} {its : List QV} {xs : List Nat} (h9 : ∀ (i x : Nat) (it : QV), xs[i]? = some x → its[i]? = some it → AskAt K F dep x it.1 it.2) : ∀ it ∈ xs.zip its, AskAt K F dep it.1 it.2.1 it.2.2 := by
  intro it hit
  obtain ⟨i, hi⟩ := List.getElem?_of_mem hit
  obtain ⟨g1, g2⟩ := List.getElem?_zip_eq_some.mp hi
  exact h9 i _ _ g1 g2
/-- the list's node is made -/
theorem AlS.all {K : QK} {ea : Nat} {M0 F M : QM} {dep lm em q : Nat} {its : List QV} {xs : List Nat} {z : Int32} (h : AlS K ea M0 F M dep lm em its xs) (hl : xs.length < 200) (h2 : 2 ≤ its.length) (hz : z = 0 ∨ z = 1) (hq : M q = some (.inr (14, [.int z, .ref lm]))) (hq0 : M0 q = none) : AskAt K (qnew M0 M) (dep + 1) q (alV z its).1 (alV z its).2 := by
  obtain ⟨h1, h3, o1, o4, h8, h9⟩ := h
  match xs, its, h2, h8 with
  | x0 :: x1 :: xs, i0 :: i1 :: its, h2, h8 =>
    have hz2 : (x1 :: xs).length = (i1 :: its).length := Nat.succ.inj h8
    refine Or.inr (Or.inr (Or.inr (Or.inr (Or.inl ⟨z, lm, (x0, i0), (x1 :: xs).zip (i1 :: its), Or.inl ((qnew_n hq0).trans hq), hz, ?_, ?_, ?_, ?_⟩))))
    · have e1 : (((x0, i0) :: (x1 :: xs).zip (i1 :: its)).map (fun it => it.1)) = x0 :: x1 :: xs := by
        have : (x0, i0) :: (x1 :: xs).zip (i1 :: its) = (x0 :: x1 :: xs).zip (i0 :: i1 :: its) := (List.zip_cons_cons).symm
        rw [this]
        exact List.map_fst_zip (Nat.le_of_eq h8)
      rw [e1]
      exact h3.lst o1.2 (fun g => (o4 g).2) hl
    · intro it hit
      have : (x0, i0) :: (x1 :: xs).zip (i1 :: its) = (x0 :: x1 :: xs).zip (i0 :: i1 :: its) := (List.zip_cons_cons).symm
      rw [this] at hit
      exact AskAt.ext h1.emb _ _ _ _ (zip_at h9 it hit)
    · show i0.1 ++ (i1 :: its).flatMap (fun it => it.1 ++ [(22 - z, 0)]) = _
      rw [← zip_fm (fun it : QV => it.1 ++ [(22 - z, 0)]) hz2]
    · have e1 : ∀ nm, sCount nm ((x0, i0) :: (x1 :: xs).zip (i1 :: its)) = ((i0 :: i1 :: its).filter (fun it => it.2 nm)).length := by
        intro nm
        have : (x0, i0) :: (x1 :: xs).zip (i1 :: its) = (x0 :: x1 :: xs).zip (i0 :: i1 :: its) := (List.zip_cons_cons).symm
        rw [this]
        exact zip_ct h8
      have e2 : ((x0, i0) :: (x1 :: xs).zip (i1 :: its)).length = (i0 :: i1 :: its).length := by
        rw [List.length_cons, List.length_zip, hz2, Nat.min_self]
        rfl
      show (fun nm => if z = 1 then decide (((i0 :: i1 :: its).filter (fun it => it.2 nm)).length = (i0 :: i1 :: its).length) else decide (0 < ((i0 :: i1 :: its).filter (fun it => it.2 nm)).length)) = _
      funext nm
      rw [e1, e2]
  | [], [], h2, _ => exact absurd h2 (by decide)
  | [_], [_], h2, _ => exact absurd h2 (by show ¬ 2 ≤ 1; decide)
theorem AlS.most {K : QK} {ea : Nat} {M0 F M : QM} {dep lm em q : Nat} {its : List QV} {xs : List Nat} (h : AlS K ea M0 F M dep lm em its xs) (hl : its.length ≤ 6) (hq : M q = some (.inr (8, [.ref lm]))) (hq0 : M0 q = none) : AskAt K (qnew M0 M) (dep + 1) q (moV its).1 (moV its).2 := by
  obtain ⟨h1, h3, o1, o4, h8, h9⟩ := h
  have hzl : (xs.zip its).length = its.length := by rw [List.length_zip, h8, Nat.min_self]
  refine Or.inr (Or.inr (Or.inl ⟨lm, xs.zip its, Or.inl ((qnew_n hq0).trans hq), ?_, ?_, ?_, ?_, ?_⟩))
  · have e1 : (xs.zip its).map (fun it => it.1) = xs := List.map_fst_zip (Nat.le_of_eq h8)
    rw [e1]
    exact h3.lst o1.2 (fun g => (o4 g).2) (by omega)
  · exact fun it hit => AskAt.ext h1.emb _ _ _ _ (zip_at h9 it hit)
  · rw [hzl]; exact hl
  · show its.flatMap (fun it => it.1) ++ [(3, nI its.length)] = _
    rw [← zip_fm (fun it : QV => it.1) h8, hzl]
  · show (fun nm => decide (its.length < 2 * (its.filter (fun it => it.2 nm)).length)) = _
    funext nm
    rw [zip_ct h8, hzl]
/-- one alone: itself -/
theorem AlS.one {K : QK} {ea : Nat} {M0 F M : QM} {dep lm em : Nat} {its : List QV} {xs : List Nat} {z : Int32} (h : AlS K ea M0 F M dep lm em its xs) (h2 : its.length = 1) : ∃ x, xs[0]? = some x ∧ AskAt K F dep x (alV z its).1 (alV z its).2 := by
  obtain ⟨-, -, -, -, h8, h9⟩ := h
  obtain ⟨i0, rfl⟩ := List.length_eq_one_iff.mp h2
  obtain ⟨x, rfl⟩ := List.length_eq_one_iff.mp (h8.trans h2)
  exact ⟨x, rfl, h9 0 x i0 rfl rfl⟩
