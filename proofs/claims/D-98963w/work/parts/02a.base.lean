/-! MY LAYER, 1: one world for every contract. Labelled cells (the two systems' own, made by their constructors) and cells by address (made while running) -/
set_option maxRecDepth 100000
def vcl : List vw_C := [(RX0, TX0, 13), (RX1, TX1, 8), (RX2, TX2, 40), (RX3, TX3, 8), (RX4, TX4, 7), (RX5, TX5, 8), (RX6, TX6, 1), (RX7, TX7, 1), (RX8, TX8, 1), (RX9, TX9, 3), (RX10, TX10, 1), (RX11, TX11, 1), (RX12, TX12, 1), (RX13, TX13, 3), (RX14, TX14, 2), (RX15, TX15, 2), (RX16, TX16, 5), (RJ2, TJ2, 3), (RJ14, TJ14, 1)]
abbrev QA : Type := Nat → Nat → Int32
abbrev QL : Type := Nat → Nat → Int64
abbrev QX : Type := Nat → Nat → Option Nat
abbrev QM : Type := Nat → Option va_E
/-- component's ints, model's ints, model's longs, component's references of texts, cells by address -/
abbrev QW : Type := QA × QA × QL × QX × QM
/-- the heap at the law's start, addresses of labels, which labels live, classes' numbers and slots, array classes' numbers -/
abbrev QK : Type := Heap × (Nat → Nat) × (Nat → Bool) × va_G × (Nat → ClassId)
/-- the length of the int array at a label -/
def qlen (l : Nat) : Nat :=
  if l < 100 then (if l = 3 then 300 else if l = 4 then 9 else if l = 10 then 4 else if l = 11 then 5 else if l = 12 then 5 else 154)
  else if l < 1000 then (if l % 100 = 0 then 7 else if l % 100 = 1 then 154 else if l % 100 < 20 then 4 else if l % 100 < 30 then 3 else if l % 100 < 50 then 2 else 154)
  else if l = 1001 then 3642 else if l = 1002 then 3642 else if l = 1003 then 2820 else if l = 1004 then 300 else if l = 1005 then 160 else if l = 1006 then 9 else if l = 1007 then 8 else if l = 1010 then 100 else if l = 1011 then 100 else if l = 1012 then 100 else if l = 1013 then 13 else if l = 1014 then 28 else if l = 1015 then 8 else 5
def qgrid (ad : Nat → Nat) (b : Nat) : Nat → Option Nat := fun i => some (ad (b + i))
abbrev xfl (K : QK) (a : Nat → Int32) : List Value := [.ref (K.2.1 1), .ref (K.2.1 2), .ref (K.2.1 3), .int (a 3), .int (a 4), .int (a 5), .ref (K.2.1 4), .ref (K.2.1 5), .ref (K.2.1 6), .ref (K.2.1 10), .ref (K.2.1 11), .ref (K.2.1 12), .int (a 12)]
abbrev sfl1 (K : QK) : List Value := [.ref (K.2.1 100), .ref (K.2.1 101), .ref (K.2.1 102), .ref (K.2.1 103), .ref (K.2.1 104), .ref (K.2.1 105), .ref (K.2.1 106), .ref (K.2.1 107)]
abbrev sfl2 (K : QK) : List Value := [.ref (K.2.1 200), .ref (K.2.1 201), .ref (K.2.1 202), .ref (K.2.1 203), .ref (K.2.1 204), .ref (K.2.1 205), .ref (K.2.1 206), .ref (K.2.1 207)]
abbrev mfl (K : QK) (b : Nat → Int32) (L : Nat → Int64) : List Value := [.ref (K.2.1 1001), .ref (K.2.1 1002), .ref (K.2.1 1003), .ref (K.2.1 1004), .int (b 4), .int (b 5), .int (b 6), .int (b 7), .int (b 8), .int (b 9), .int (b 10), .long (L 11), .int (b 12), .int (b 13), .int (b 14), .ref (K.2.1 1005), .ref (K.2.1 1006), .int (b 17), .int (b 18), .int (b 19), .int (b 20), .int (b 21), .int (b 22), .int (b 23), .int (b 24), .ref (K.2.1 1007), .int (b 26), .ref (K.2.1 1008), .ref (K.2.1 1009), .int (b 29), .ref (K.2.1 1010), .ref (K.2.1 1011), .ref (K.2.1 1012), .ref (K.2.1 1013), .int (b 34), .int (b 35), .ref (K.2.1 1014), .ref (K.2.1 1015), .ref (K.2.1 1016), .ref (K.2.1 1017)]
/-- the tokens that are read (label 13, while a text is read) -/
abbrev tfl (K : QK) (a : Nat → Int32) : List Value := [.ref (K.2.1 3), .int (a 1), .int (a 2), .int (a 3), .int (a 4), .int (a 5), .int (a 6), .int (a 7)]
/-- what stands at a label -/
def qcont (K : QK) (l : Nat) (a b : Nat → Int32) (L : Nat → Int64) (x : Nat → Option Nat) : va_E :=
  if l = 0 then .inr (0, xfl K a)
  else if l = 1 then .inr (1, sfl1 K)
  else if l = 2 then .inr (1, sfl2 K)
  else if l = 3 then .inl (K.2.2.2.2 1, 300, .inl a)
  else if l = 13 then .inr (3, tfl K a)
  else if l = 6 then .inl (K.2.2.2.2 4, 3, .inr (.inr (.inr (.inr (qgrid K.2.1 7)))))
  else if l = 102 then .inl (K.2.2.2.2 4, 8, .inr (.inr (.inr (.inr (qgrid K.2.1 110)))))
  else if l = 103 then .inl (K.2.2.2.2 4, 8, .inr (.inr (.inr (.inr (qgrid K.2.1 120)))))
  else if l = 104 then .inl (K.2.2.2.2 4, 8, .inr (.inr (.inr (.inr (qgrid K.2.1 130)))))
  else if l = 105 then .inl (K.2.2.2.2 4, 8, .inr (.inr (.inr (.inr (qgrid K.2.1 140)))))
  else if l = 106 then .inl (K.2.2.2.2 4, 30, .inr (.inr (.inr (.inr (qgrid K.2.1 150)))))
  else if l = 107 then .inl (K.2.2.2.2 5, 4, .inr (.inr (.inr (.inr x))))
  else if l = 202 then .inl (K.2.2.2.2 4, 8, .inr (.inr (.inr (.inr (qgrid K.2.1 210)))))
  else if l = 203 then .inl (K.2.2.2.2 4, 8, .inr (.inr (.inr (.inr (qgrid K.2.1 220)))))
  else if l = 204 then .inl (K.2.2.2.2 4, 8, .inr (.inr (.inr (.inr (qgrid K.2.1 230)))))
  else if l = 205 then .inl (K.2.2.2.2 4, 8, .inr (.inr (.inr (.inr (qgrid K.2.1 240)))))
  else if l = 206 then .inl (K.2.2.2.2 4, 30, .inr (.inr (.inr (.inr (qgrid K.2.1 250)))))
  else if l = 207 then .inl (K.2.2.2.2 5, 4, .inr (.inr (.inr (.inr x))))
  else if l = 1000 then .inr (2, mfl K b L)
  else if l = 1008 then .inl (K.2.2.2.2 2, 330, .inr (.inl L))
  else if l = 1009 then .inl (K.2.2.2.2 3, 330, .inl b)
  else if l < 1000 then .inl (K.2.2.2.2 0, qlen l, .inl a)
  else .inl (K.2.2.2.2 0, qlen l, .inl b)
abbrev qat (K : QK) (w : QW) (l : Nat) : va_E := qcont K l (w.1 l) (w.2.1 l) (w.2.2.1 l) (w.2.2.2.1 l)
def qlabs (K : QK) : List Nat := (List.range 1018).filter K.2.2.1
def qwl (K : QK) (w : QW) : va_W := (qlabs K).map (fun l => (K.2.1 l, qat K w l))
/-- the place q is one of the program's own: it was made since the law's start -/
abbrev qA (K : QK) : Nat → Prop := fun q => K.1.size ≤ q
def WP (K : QK) (w : QW) (H : Heap) (locs : List Loc) : Prop :=
  ∃ Ml : va_W, (∀ a e, (a, e) ∈ Ml ↔ w.2.2.2.2 a = some e) ∧ va_P K.2.2.2.1 vcl (qwl K w ++ Ml) H ∧ va_D (qA K) (qwl K w ++ Ml) ∧ va_S (qA K) K.1 H locs
def ql (K : QK) (l : Nat) : Prop := K.2.2.1 l = true ∧ l < 1018
/-- an object older than the law (of such a cell less is known: its monitor isn't) -/
def OldO (K : QK) (a : Nat) (e : va_E) : Prop := match e with
  | .inl _ => False
  | .inr o => ∃ r : vw_C, vcl[o.1]? = some r ∧ ∃ cell : Cell, K.1[a]? = some cell ∧ cell.cls = K.2.2.2.1.1 o.1 ∧ cell.vm.isStatics = false ∧ cell.vm ≠ .unknown ∧ (∀ k, k < r.2.2 → cell.slots[K.2.2.2.1.2 o.1 k]? = some (vp_V o.2 k)) ∧ ¬ qA K a
/-- a cell that is the program's own: labelled or made -/
def QOw (K : QK) (w : QW) (a : Nat) (e : va_E) : Prop := (∃ l, ql K l ∧ a = K.2.1 l ∧ e = qat K w l) ∨ w.2.2.2.2 a = some e
/-- a cell of the world, labelled or not -/
def QAt (K : QK) (w : QW) (a : Nat) (e : va_E) : Prop := (∃ l, ql K l ∧ a = K.2.1 l ∧ e = qat K w l) ∨ w.2.2.2.2 a = some e ∨ OldO K a e
theorem QAt.lab {K : QK} {w : QW} {l : Nat} {e : va_E} (hl : ql K l) (he : qat K w l = e) : QAt K w (K.2.1 l) e := Or.inl ⟨l, hl, rfl, he.symm⟩
theorem QAt.old {K : QK} {w : QW} {a : Nat} {e : va_E} (h : OldO K a e) : QAt K w a e := Or.inr (Or.inr h)
theorem QAt.dyn {K : QK} {w : QW} {a : Nat} {e : va_E} (h : w.2.2.2.2 a = some e) : QAt K w a e := Or.inr (Or.inl h)
/-- w' is w but for what stands at the label l -/
def QUp (w w' : QW) (l : Nat) : Prop := (∀ j, j ≠ l → w'.1 j = w.1 j) ∧ (∀ j, j ≠ l → w'.2.1 j = w.2.1 j) ∧ (∀ j, j ≠ l → w'.2.2.1 j = w.2.2.1 j) ∧ (∀ j, j ≠ l → w'.2.2.2.1 j = w.2.2.2.1 j) ∧ w'.2.2.2.2 = w.2.2.2.2
theorem qmem {K : QK} {l : Nat} (h : ql K l) : ∃ i : Nat, (qlabs K)[i]? = some l := List.getElem?_of_mem (List.mem_filter.mpr ⟨List.mem_range.mpr h.2, h.1⟩)
theorem WP.own {K : QK} {w : QW} {H : Heap} {locs : List Loc} (hw : WP K w H locs) {a : Nat} {e : va_E} (h : QOw K w a e) : ∃ (ws : va_W) (i : Nat), va_P K.2.2.2.1 vcl ws H ∧ ws[i]? = some (a, e) := by
  obtain ⟨Ml, hM, hP, hD, hS⟩ := hw
  rcases h with ⟨l, hl, rfl, rfl⟩ | h
  · obtain ⟨i, hi⟩ := qmem hl
    have h1 : (qwl K w)[i]? = some (K.2.1 l, qat K w l) := by rw [qwl, List.getElem?_map, hi]; rfl
    exact ⟨_, i, hP, by rw [List.getElem?_append_left (List.getElem?_eq_some_iff.mp h1).1]; exact h1⟩
  · obtain ⟨i, hi⟩ := List.getElem?_of_mem ((hM a e).mpr h)
    refine ⟨_, (qwl K w).length + i, hP, ?_⟩
    rw [List.getElem?_append_right (by omega)]
    rw [Nat.add_sub_cancel_left]
    exact hi
theorem QAt.two {K : QK} {w : QW} {a : Nat} {e : va_E} (h : QAt K w a e) : QOw K w a e ∨ OldO K a e := by
  rcases h with h | h | h
  · exact Or.inl (Or.inl h)
  · exact Or.inl (Or.inr h)
  · exact Or.inr h
theorem WP.at {K : QK} {w : QW} {H : Heap} {locs : List Loc} (hw : WP K w H locs) {a : Nat} {x : ClassId × vp_A} (h : QAt K w a (.inl x)) : ∃ (ws : va_W) (i : Nat), va_P K.2.2.2.1 vcl ws H ∧ ws[i]? = some (a, .inl x) := by
  rcases h.two with h | h
  · exact hw.own h
  · exact h.elim
/-- a labelled cell changes -/
theorem WP.lab {K : QK} {w : QW} {H : Heap} {locs : List Loc} (hw : WP K w H locs) {l : Nat} (hl : ql K l) : ∃ (ws : va_W) (i : Nat), va_P K.2.2.2.1 vcl ws H ∧ va_D (qA K) ws ∧ va_S (qA K) K.1 H locs ∧ ws[i]? = some (K.2.1 l, qat K w l) ∧
    ∀ w' : QW, QUp w w' l → ∀ (H1 : Heap) (locs1 : List Loc), va_P K.2.2.2.1 vcl (ws.set i (K.2.1 l, qat K w' l)) H1 → va_D (qA K) (ws.set i (K.2.1 l, qat K w' l)) → va_S (qA K) K.1 H1 locs1 → WP K w' H1 locs1 := by
  obtain ⟨Ml, hM, hP, hD, hS⟩ := hw
  obtain ⟨i, hi⟩ := qmem hl
  have h1 : (qwl K w)[i]? = some (K.2.1 l, qat K w l) := by rw [qwl, List.getElem?_map, hi]; rfl
  have hlt := (List.getElem?_eq_some_iff.mp h1).1
  have h2 : (qwl K w ++ Ml)[i]? = some (K.2.1 l, qat K w l) := by rw [List.getElem?_append_left hlt]; exact h1
  refine ⟨_, i, hP, hD, hS, h2, fun w' hu H1 locs1 p d s => ?_⟩
  have he : (qwl K w ++ Ml).set i (K.2.1 l, qat K w' l) = qwl K w' ++ Ml := by
    rw [List.set_append_left _ _ hlt]
    congr 1
    apply List.ext_getElem?
    intro j
    rw [List.getElem?_set]
    by_cases hj : i = j
    · subst hj
      rw [if_pos rfl, if_pos hlt, qwl, List.getElem?_map, hi]
      rfl
    · rw [if_neg hj, qwl, qwl, List.getElem?_map, List.getElem?_map]
      cases hk : (qlabs K)[j]? with
      | none => rfl
      | some k =>
        have hne : k ≠ l := by
          intro e
          subst e
          have h3 : (qwl K w ++ Ml)[j]? = some (K.2.1 k, qat K w k) := by
            have h4 : (qwl K w)[j]? = some (K.2.1 k, qat K w k) := by rw [qwl, List.getElem?_map, hk]; rfl
            rw [List.getElem?_append_left (List.getElem?_eq_some_iff.mp h4).1]; exact h4
          exact hj (hD.1 i j _ _ h2 h3 rfl)
        simp only [Option.map_some, qat, hu.1 k hne, hu.2.1 k hne, hu.2.2.1 k hne, hu.2.2.2.1 k hne]
  rw [he] at p d
  exact ⟨Ml, by rw [hu.2.2.2.2]; exact hM, p, d, s⟩
/-- a cell by its address changes -/
theorem WP.dyn {K : QK} {w : QW} {H : Heap} {locs : List Loc} (hw : WP K w H locs) {a : Nat} {e : va_E} (h : w.2.2.2.2 a = some e) : ∃ (ws : va_W) (i : Nat), va_P K.2.2.2.1 vcl ws H ∧ va_D (qA K) ws ∧ va_S (qA K) K.1 H locs ∧ ws[i]? = some (a, e) ∧
    ∀ (e' : va_E) (H1 : Heap) (locs1 : List Loc), va_P K.2.2.2.1 vcl (ws.set i (a, e')) H1 → va_D (qA K) (ws.set i (a, e')) → va_S (qA K) K.1 H1 locs1 → WP K (w.1, w.2.1, w.2.2.1, w.2.2.2.1, va_up w.2.2.2.2 a (some e')) H1 locs1 := by
  obtain ⟨Ml, hM, hP, hD, hS⟩ := hw
  obtain ⟨i, hi⟩ := List.getElem?_of_mem ((hM a e).mpr h)
  have hlt := (List.getElem?_eq_some_iff.mp hi).1
  have h2 : (qwl K w ++ Ml)[(qwl K w).length + i]? = some (a, e) := by
    rw [List.getElem?_append_right (by omega), Nat.add_sub_cancel_left]
    exact hi
  refine ⟨_, (qwl K w).length + i, hP, hD, hS, h2, fun e' H1 locs1 p d s => ?_⟩
  have he : (qwl K w ++ Ml).set ((qwl K w).length + i) (a, e') = qwl K w ++ Ml.set i (a, e') := by
    rw [List.set_append_right _ _ (by omega), Nat.add_sub_cancel_left]
  rw [he] at p d
  refine ⟨Ml.set i (a, e'), fun b f => ?_, p, d, s⟩
  show _ ↔ va_up w.2.2.2.2 a (some e') b = some f
  unfold va_up
  have uniq : ∀ j f, Ml[j]? = some (a, f) → j = i := by
    intro j f hj
    have h3 : (qwl K w ++ Ml)[(qwl K w).length + j]? = some (a, f) := by
      rw [List.getElem?_append_right (by omega), Nat.add_sub_cancel_left]
      exact hj
    have := hD.1 _ _ _ _ h3 h2 rfl
    omega
  constructor
  · intro hm
    obtain ⟨j, hj⟩ := List.getElem?_of_mem hm
    rw [List.getElem?_set] at hj
    by_cases hij : i = j
    · subst hij
      rw [if_pos rfl, if_pos hlt] at hj
      cases hj
      rw [if_pos rfl]
    · rw [if_neg hij] at hj
      by_cases hb : b = a
      · subst hb
        exact absurd (uniq j f hj).symm hij
      · rw [if_neg hb]
        exact (hM b f).mp (List.mem_of_getElem? hj)
  · intro hb
    by_cases hba : b = a
    · subst hba
      rw [if_pos rfl] at hb
      cases hb
      exact List.mem_of_getElem? (i := i) (by rw [List.getElem?_set, if_pos rfl, if_pos hlt])
    · rw [if_neg hba] at hb
      obtain ⟨j, hj⟩ := List.getElem?_of_mem ((hM b f).mpr hb)
      refine List.mem_of_getElem? (i := j) ?_
      rw [List.getElem?_set]
      by_cases hij : i = j
      · subst hij
        rw [hi] at hj
        cases hj
        exact absurd rfl hba
      · rw [if_neg hij]; exact hj
/-- a new cell -/
theorem WP.add {K : QK} {w : QW} {H : Heap} {locs : List Loc} (hw : WP K w H locs) : ∃ (ws : va_W), va_P K.2.2.2.1 vcl ws H ∧ va_D (qA K) ws ∧ va_S (qA K) K.1 H locs ∧
    ∀ (q : Nat) (e' : va_E) (H1 : Heap) (locs1 : List Loc), va_P K.2.2.2.1 vcl (ws ++ [(q, e')]) H1 → va_D (qA K) (ws ++ [(q, e')]) → va_S (qA K) K.1 H1 locs1 → WP K (w.1, w.2.1, w.2.2.1, w.2.2.2.1, va_up w.2.2.2.2 q (some e')) H1 locs1 ∧ w.2.2.2.2 q = none ∧ (∀ l, ql K l → K.2.1 l ≠ q) ∧ K.1.size ≤ q := by
  obtain ⟨Ml, hM, hP, hD, hS⟩ := hw
  refine ⟨_, hP, hD, hS, fun q e' H1 locs1 p d s => ?_⟩
  have hlast : (qwl K w ++ Ml ++ [(q, e')])[(qwl K w ++ Ml).length]? = some (q, e') := by simp
  have hfresh : ∀ f, (q, f) ∉ qwl K w ++ Ml := by
    intro f hf
    obtain ⟨j, hj⟩ := List.getElem?_of_mem hf
    have hjl := (List.getElem?_eq_some_iff.mp hj).1
    have h3 : (qwl K w ++ Ml ++ [(q, e')])[j]? = some (q, f) := by rw [List.getElem?_append_left hjl]; exact hj
    have := d.1 _ _ _ _ h3 hlast rfl
    omega
  have hn : w.2.2.2.2 q = none := by
    cases hq : w.2.2.2.2 q with
    | none => rfl
    | some f => exact absurd (List.mem_append_right _ ((hM q f).mpr hq)) (hfresh f)
  refine ⟨⟨Ml ++ [(q, e')], fun b f => ?_, by show va_P _ _ (qwl K w ++ (Ml ++ [(q, e')])) _; rw [← List.append_assoc]; exact p, by show va_D _ (qwl K w ++ (Ml ++ [(q, e')])); rw [← List.append_assoc]; exact d, s⟩, hn, fun l hl e => ?_, ?_⟩
  · show _ ↔ va_up w.2.2.2.2 q (some e') b = some f
    unfold va_up
    rw [List.mem_append, List.mem_singleton]
    by_cases hb : b = q
    · subst hb
      rw [if_pos rfl]
      constructor
      · rintro (h | h)
        · exact absurd (List.mem_append_right _ h) (hfresh f)
        · cases h; rfl
      · intro h
        cases h
        exact Or.inr rfl
    · rw [if_neg hb]
      constructor
      · rintro (h | h)
        · exact (hM b f).mp h
        · cases h; exact absurd rfl hb
      · intro h
        exact Or.inl ((hM b f).mpr h)
  · obtain ⟨i, hi⟩ := qmem hl
    have h1 : (qwl K w)[i]? = some (K.2.1 l, qat K w l) := by rw [qwl, List.getElem?_map, hi]; rfl
    rw [e] at h1
    exact hfresh _ (List.mem_append_left _ (List.mem_of_getElem? h1))
  · exact d.2 _ _ hlast
theorem WP.S {K : QK} {w : QW} {H : Heap} {locs : List Loc} (hw : WP K w H locs) : va_S (qA K) K.1 H locs := by obtain ⟨Ml, -, -, -, hS⟩ := hw; exact hS
theorem WP.nil {K : QK} {w : QW} {H : Heap} {locs : List Loc} (hw : WP K w H locs) : WP K w H [] := by
  obtain ⟨Ml, hM, hP, hD, hS⟩ := hw
  exact ⟨Ml, hM, hP, hD, hS.1, hS.2.1, fun _ h => by cases h⟩
/-- a labelled cell's address is none of the others -/
theorem WP.apart {K : QK} {w : QW} {H : Heap} {locs : List Loc} (hw : WP K w H locs) {l : Nat} (hl : ql K l) : w.2.2.2.2 (K.2.1 l) = none := by
  obtain ⟨Ml, hM, hP, hD, hS⟩ := hw
  obtain ⟨i, hi⟩ := qmem hl
  have h1 : (qwl K w)[i]? = some (K.2.1 l, qat K w l) := by rw [qwl, List.getElem?_map, hi]; rfl
  have hlt := (List.getElem?_eq_some_iff.mp h1).1
  cases hq : w.2.2.2.2 (K.2.1 l) with
  | none => rfl
  | some f =>
    obtain ⟨j, hj⟩ := List.getElem?_of_mem ((hM _ f).mpr hq)
    have h2 : (qwl K w ++ Ml)[i]? = some (K.2.1 l, qat K w l) := by rw [List.getElem?_append_left hlt]; exact h1
    have h3 : (qwl K w ++ Ml)[(qwl K w).length + j]? = some (K.2.1 l, f) := by
      rw [List.getElem?_append_right (by omega), Nat.add_sub_cancel_left]
      exact hj
    have := hD.1 _ _ _ _ h2 h3 rfl
    omega
theorem WP.inj {K : QK} {w : QW} {H : Heap} {locs : List Loc} (hw : WP K w H locs) {l k : Nat} (hl : ql K l) (hk : ql K k) (e : K.2.1 l = K.2.1 k) : l = k := by
  obtain ⟨Ml, hM, hP, hD, hS⟩ := hw
  obtain ⟨i, hi⟩ := qmem hl
  obtain ⟨j, hj⟩ := qmem hk
  have h1 : (qwl K w)[i]? = some (K.2.1 l, qat K w l) := by rw [qwl, List.getElem?_map, hi]; rfl
  have h2 : (qwl K w)[j]? = some (K.2.1 k, qat K w k) := by rw [qwl, List.getElem?_map, hj]; rfl
  have h3 : (qwl K w ++ Ml)[i]? = some (K.2.1 l, qat K w l) := by rw [List.getElem?_append_left (List.getElem?_eq_some_iff.mp h1).1]; exact h1
  have h4 : (qwl K w ++ Ml)[j]? = some (K.2.1 k, qat K w k) := by rw [List.getElem?_append_left (List.getElem?_eq_some_iff.mp h2).1]; exact h2
  have := hD.1 _ _ _ _ h3 h4 e
  subst this
  exact Option.some.inj (hi.symm.trans hj)
/-- a labelled cell changes, another one stands beside it -/
theorem WP.lab2 {K : QK} {w : QW} {H : Heap} {locs : List Loc} (hw : WP K w H locs) {l k : Nat} (hl : ql K l) (hk : ql K k) : ∃ (ws : va_W) (i i2 : Nat), va_P K.2.2.2.1 vcl ws H ∧ va_D (qA K) ws ∧ va_S (qA K) K.1 H locs ∧ ws[i]? = some (K.2.1 l, qat K w l) ∧ ws[i2]? = some (K.2.1 k, qat K w k) ∧
    ∀ w' : QW, QUp w w' l → ∀ (H1 : Heap) (locs1 : List Loc), va_P K.2.2.2.1 vcl (ws.set i (K.2.1 l, qat K w' l)) H1 → va_D (qA K) (ws.set i (K.2.1 l, qat K w' l)) → va_S (qA K) K.1 H1 locs1 → WP K w' H1 locs1 := by
  obtain ⟨Ml, hM, hP, hD, hS⟩ := hw
  obtain ⟨i, hi⟩ := qmem hl
  obtain ⟨i2, hi2⟩ := qmem hk
  have h1 : (qwl K w)[i]? = some (K.2.1 l, qat K w l) := by rw [qwl, List.getElem?_map, hi]; rfl
  have g1 : (qwl K w)[i2]? = some (K.2.1 k, qat K w k) := by rw [qwl, List.getElem?_map, hi2]; rfl
  have hlt := (List.getElem?_eq_some_iff.mp h1).1
  have h2 : (qwl K w ++ Ml)[i]? = some (K.2.1 l, qat K w l) := by rw [List.getElem?_append_left hlt]; exact h1
  have g2 : (qwl K w ++ Ml)[i2]? = some (K.2.1 k, qat K w k) := by rw [List.getElem?_append_left (List.getElem?_eq_some_iff.mp g1).1]; exact g1
  refine ⟨_, i, i2, hP, hD, hS, h2, g2, fun w' hu H1 locs1 p d s => ?_⟩
  have he : (qwl K w ++ Ml).set i (K.2.1 l, qat K w' l) = qwl K w' ++ Ml := by
    rw [List.set_append_left _ _ hlt]
    congr 1
    apply List.ext_getElem?
    intro j
    rw [List.getElem?_set]
    by_cases hj : i = j
    · subst hj
      rw [if_pos rfl, if_pos hlt, qwl, List.getElem?_map, hi]
      rfl
    · rw [if_neg hj, qwl, qwl, List.getElem?_map, List.getElem?_map]
      cases hkk : (qlabs K)[j]? with
      | none => rfl
      | some k =>
        have hne : k ≠ l := by
          intro e
          subst e
          have h3 : (qwl K w ++ Ml)[j]? = some (K.2.1 k, qat K w k) := by
            have h4 : (qwl K w)[j]? = some (K.2.1 k, qat K w k) := by rw [qwl, List.getElem?_map, hkk]; rfl
            rw [List.getElem?_append_left (List.getElem?_eq_some_iff.mp h4).1]; exact h4
          exact hj (hD.1 i j _ _ h2 h3 rfl)
        simp only [Option.map_some, qat, hu.1 k hne, hu.2.1 k hne, hu.2.2.1 k hne, hu.2.2.2.1 k hne]
  rw [he] at p d
  exact ⟨Ml, by rw [hu.2.2.2.2]; exact hM, p, d, s⟩
