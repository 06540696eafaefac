/-! the law's start: what the tables and the statics say -/
set_option maxRecDepth 100000
theorem vz_eq {args : Array Value} {s : State} {t u : Term} {v : Value} (h : (Cond.eq t u).before args s = true) (hu : u.eval args s none [] s = some v) : t.eval args s none [] s = some v := by
  refine va_eqI (first := s) (o := none) (idx := []) ?_ hu
  simpa [Cond.before, Cond.holds] using h
/-- tables that came from the law's own -/
def GS (s0 : State) : State → Prop := fun U => s0.WarmedH U.vm
theorem vm_nw {w : Cond} {s0 U : State} (hq : qmv w = true) (hW : s0.WarmedH U.vm) (h : va_Nw w s0) : va_Nw w U := by
  cases w with
  | fieldLinkNest a i b n d h' => exact va_Nw.warmF hW h
  | methodLinkNest a i x h' => exact va_Nw.warmM hW h
  | castable a c => exact va_Nw.warmC hW h
  | declares x => exact va_Nw.warmD hW h
  | _ => simp [qmv] at hq
theorem qmv_tab {w : Cond} (hq : qmv w = true) : w.onTables = true := by
  cases w with
  | fieldLinkNest a i b n d h' => rfl
  | methodLinkNest a i x h' => rfl
  | castable a c => rfl
  | declares x => rfl
  | _ => simp [qmv] at hq
theorem GS_G {s0 : State} {b : Nat} (hts : ∀ w ∈ lw_tbl, w.before #[Value.ref b] s0 = true) : QG (GS s0) :=
  ⟨fun s U hW h => State.WarmedH.trans h hW, fun s U e h => by rw [show GS s0 U = s0.WarmedH U.vm from rfl, ← e]; exact h, fun U w hU hw hq => vm_nw hq hU (va_Nw.of (qmv_tab hq) (hts w hw))⟩
theorem OldO.of {s : State} {ad : Nat → Nat} {lv : Nat → Bool} {D : va_G} {cA : Nat → ClassId} {ci N : Nat} {C : String} {T : u_T} {a : Nat} {fs : List Value} (hr : vcl[ci]? = some (C, T, N)) (hK : u_Kn s C T N (D.1 ci) (D.2 ci)) (hO : va_O C a (qA (s.heap, ad, lv, D, cA)) s s.heap) (hN : 0 < N)
    (hF : ∀ k, k < N → va_OF (T k).1 (T k).2.1 (T k).2.2.1 (vp_V fs k) a (qA (s.heap, ad, lv, D, cA)) s s.heap) : OldO (s.heap, ad, lv, D, cA) a (.inr (ci, fs)) := by
  obtain ⟨cell, h1, h2, h3, h4⟩ := hO
  have h5 : cell.vm ≠ .unknown := by
    obtain ⟨cf, k, i, f, cell2, -, -, q1, q2, -, -⟩ := hF 0 hN
    rw [h1] at q1
    cases q1
    exact q2
  refine ⟨_, hr, cell, h1, ?_, h2, h5, fun k hk => ?_, h4⟩
  · have := hK.2.1
    rw [h3] at this
    exact Option.some.inj this
  · obtain ⟨cf, kk, i, f, cell2, q0, q9, q1, q2, q3, -⟩ := hF k hk
    obtain ⟨cf', kf', fi', fd, g1, g2⟩ := hK.1 k hk
    rw [q0] at g1
    cases g1
    rw [h1] at q1
    cases q1
    show cell.slots[D.2 ci k]? = some (vp_V fs k)
    rw [← g2]
    exact q3
theorem arr_prim {s : State} {args : Array Value} {ty : FieldType} (h : (Cond.arrayClass ty).before args s = true) (hno : ∀ C, ty ≠ .object C) : ∃ cA : ClassId, ArrOfT s cA ty ∧ va_RA s cA ty := by
  obtain ⟨cA, kA, comp, h1, h2, h3⟩ := Cond.arrayClass_spec (first := s) (o := none) (s := s) (idx := []) h
  refine ⟨cA, fun n z => ⟨fun k hk => (by cases hk), kA, h2, comp, h3⟩, ?_⟩
  cases ty with
  | object C => exact absurd rfl (hno C)
  | _ => exact h1
theorem arr_obj {s : State} {args : Array Value} {C : String} (h : (Cond.arrayOver (.object C)).before args s = true) : ∃ cA : ClassId, ArrOfT s cA (.object C) ∧ va_RA s cA (.object C) := by
  obtain ⟨comp, cA, kA, h1, h2, h3, h4, h5⟩ := Cond.arrayOver_spec (first := s) (o := none) (s := s) (idx := []) h
  exact ⟨cA, fun n z => ⟨fun k hk => (by cases hk), kA, h3, comp, h4⟩, kA, comp, h3, h4, h1, h5⟩
theorem arr_arr {s : State} {args : Array Value} {t : FieldType} (h : (Cond.arrayOver (.array t)).before args s = true) : ∃ cA : ClassId, ArrOfT s cA (.array t) ∧ va_RA s cA (.array t) := by
  simp only [Cond.before, Cond.holds, Cond.value, beq_iff_eq] at h
  cases hc : s.vm.findClass (FieldType.array t).toString with
  | none => simp [hc] at h
  | some comp =>
    simp only [hc, Option.bind_some, Option.bind_eq_some_iff, Option.map_eq_some_iff] at h
    obtain ⟨c, hi, k, hk, hb⟩ := h
    cases hkind : k.kind with
    | array component ty =>
      rw [hkind] at hb
      simp at hb
      exact ⟨c, fun n z => ⟨fun k hk => (by cases hk), k, hk, component, by rw [hkind, hb.1]⟩, hb.2⟩
    | _ => rw [hkind] at hb; simp at hb
