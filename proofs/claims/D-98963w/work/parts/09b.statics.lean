/-! the law's start: classes, arrays, statics (printed by mk09.py) -/
set_option maxRecDepth 100000
theorem st_classes {s : State} {b : Nat} (hts : ∀ w ∈ lw_tbl, w.before #[Value.ref b] s = true) : ∃ (dC : Nat → ClassId) (dI : Nat → Nat → Nat), ∀ (k : Nat) (q : vw_C), vcl[k]? = some q → u_Kn s q.1 q.2.1 q.2.2 (dC k) (dI k) := by
  obtain ⟨c0, i0, h0⟩ := u_known (C := RX0) (T := TX0) (N := 13) (n := 13) hts (fun w h => lw_all_tbl (in_X0 w h)) (hts _ (lw_all_tbl q173))
  obtain ⟨c1, i1, h1⟩ := u_known (C := RX1) (T := TX1) (N := 8) (n := 8) hts (fun w h => lw_all_tbl (in_X1 w h)) (hts _ (lw_all_tbl q181))
  obtain ⟨c2, i2, h2⟩ := u_known (C := RX2) (T := TX2) (N := 40) (n := 40) hts (fun w h => lw_all_tbl (in_X2 w h)) (hts _ (lw_all_tbl q1345))
  obtain ⟨c3, i3, h3⟩ := u_known (C := RX3) (T := TX3) (N := 8) (n := 8) hts (fun w h => lw_all_tbl (in_X3 w h)) (hts _ (lw_all_tbl q308))
  obtain ⟨c4, i4, h4⟩ := u_known (C := RX4) (T := TX4) (N := 7) (n := 7) hts (fun w h => lw_all_tbl (in_X4 w h)) (hts _ (lw_all_tbl q343))
  obtain ⟨c5, i5, h5⟩ := u_known (C := RX5) (T := TX5) (N := 8) (n := 8) hts (fun w h => lw_all_tbl (in_X5 w h)) (hts _ (lw_all_tbl q480))
  obtain ⟨c6, i6, h6⟩ := u_known (C := RX6) (T := TX6) (N := 1) (n := 1) hts (fun w h => lw_all_tbl (in_X6 w h)) (hts _ (lw_all_tbl q582))
  obtain ⟨c7, i7, h7⟩ := u_known (C := RX7) (T := TX7) (N := 1) (n := 1) hts (fun w h => lw_all_tbl (in_X7 w h)) (hts _ (lw_all_tbl q599))
  obtain ⟨c8, i8, h8⟩ := u_known (C := RX8) (T := TX8) (N := 1) (n := 1) hts (fun w h => lw_all_tbl (in_X8 w h)) (hts _ (lw_all_tbl q679))
  obtain ⟨c9, i9, h9⟩ := u_known (C := RX9) (T := TX9) (N := 3) (n := 3) hts (fun w h => lw_all_tbl (in_X9 w h)) (hts _ (lw_all_tbl q693))
  obtain ⟨c10, i10, h10⟩ := u_known (C := RX10) (T := TX10) (N := 1) (n := 1) hts (fun w h => lw_all_tbl (in_X10 w h)) (hts _ (lw_all_tbl q703))
  obtain ⟨c11, i11, h11⟩ := u_known (C := RX11) (T := TX11) (N := 1) (n := 1) hts (fun w h => lw_all_tbl (in_X11 w h)) (hts _ (lw_all_tbl q722))
  obtain ⟨c12, i12, h12⟩ := u_known (C := RX12) (T := TX12) (N := 1) (n := 1) hts (fun w h => lw_all_tbl (in_X12 w h)) (hts _ (lw_all_tbl q732))
  obtain ⟨c13, i13, h13⟩ := u_known (C := RX13) (T := TX13) (N := 3) (n := 3) hts (fun w h => lw_all_tbl (in_X13 w h)) (hts _ (lw_all_tbl q791))
  obtain ⟨c14, i14, h14⟩ := u_known (C := RX14) (T := TX14) (N := 2) (n := 2) hts (fun w h => lw_all_tbl (in_X14 w h)) (hts _ (lw_all_tbl q820))
  obtain ⟨c15, i15, h15⟩ := u_known (C := RX15) (T := TX15) (N := 2) (n := 2) hts (fun w h => lw_all_tbl (in_X15 w h)) (hts _ (lw_all_tbl q833))
  obtain ⟨c16, i16, h16⟩ := u_known (C := RX16) (T := TX16) (N := 5) (n := 5) hts (fun w h => lw_all_tbl (in_X16 w h)) (hts _ (lw_all_tbl q854))
  obtain ⟨c17, i17, h17⟩ := u_known (C := RJ2) (T := TJ2) (N := 3) (n := 3) hts (fun w h => lw_all_tbl (in_J2 w h)) (hts _ (lw_all_tbl q351))
  obtain ⟨c18, i18, h18⟩ := u_known (C := RJ14) (T := TJ14) (N := 1) (n := 1) hts (fun w h => lw_all_tbl (in_J14 w h)) (hts _ (lw_all_tbl q769))
  refine ⟨fun k => [c0, c1, c2, c3, c4, c5, c6, c7, c8, c9, c10, c11, c12, c13, c14, c15, c16, c17, c18].getD k 0, fun k => [i0, i1, i2, i3, i4, i5, i6, i7, i8, i9, i10, i11, i12, i13, i14, i15, i16, i17, i18].getD k (fun _ => 0), ?_⟩
  intro k q hq
  match k, hq with
  | 0, hq => cases hq; exact h0
  | 1, hq => cases hq; exact h1
  | 2, hq => cases hq; exact h2
  | 3, hq => cases hq; exact h3
  | 4, hq => cases hq; exact h4
  | 5, hq => cases hq; exact h5
  | 6, hq => cases hq; exact h6
  | 7, hq => cases hq; exact h7
  | 8, hq => cases hq; exact h8
  | 9, hq => cases hq; exact h9
  | 10, hq => cases hq; exact h10
  | 11, hq => cases hq; exact h11
  | 12, hq => cases hq; exact h12
  | 13, hq => cases hq; exact h13
  | 14, hq => cases hq; exact h14
  | 15, hq => cases hq; exact h15
  | 16, hq => cases hq; exact h16
  | 17, hq => cases hq; exact h17
  | 18, hq => cases hq; exact h18
  | k + 19, hq => simp [vcl] at hq
theorem st_arrays {s : State} {b : Nat} (hts : ∀ w ∈ lw_tbl, w.before #[Value.ref b] s = true) : ∃ cA : Nat → ClassId, ∀ (k : Nat) (q : ClassId × FieldType), ([(cA 0, .int), (cA 1, .byte), (cA 2, .long), (cA 3, .boolean), (cA 4, (.array .int)), (cA 5, (.object "VaneCourt$Text")), (cA 6, (.object "VaneCourt$Asked")), (cA 7, (.object "java/lang/Object")), (cA 8, (.object "java/lang/String"))] : List (ClassId × FieldType))[k]? = some q → ArrOfT s q.1 q.2 ∧ va_RA s q.1 q.2 := by
  obtain ⟨c0, h0⟩ := arr_prim (s := s) (args := #[Value.ref b]) (ty := .int) (hts _ (by decide +kernel)) (fun C h => by cases h)
  obtain ⟨c1, h1⟩ := arr_prim (s := s) (args := #[Value.ref b]) (ty := .byte) (hts _ (by decide +kernel)) (fun C h => by cases h)
  obtain ⟨c2, h2⟩ := arr_prim (s := s) (args := #[Value.ref b]) (ty := .long) (hts _ (by decide +kernel)) (fun C h => by cases h)
  obtain ⟨c3, h3⟩ := arr_prim (s := s) (args := #[Value.ref b]) (ty := .boolean) (hts _ (by decide +kernel)) (fun C h => by cases h)
  obtain ⟨c4, h4⟩ := arr_arr (s := s) (args := #[Value.ref b]) (t := .int) (hts _ (by decide +kernel))
  obtain ⟨c5, h5⟩ := arr_obj (s := s) (args := #[Value.ref b]) (C := "VaneCourt$Text") (hts _ (by decide +kernel))
  obtain ⟨c6, h6⟩ := arr_obj (s := s) (args := #[Value.ref b]) (C := "VaneCourt$Asked") (hts _ (by decide +kernel))
  obtain ⟨c7, h7⟩ := arr_obj (s := s) (args := #[Value.ref b]) (C := "java/lang/Object") (hts _ (by decide +kernel))
  obtain ⟨c8, h8⟩ := arr_obj (s := s) (args := #[Value.ref b]) (C := "java/lang/String") (hts _ (by decide +kernel))
  refine ⟨fun k => [c0, c1, c2, c3, c4, c5, c6, c7, c8].getD k 0, ?_⟩
  intro k q hq
  match k, hq with
  | 0, hq => cases hq; exact h0
  | 1, hq => cases hq; exact h1
  | 2, hq => cases hq; exact h2
  | 3, hq => cases hq; exact h3
  | 4, hq => cases hq; exact h4
  | 5, hq => cases hq; exact h5
  | 6, hq => cases hq; exact h6
  | 7, hq => cases hq; exact h7
  | 8, hq => cases hq; exact h8
  | k + 9, hq => simp at hq
def wN : List Nat := [242, 243, 244, 245, 246, 247, 249, 251, 253, 255, 257, 259, 261, 263, 265, 267, 269, 271, 273, 275, 276, 277, 279, 281, 282, 284, 53]
abbrev wT (i : Nat) : Term := .string RX3 (wN.getD i 0)
abbrev nr : List Cond := flatC (Cond.and given_1 narrow_1)
abbrev QNA (s : State) : Nat → Prop := fun q => s.heap.size ≤ q
theorem QNA_no {s : State} : ∀ a : Nat, a < s.heap.size → ¬ QNA s a := fun a h => Nat.not_le.mpr h
theorem va_T.same {ty : FieldType} {t N M : Nat} {f g : Nat → Value} {A : Nat → Prop} {U : State} {H : Heap} (h : va_T ty t N f A U H) (k : va_T ty t M g A U H) (hN : N < 1000) (hM : M < 1000) : N = M ∧ ∀ j, j < N → f j = g j := by
  obtain ⟨cell, a1, a2, a3, a4, a5, a6, a7⟩ := h
  obtain ⟨cell', b1, b2, b3, b4, b5, b6, b7⟩ := k
  rw [a1] at b1
  cases b1
  have e : N = M := nI_inj (a5.symm.trans b5) (by omega) (by omega)
  refine ⟨e, fun j hj => ?_⟩
  have h1 := a6 j hj
  have h2 := b6 j (by omega)
  rw [h1] at h2
  exact Option.some.inj h2
theorem va_OF.same {o n d : String} {v w : Value} {t : Nat} {A : Nat → Prop} {U : State} {H : Heap} (h : va_OF o n d v t A U H) (k : va_OF o n d w t A U H) : v = w := by
  obtain ⟨cf, kk, i, f, cell, a1, a2, a3, a4, a5, a6⟩ := h
  obtain ⟨cf', kk', i', f', cell', b1, b2, b3, b4, b5, b6⟩ := k
  rw [a1] at b1
  cases b1
  rw [a3] at b3
  cases b3
  rw [a5] at b5
  exact Option.some.inj b5
theorem wB_inj : ∀ i, i < 27 → ∀ j, j < 27 → wL.getD i 0 = wL.getD j 0 → (∀ k, k < wL.getD i 0 → (wB.getD i []).getD k 0 = (wB.getD j []).getD k 0) → i = j := by decide +kernel
def wO : List Nat := [137, 145, 154, 163, 171, 183, 191, 199, 208, 218, 226, 238, 246, 257, 266, 275, 285, 291, 298, 305, 313, 321, 332, 340, 348, 357, 120]
theorem nr_at {k : Nat} {c : Cond} (h : nr[k]? = some c) : c ∈ nr := List.mem_of_getElem? h
theorem n_wex0 : ∀ i, i < 27 → nr[wO.getD i 0]? = some (Cond.exactly (wT i) "java/lang/String") := by decide +kernel
theorem n_wex : ∀ i, i < 27 → Cond.exactly (wT i) "java/lang/String" ∈ nr := fun i hi => nr_at (n_wex0 i hi)
theorem n_wco0 : ∀ i, i < 27 → nr[wO.getD i 0 + 1]? = some (Cond.eq (.field (wT i) "java/lang/String" "coder" "B") (.int 0)) := by decide +kernel
theorem n_wco : ∀ i, i < 27 → Cond.eq (.field (wT i) "java/lang/String" "coder" "B") (.int 0) ∈ nr := fun i hi => nr_at (n_wco0 i hi)
theorem n_war0 : ∀ i, i < 27 → nr[wO.getD i 0 + 2]? = some (Cond.arrayOf (.field (wT i) "java/lang/String" "value" "[B") .byte) := by decide +kernel
theorem n_war : ∀ i, i < 27 → Cond.arrayOf (.field (wT i) "java/lang/String" "value" "[B") .byte ∈ nr := fun i hi => nr_at (n_war0 i hi)
theorem n_wle0 : ∀ i, i < 27 → nr[wO.getD i 0 + 3]? = some (Cond.eq (.length (.field (wT i) "java/lang/String" "value" "[B")) (.int (Int32.ofNat (wL.getD i 0)))) := by decide +kernel
theorem n_wle : ∀ i, i < 27 → Cond.eq (.length (.field (wT i) "java/lang/String" "value" "[B")) (.int (Int32.ofNat (wL.getD i 0))) ∈ nr := fun i hi => nr_at (n_wle0 i hi)
theorem n_wel0 : ∀ i, i < 27 → ∀ j, j < wL.getD i 0 → nr[wO.getD i 0 + 4 + j]? = some (Cond.eq (.elem (.field (wT i) "java/lang/String" "value" "[B") (.int (Int32.ofNat j))) (.int ((wB.getD i []).getD j 0))) := by decide +kernel
theorem n_wel : ∀ i, i < 27 → ∀ j, j < wL.getD i 0 → Cond.eq (.elem (.field (wT i) "java/lang/String" "value" "[B") (.int (Int32.ofNat j))) (.int ((wB.getD i []).getD j 0)) ∈ nr := fun i hi j hj => nr_at (n_wel0 i hi j hj)
theorem n_ww0 : ∀ i, i < 26 → nr[11 + i]? = some (Cond.eq (.elem (.static RX3 "WORDS" "[Ljava/lang/String;") (.int (Int32.ofNat i))) (wT i)) := by decide +kernel
theorem n_ww : ∀ i, i < 26 → Cond.eq (.elem (.static RX3 "WORDS" "[Ljava/lang/String;") (.int (Int32.ofNat i))) (wT i) ∈ nr := fun i hi => nr_at (n_ww0 i hi)
theorem wL_30 : ∀ i, i < 27 → wL.getD i 0 < 30 := by decide +kernel
theorem st_strings {s : State} {b : Nat} (hs : ∀ c ∈ nr, c.before #[Value.ref b] s = true) : ∃ adK adV : Nat → Nat, vk_S 27 wL wB adK adV (QNA s) s s.heap ∧ ∀ i : Nat, i < 27 → (wT i).eval #[Value.ref b] s none [] s = some (.ref (adK i)) := by
  have h0 : ∀ i : Nat, ∃ q : Nat × Nat, i < 27 → (wT i).eval #[Value.ref b] s none [] s = some (.ref q.1) ∧ va_O "java/lang/String" q.1 (QNA s) s s.heap ∧ va_OF "java/lang/String" "coder" "B" (.int 0) q.1 (QNA s) s s.heap ∧ va_OF "java/lang/String" "value" "[B" (.ref q.2) q.1 (QNA s) s s.heap ∧ va_T .byte q.2 (wL.getD i 0) (fun j => .int ((wB.getD i []).getD j 0)) (QNA s) s s.heap := by
    intro i
    by_cases hi : i < 27
    · obtain ⟨a, c, cA, kA, q1, -⟩ := Cond.exactly_spec (args := #[Value.ref b]) (first := s) (o := none) (s := s) (idx := []) (t := wT i) (cls := "java/lang/String") (hs _ (n_wex i hi))
      obtain ⟨t, ht, hT⟩ := va_Tof (f := fun j => .int ((wB.getD i []).getD j 0)) (A := QNA s) (by have := wL_30 i hi; omega) (hs _ (n_war i hi)) (va_eqt (hs _ (n_wle i hi))) (fun j hj => va_eqt (hs _ (n_wel i hi j hj))) QNA_no
      exact ⟨(a, t), fun _ => ⟨q1, va_Oof (hs _ (n_wex i hi)) q1 QNA_no, vk_OFof q1 (va_eqt (hs _ (n_wco i hi))) QNA_no, vk_OFof q1 ht QNA_no, hT⟩⟩
    · exact ⟨(0, 0), fun h => absurd h hi⟩
  obtain ⟨ad, had⟩ := Classical.axiomOfChoice h0
  refine ⟨fun i => (ad i).1, fun i => (ad i).2, ⟨fun i hi => (had i hi).2, fun i j hi hj e => ?_⟩, fun i hi => (had i hi).1⟩
  obtain ⟨-, -, -, a4, a5⟩ := had i hi
  obtain ⟨-, -, -, b4, b5⟩ := had j hj
  have e : (ad i).1 = (ad j).1 := e
  rw [← e] at b4
  have e2 : (ad i).2 = (ad j).2 := by
    have := a4.same b4
    exact Value.ref.inj this
  rw [← e2] at b5
  obtain ⟨g1, g2⟩ := a5.same b5 (by have := wL_30 i hi; omega) (by have := wL_30 j hj; omega)
  exact wB_inj i hi j hj g1 (fun k hk => Value.int.inj (g2 k hk))
