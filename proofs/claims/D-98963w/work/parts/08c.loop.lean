/-! the law's loop (printed by mk08c.py) -/
set_option maxRecDepth 100000
theorem nI_sub6 {i Ls : Nat} (hL : Ls ≤ 384) (h : ¬ (nI Ls - 6) < nI i) (hi : i ≤ 384 + 6) : i + 5 < Ls := by
  have e6 : (6 : Int32) = nI 6 := by decide
  rw [Int32.lt_iff_toInt_lt, e6, Int32.toInt_sub, nI_toInt (by omega), nI_toInt (by omega), nI_toInt (by omega)] at h
  have : ((Ls : Int) - (6 : Nat)).bmod (2 ^ 32) = (Ls : Int) - 6 := by
    rw [Int.bmod_eq_of_le (by omega) (by omega)]
    omega
  omega
theorem lw_sl {a b i : Nat} (h1 : b ≤ 40000 + 13017 * i) (h2 : a ≤ b + 78100) : a ≤ 40000 + 13017 * (i + 6) := by
  rw [Nat.mul_add, ← Nat.add_assoc]
  exact Nat.le_trans h2 (Nat.add_le_add h1 (by decide))
set_option maxHeartbeats 16000000 in
theorem lw_loop {p : Program} {l : Launch} {e : Env} {s : State} {m : MethodId} {below : List Frame} {meth : Method} {c : Code} {K : QK} {G : State → Prop} {Q : State → Prop} {b Ls : Nat} {xs : Nat → Int32} {Rel : (Int32 → Option QT) → (Int32 → Option QT) → QA → QA → QL → Prop} {y : QY} {ea mi ic : Nat} {ib : Nat → Nat} (hSim : SimAll Rel) (hn13 : ¬ ql K 13) (hS : QSt K G y) (hWr : QWr K G) (hlst : l.stackTraces = false) (hLs : QLs K G ea mi) (hI : QIc K G ic ib) (hG : QG G) (hC : QCl K) (hM : QMl K) (hK : K.1 = s.heap) (hX : va_X b Ls xs s s.heap) (hbl : b < s.heap.size) (hL : Ls ≤ 384) (E : EV K G p s m #[Value.ref b] meth c code "VaneCourtLaw" 4)
    (fin : ∀ {H : Heap} {locs : List Loc} {ls : Array Slot} {ce sl : Nat} {w : QW}, ce ≤ 1200128 → sl ≤ 5501098 → WP K w H locs → W p l e room_1 s m #[Value.ref b] below meth c H locs ce sl Q (F0 m 1462 ls [.int 1])) :
    ∀ (n i : Nat), i ≤ Ls + 5 → Ls + 6 ≤ i + n → ∀ (T Ti : Int32 → Option QT) (ta : Int32 → Nat) (A B : QA) (L : QL) (X : QX) (M : QM), Rel T Ti A B L → HW K G X M T Ti ta → ∀ {H : Heap} {locs : List Loc} {ls : Array Slot} {ce sl : Nat}, ce ≤ 1000 + 1100 * i → sl ≤ 40000 + 13017 * i → WP K (A, B, L, X, M) H locs → lv_has ls 4 [(1, .ref (K.2.1 0)), (2, .ref (K.2.1 1000)), (3, .int (nI i)), (0, .ref b)] → W p l e room_1 s m #[Value.ref b] below meth c H locs ce sl Q (F0 m 18 ls []) := by
  have hx := E.1
  have hb := E.2.1
  intro n
  induction n with
  | zero =>
    intro i h1 h2
    exact absurd h2 (by omega)
  | succ n ih =>
    intro i hi hin T Ti ta A B L X M hR hH H locs ls ce sl hce hsl hw hl
    have hS1 := hw.S
    rw [hK] at hS1
    have hbA : ¬ qA K b := fun h => by
      have h : K.1.size ≤ b := h
      rw [hK] at h
      omega
    refine lv_iload_n hx hb dL_law_18 rfl (lv_at hl 2 rfl) ?_
    refine lv_aload_n hx hb dL_law_19 rfl (lv_at hl 3 rfl) ?_
    refine va_slen hx hb hX hbl hbA hS1 dL_law_20 ?_
    refine lv_bipush (v := 6) hx hb dL_law_21 (by decide) ?_
    refine lv_isub hx hb dL_law_23 ?_
    refine lv_icmp_gt (tgt := 1461) hx hb dL_law_24 (by decide) (fun _ => ?_) (fun c0 => ?_)
    · refine lv_iconst (v := 1) hx hb dL_law_1461 (by decide) ?_
      exact fin (by omega) (by omega) hw
    have hi5 : i + 5 < Ls := nI_sub6 hL c0 (by omega)
    refine lv_aload_n hx hb dL_law_27 rfl (lv_at hl 3 rfl) ?_
    refine lv_iload_n hx hb dL_law_28 rfl (lv_at hl 2 rfl) ?_
    refine r_scr (j := i) hx hb hK hX hbl hw rfl (by omega) hL dL_law_29 ?_
    refine lv_bipush (v := 63) hx hb dL_law_30 (by decide) ?_
    refine lv_iand hx hb dL_law_32 ?_
    refine lv_topi (fun v ev => ?_)
    clear ev
    have next : ∀ (T Ti : Int32 → Option QT) (ta : Int32 → Nat) (A B : QA) (L : QL) (X : QX) (M : QM), Rel T Ti A B L → HW K G X M T Ti ta → ∀ {H : Heap} {locs : List Loc} {ls : Array Slot} {ce1 sl1 : Nat}, ce1 ≤ ce + 6600 → sl1 ≤ sl + 78100 → WP K (A, B, L, X, M) H locs → lv_has ls 4 [(1, .ref (K.2.1 0)), (2, .ref (K.2.1 1000)), (3, .int (nI i)), (0, .ref b)] → W p l e room_1 s m #[Value.ref b] below meth c H locs ce1 sl1 Q (F0 m 1455 ls []) := by
      intro T Ti ta A B L X M hR hH H locs ls ce1 sl1 h1 h2 hw hl
      refine lv_iinc (v := nI (i + 6)) (lv' := [(3, .int (nI (i + 6))), (1, .ref (K.2.1 0)), (2, .ref (K.2.1 1000)), (0, .ref b)]) hx hb dL_law_1455 hl (k := 2) rfl nI_addn (by decide) rfl (fun ls hl => ?_)
      refine lv_goto (tgt := 18) hx hb dL_law_1458 (by decide) ?_
      have e1 : ce1 ≤ 1000 + 1100 * (i + 6) := by omega
      have e2 : sl1 ≤ 40000 + 13017 * (i + 6) := lw_sl hsl h2
      exact ih (i + 6) (by omega) (by omega) T Ti ta A B L X M hR hH e1 e2 hw (lv_sub hl [1, 2, 0, 3] rfl)
    by_cases c0 : v = 0
    · refine lv_tableIn (tgt := 216) (off := 183) hx hb dL_law_33 (by rw [c0]; decide) (by rw [c0]; decide) (by rw [c0]; rfl) (by decide) ?_
      exact lc_newCase hSim.1 hG hC hM hK hX hbl hL hi5 E (by omega) (by omega) hR hH next hw hl
    by_cases c1 : v = 1
    · refine lv_tableIn (tgt := 269) (off := 236) hx hb dL_law_33 (by rw [c1]; decide) (by rw [c1]; decide) (by rw [c1]; rfl) (by decide) ?_
      exact lc_feed hSim.2.1 hG hC hM hK hX hbl hL hi5 E (by omega) (by omega) hR hH next hw hl
    by_cases c2 : v = 2
    · refine lv_tableIn (tgt := 332) (off := 299) hx hb dL_law_33 (by rw [c2]; decide) (by rw [c2]; decide) (by rw [c2]; rfl) (by decide) ?_
      exact lc_end hSim.2.2.1 hG hC hM hK hX hbl hL hi5 E (by omega) (by omega) hR hH next hw hl
    by_cases c3 : v = 3
    · refine lv_tableIn (tgt := 355) (off := 322) hx hb dL_law_33 (by rw [c3]; decide) (by rw [c3]; decide) (by rw [c3]; rfl) (by decide) ?_
      exact lc_text hSim.2.2.2.1 hn13 hS hWr hlst hLs hI hG hC hM hK hX hbl hL hi5 E (by omega) (by omega) hR hH next hw hl
    by_cases c4 : v = 4
    · refine lv_tableIn (tgt := 368) (off := 335) hx hb dL_law_33 (by rw [c4]; decide) (by rw [c4]; decide) (by rw [c4]; rfl) (by decide) ?_
      exact lc_fault hSim.2.2.2.2.1 hG hC hM hK hX hbl hL hi5 E (by omega) (by omega) hR hH next hw hl
    by_cases c5 : v = 5
    · refine lv_tableIn (tgt := 391) (off := 358) hx hb dL_law_33 (by rw [c5]; decide) (by rw [c5]; decide) (by rw [c5]; rfl) (by decide) ?_
      exact lc_by hSim.2.2.2.2.2.1 hG hC hM hK hX hbl hL hi5 E (by omega) (by omega) hR hH next hw hl
    by_cases c6 : v = 6
    · refine lv_tableIn (tgt := 414) (off := 381) hx hb dL_law_33 (by rw [c6]; decide) (by rw [c6]; decide) (by rw [c6]; rfl) (by decide) ?_
      exact lc_call hSim.2.2.2.2.2.2.1 hG hC hM hK hX hbl hL hi5 E (by omega) (by omega) hR hH next hw hl
    by_cases c7 : v = 7
    · refine lv_tableIn (tgt := 437) (off := 404) hx hb dL_law_33 (by rw [c7]; decide) (by rw [c7]; decide) (by rw [c7]; rfl) (by decide) ?_
      exact lc_delay hSim.2.2.2.2.2.2.2.1 hG hC hM hK hX hbl hL hi5 E (by omega) (by omega) hR hH next hw hl
    by_cases c8 : v = 8
    · refine lv_tableIn (tgt := 450) (off := 417) hx hb dL_law_33 (by rw [c8]; decide) (by rw [c8]; decide) (by rw [c8]; rfl) (by decide) ?_
      exact lc_appeal hSim.2.2.2.2.2.2.2.2.1 hG hC hM hK hX hbl hL hi5 E (by omega) (by omega) hR hH next hw hl
    by_cases c9 : v = 9
    · refine lv_tableIn (tgt := 473) (off := 440) hx hb dL_law_33 (by rw [c9]; decide) (by rw [c9]; decide) (by rw [c9]; rfl) (by decide) ?_
      exact lc_gust hSim.2.2.2.2.2.2.2.2.2.1 hG hC hM hK hX hbl hL hi5 E (by omega) (by omega) hR hH next hw hl
    by_cases c10 : v = 10
    · refine lv_tableIn (tgt := 506) (off := 473) hx hb dL_law_33 (by rw [c10]; decide) (by rw [c10]; decide) (by rw [c10]; rfl) (by decide) ?_
      exact lc_withdraw hSim.2.2.2.2.2.2.2.2.2.2.1 hG hC hM hK hX hbl hL hi5 E (by omega) (by omega) hR hH next hw hl
    by_cases c11 : v = 11
    · refine lv_tableIn (tgt := 519) (off := 486) hx hb dL_law_33 (by rw [c11]; decide) (by rw [c11]; decide) (by rw [c11]; rfl) (by decide) ?_
      exact lc_hour hSim.2.2.2.2.2.2.2.2.2.2.2.1 hG hC hM hK hX hbl hL hi5 E (by omega) (by omega) hR hH next hw hl
    by_cases c12 : v = 12
    · refine lv_tableIn (tgt := 542) (off := 509) hx hb dL_law_33 (by rw [c12]; decide) (by rw [c12]; decide) (by rw [c12]; rfl) (by decide) ?_
      exact lc_played hSim.2.2.2.2.2.2.2.2.2.2.2.2.1 hG hC hM hK hX hbl hL hi5 E (by omega) (by omega) hR hH next hw hl
    by_cases c13 : v = 13
    · refine lv_tableIn (tgt := 565) (off := 532) hx hb dL_law_33 (by rw [c13]; decide) (by rw [c13]; decide) (by rw [c13]; rfl) (by decide) ?_
      exact lc_decades hSim.2.2.2.2.2.2.2.2.2.2.2.2.2.1 hG hC hM hK hX hbl hL hi5 E (by omega) (by omega) hR hH next hw hl
    by_cases c14 : v = 14
    · refine lv_tableIn (tgt := 598) (off := 565) hx hb dL_law_33 (by rw [c14]; decide) (by rw [c14]; decide) (by rw [c14]; rfl) (by decide) ?_
      exact lc_undo hSim.2.2.2.2.2.2.2.2.2.2.2.2.2.2.1 hG hC hM hK hX hbl hL hi5 E (by omega) (by omega) hR hH next hw hl
    by_cases c15 : v = 15
    · refine lv_tableIn (tgt := 611) (off := 578) hx hb dL_law_33 (by rw [c15]; decide) (by rw [c15]; decide) (by rw [c15]; rfl) (by decide) ?_
      exact lc_ofCase hSim.2.2.2.2.2.2.2.2.2.2.2.2.2.2.2.1 hG hC hM hK hX hbl hL hi5 E (by omega) (by omega) hR hH next hw hl
    by_cases c16 : v = 16
    · refine lv_tableIn (tgt := 644) (off := 611) hx hb dL_law_33 (by rw [c16]; decide) (by rw [c16]; decide) (by rw [c16]; rfl) (by decide) ?_
      exact lc_is hSim.2.2.2.2.2.2.2.2.2.2.2.2.2.2.2.2.1 hG hC hM hK hX hbl hL hi5 E (by omega) (by omega) hR hH next hw hl
    by_cases c17 : v = 17
    · refine lv_tableIn (tgt := 667) (off := 634) hx hb dL_law_33 (by rw [c17]; decide) (by rw [c17]; decide) (by rw [c17]; rfl) (by decide) ?_
      exact lc_book hSim.2.2.2.2.2.2.2.2.2.2.2.2.2.2.2.2.2.1 hG hC hM hK hX hbl hL hi5 E (by omega) (by omega) hR hH next hw hl
    by_cases c18 : v = 18
    · refine lv_tableIn (tgt := 700) (off := 667) hx hb dL_law_33 (by rw [c18]; decide) (by rw [c18]; decide) (by rw [c18]; rfl) (by decide) ?_
      exact lc_foretold hSim.2.2.2.2.2.2.2.2.2.2.2.2.2.2.2.2.2.2.1 hG hC hM hK hX hbl hL hi5 E (by omega) (by omega) hR hH next hw hl
    by_cases c19 : v = 19
    · refine lv_tableIn (tgt := 733) (off := 700) hx hb dL_law_33 (by rw [c19]; decide) (by rw [c19]; decide) (by rw [c19]; rfl) (by decide) ?_
      exact lc_ends hSim.2.2.2.2.2.2.2.2.2.2.2.2.2.2.2.2.2.2.2.1 hG hC hM hK hX hbl hL hi5 E (by omega) (by omega) hR hH next hw hl
    by_cases c20 : v = 20
    · refine lv_tableIn (tgt := 786) (off := 753) hx hb dL_law_33 (by rw [c20]; decide) (by rw [c20]; decide) (by rw [c20]; rfl) (by decide) ?_
      exact lc_best hSim.2.2.2.2.2.2.2.2.2.2.2.2.2.2.2.2.2.2.2.2.1 hG hC hM hK hX hbl hL hi5 E (by omega) (by omega) hR hH next hw hl
    by_cases c21 : v = 21
    · refine lv_tableIn (tgt := 845) (off := 812) hx hb dL_law_33 (by rw [c21]; decide) (by rw [c21]; decide) (by rw [c21]; rfl) (by decide) ?_
      exact lc_harshest hSim.2.2.2.2.2.2.2.2.2.2.2.2.2.2.2.2.2.2.2.2.2.1 hG hC hM hK hX hbl hL hi5 E (by omega) (by omega) hR hH next hw hl
    by_cases c22 : v = 22
    · refine lv_tableIn (tgt := 868) (off := 835) hx hb dL_law_33 (by rw [c22]; decide) (by rw [c22]; decide) (by rw [c22]; rfl) (by decide) ?_
      exact lc_odds hSim.2.2.2.2.2.2.2.2.2.2.2.2.2.2.2.2.2.2.2.2.2.2.1 hG hC hM hK hX hbl hL hi5 E (by omega) (by omega) hR hH next hw hl
    by_cases c23 : v = 23
    · refine lv_tableIn (tgt := 908) (off := 875) hx hb dL_law_33 (by rw [c23]; decide) (by rw [c23]; decide) (by rw [c23]; rfl) (by decide) ?_
      exact lc_clash hSim.2.2.2.2.2.2.2.2.2.2.2.2.2.2.2.2.2.2.2.2.2.2.2.1 hG hC hM hK hX hbl hL hi5 E (by omega) (by omega) hR hH next hw hl
    by_cases c24 : v = 24
    · refine lv_tableIn (tgt := 931) (off := 898) hx hb dL_law_33 (by rw [c24]; decide) (by rw [c24]; decide) (by rw [c24]; rfl) (by decide) ?_
      exact lc_leastFacts hSim.2.2.2.2.2.2.2.2.2.2.2.2.2.2.2.2.2.2.2.2.2.2.2.2.1 hG hC hM hK hX hbl hL hi5 E (by omega) (by omega) hR hH next hw hl
    by_cases c25 : v = 25
    · refine lv_tableIn (tgt := 954) (off := 921) hx hb dL_law_33 (by rw [c25]; decide) (by rw [c25]; decide) (by rw [c25]; rfl) (by decide) ?_
      exact lc_game hSim.2.2.2.2.2.2.2.2.2.2.2.2.2.2.2.2.2.2.2.2.2.2.2.2.2.1 hG hC hM hK hX hbl hL hi5 E (by omega) (by omega) hR hH next hw hl
    by_cases c26 : v = 26
    · refine lv_tableIn (tgt := 1029) (off := 996) hx hb dL_law_33 (by rw [c26]; decide) (by rw [c26]; decide) (by rw [c26]; rfl) (by decide) ?_
      exact lc_session hSim.2.2.2.2.2.2.2.2.2.2.2.2.2.2.2.2.2.2.2.2.2.2.2.2.2.2.1 hG hC hM hK hX hbl hL hi5 E (by omega) (by omega) hR hH next hw hl
    by_cases c27 : v = 27
    · refine lv_tableIn (tgt := 1062) (off := 1029) hx hb dL_law_33 (by rw [c27]; decide) (by rw [c27]; decide) (by rw [c27]; rfl) (by decide) ?_
      exact lc_record hSim.2.2.2.2.2.2.2.2.2.2.2.2.2.2.2.2.2.2.2.2.2.2.2.2.2.2.2.1 hG hC hM hK hX hbl hL hi5 E (by omega) (by omega) hR hH next hw hl
    by_cases c28 : v = 28
    · refine lv_tableIn (tgt := 1121) (off := 1088) hx hb dL_law_33 (by rw [c28]; decide) (by rw [c28]; decide) (by rw [c28]; rfl) (by decide) ?_
      exact lc_turned hSim.2.2.2.2.2.2.2.2.2.2.2.2.2.2.2.2.2.2.2.2.2.2.2.2.2.2.2.2.1 hG hC hM hK hX hbl hL hi5 E (by omega) (by omega) hR hH next hw hl
    by_cases c29 : v = 29
    · refine lv_tableIn (tgt := 1134) (off := 1101) hx hb dL_law_33 (by rw [c29]; decide) (by rw [c29]; decide) (by rw [c29]; rfl) (by decide) ?_
      exact lc_fewestWrong hSim.2.2.2.2.2.2.2.2.2.2.2.2.2.2.2.2.2.2.2.2.2.2.2.2.2.2.2.2.2.1 hG hC hM hK hX hbl hL hi5 E (by omega) (by omega) hR hH next hw hl
    by_cases c30 : v = 30
    · refine lv_tableIn (tgt := 1147) (off := 1114) hx hb dL_law_33 (by rw [c30]; decide) (by rw [c30]; decide) (by rw [c30]; rfl) (by decide) ?_
      exact lc_whose hSim.2.2.2.2.2.2.2.2.2.2.2.2.2.2.2.2.2.2.2.2.2.2.2.2.2.2.2.2.2.2.1 hG hC hM hK hX hbl hL hi5 E (by omega) (by omega) hR hH next hw hl
    by_cases c31 : v = 31
    · refine lv_tableIn (tgt := 1160) (off := 1127) hx hb dL_law_33 (by rw [c31]; decide) (by rw [c31]; decide) (by rw [c31]; rfl) (by decide) ?_
      exact lc_learn hSim.2.2.2.2.2.2.2.2.2.2.2.2.2.2.2.2.2.2.2.2.2.2.2.2.2.2.2.2.2.2.2.1 hG hC hM hK hX hbl hL hi5 E (by omega) (by omega) hR hH next hw hl
    by_cases c32 : v = 32
    · refine lv_tableIn (tgt := 1209) (off := 1176) hx hb dL_law_33 (by rw [c32]; decide) (by rw [c32]; decide) (by rw [c32]; rfl) (by decide) ?_
      exact lc_codes hSim.2.2.2.2.2.2.2.2.2.2.2.2.2.2.2.2.2.2.2.2.2.2.2.2.2.2.2.2.2.2.2.2.1 hG hC hM hK hX hbl hL hi5 E (by omega) (by omega) hR hH next hw hl
    by_cases c33 : v = 33
    · refine lv_tableIn (tgt := 1232) (off := 1199) hx hb dL_law_33 (by rw [c33]; decide) (by rw [c33]; decide) (by rw [c33]; rfl) (by decide) ?_
      exact lc_sure hSim.2.2.2.2.2.2.2.2.2.2.2.2.2.2.2.2.2.2.2.2.2.2.2.2.2.2.2.2.2.2.2.2.2.1 hG hC hM hK hX hbl hL hi5 E (by omega) (by omega) hR hH next hw hl
    by_cases c34 : v = 34
    · refine lv_tableIn (tgt := 1255) (off := 1222) hx hb dL_law_33 (by rw [c34]; decide) (by rw [c34]; decide) (by rw [c34]; rfl) (by decide) ?_
      exact lc_toBring hSim.2.2.2.2.2.2.2.2.2.2.2.2.2.2.2.2.2.2.2.2.2.2.2.2.2.2.2.2.2.2.2.2.2.2.1 hG hC hM hK hX hbl hL hi5 E (by omega) (by omega) hR hH next hw hl
    by_cases c35 : v = 35
    · refine lv_tableIn (tgt := 1268) (off := 1235) hx hb dL_law_33 (by rw [c35]; decide) (by rw [c35]; decide) (by rw [c35]; rfl) (by decide) ?_
      exact lc_counsel hSim.2.2.2.2.2.2.2.2.2.2.2.2.2.2.2.2.2.2.2.2.2.2.2.2.2.2.2.2.2.2.2.2.2.2.2.1 hG hC hM hK hX hbl hL hi5 E (by omega) (by omega) hR hH next hw hl
    by_cases c36 : v = 36
    · refine lv_tableIn (tgt := 1301) (off := 1268) hx hb dL_law_33 (by rw [c36]; decide) (by rw [c36]; decide) (by rw [c36]; rfl) (by decide) ?_
      exact lc_hired hSim.2.2.2.2.2.2.2.2.2.2.2.2.2.2.2.2.2.2.2.2.2.2.2.2.2.2.2.2.2.2.2.2.2.2.2.2.1 hG hC hM hK hX hbl hL hi5 E (by omega) (by omega) hR hH next hw hl
    by_cases c37 : v = 37
    · refine lv_tableIn (tgt := 1350) (off := 1317) hx hb dL_law_33 (by rw [c37]; decide) (by rw [c37]; decide) (by rw [c37]; rfl) (by decide) ?_
      exact lc_calm hSim.2.2.2.2.2.2.2.2.2.2.2.2.2.2.2.2.2.2.2.2.2.2.2.2.2.2.2.2.2.2.2.2.2.2.2.2.2.1 hG hC hM hK hX hbl hL hi5 E (by omega) (by omega) hR hH next hw hl
    by_cases c38 : v = 38
    · refine lv_tableIn (tgt := 1373) (off := 1340) hx hb dL_law_33 (by rw [c38]; decide) (by rw [c38]; decide) (by rw [c38]; rfl) (by decide) ?_
      exact lc_standing hSim.2.2.2.2.2.2.2.2.2.2.2.2.2.2.2.2.2.2.2.2.2.2.2.2.2.2.2.2.2.2.2.2.2.2.2.2.2.2.1 hG hC hM hK hX hbl hL hi5 E (by omega) (by omega) hR hH next hw hl
    by_cases c39 : v = 39
    · refine lv_tableIn (tgt := 1406) (off := 1373) hx hb dL_law_33 (by rw [c39]; decide) (by rw [c39]; decide) (by rw [c39]; rfl) (by decide) ?_
      exact lc_image hSim.2.2.2.2.2.2.2.2.2.2.2.2.2.2.2.2.2.2.2.2.2.2.2.2.2.2.2.2.2.2.2.2.2.2.2.2.2.2.2.1 hG hC hM hK hX hbl hL hi5 E (by omega) (by omega) hR hH next hw hl
    by_cases c40 : v = 40
    · refine lv_tableIn (tgt := 1419) (off := 1386) hx hb dL_law_33 (by rw [c40]; decide) (by rw [c40]; decide) (by rw [c40]; rfl) (by decide) ?_
      exact lc_back hSim.2.2.2.2.2.2.2.2.2.2.2.2.2.2.2.2.2.2.2.2.2.2.2.2.2.2.2.2.2.2.2.2.2.2.2.2.2.2.2.2.1 hG hC hM hK hX hbl hL hi5 E (by omega) (by omega) hR hH next hw hl
    by_cases c41 : v = 41
    · refine lv_tableIn (tgt := 1432) (off := 1399) hx hb dL_law_33 (by rw [c41]; decide) (by rw [c41]; decide) (by rw [c41]; rfl) (by decide) ?_
      exact lc_about hSim.2.2.2.2.2.2.2.2.2.2.2.2.2.2.2.2.2.2.2.2.2.2.2.2.2.2.2.2.2.2.2.2.2.2.2.2.2.2.2.2.2 hG hC hM hK hX hbl hL hi5 E (by omega) (by omega) hR hH next hw hl
    have hout : v.toInt < 0 ∨ 41 < v.toInt := by
      by_cases h : v.toInt < 0
      · exact Or.inl h
      by_cases h' : 41 < v.toInt
      · exact Or.inr h'
      exfalso
      have hv : v = nI v.toInt.toNat := by
        apply Int32.toInt_inj.mp
        rw [nI_toInt (by omega)]
        omega
      generalize hk : v.toInt.toNat = k at hv
      have hk42 : k < 42 := by omega
      subst hv
      clear hk h h'
      match k, hk42 with
      | 0, _ => exact c0 rfl
      | 1, _ => exact c1 rfl
      | 2, _ => exact c2 rfl
      | 3, _ => exact c3 rfl
      | 4, _ => exact c4 rfl
      | 5, _ => exact c5 rfl
      | 6, _ => exact c6 rfl
      | 7, _ => exact c7 rfl
      | 8, _ => exact c8 rfl
      | 9, _ => exact c9 rfl
      | 10, _ => exact c10 rfl
      | 11, _ => exact c11 rfl
      | 12, _ => exact c12 rfl
      | 13, _ => exact c13 rfl
      | 14, _ => exact c14 rfl
      | 15, _ => exact c15 rfl
      | 16, _ => exact c16 rfl
      | 17, _ => exact c17 rfl
      | 18, _ => exact c18 rfl
      | 19, _ => exact c19 rfl
      | 20, _ => exact c20 rfl
      | 21, _ => exact c21 rfl
      | 22, _ => exact c22 rfl
      | 23, _ => exact c23 rfl
      | 24, _ => exact c24 rfl
      | 25, _ => exact c25 rfl
      | 26, _ => exact c26 rfl
      | 27, _ => exact c27 rfl
      | 28, _ => exact c28 rfl
      | 29, _ => exact c29 rfl
      | 30, _ => exact c30 rfl
      | 31, _ => exact c31 rfl
      | 32, _ => exact c32 rfl
      | 33, _ => exact c33 rfl
      | 34, _ => exact c34 rfl
      | 35, _ => exact c35 rfl
      | 36, _ => exact c36 rfl
      | 37, _ => exact c37 rfl
      | 38, _ => exact c38 rfl
      | 39, _ => exact c39 rfl
      | 40, _ => exact c40 rfl
      | 41, _ => exact c41 rfl
      | k + 42, h => exact absurd h (by omega)
    refine lv_tableOut (tgt := 1455) hx hb dL_law_33 hout (by decide) ?_
    exact next T Ti ta A B L X M hR hH (by omega) (by omega) hw hl
