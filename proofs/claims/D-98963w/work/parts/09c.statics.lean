/-! the law's start: statics (printed by mk09.py) -/
set_option maxRecDepth 100000
theorem vz_sub (a b : Int32) : a + b - b = a := by grind
theorem vz_ao {s U : State} {b : Nat} (hal : s.vm.Alike U.vm) (h : (Cond.arrayOver (.array .int)).before #[Value.ref b] s = true) : (Cond.arrayOver (.array .int)).before #[] U = true := by
  simp only [Cond.before, Cond.holds, Cond.value, beq_iff_eq] at h ⊢
  rw [hal.findClass]
  cases hc : s.vm.findClass (FieldType.array .int).toString with
  | none => simp [hc] at h
  | some comp =>
    simp only [hc, Option.bind_some, Option.bind_eq_some_iff, Option.map_eq_some_iff] at h ⊢
    obtain ⟨c, hi, k, hk, hb⟩ := h
    obtain ⟨k', hk', he⟩ := hal.2.2 _ _ hk
    refine ⟨c, ?_, k', hk', ?_⟩
    · rw [hal.findIdx?_eqK _ (fun _ => rfl)]; exact hi
    · rw [he]
      cases hkind : k.kind with
      | array component ty =>
        rw [hkind] at hb
        simp only [hkind]
        rw [hal.findClass]
        exact hb
      | _ => rw [hkind] at hb; simp at hb
theorem st_kd : ∀ t ∈ qfl, t.2.1.cls ≠ "java/lang/invoke/MethodHandle" ∧ t.2.1.cls ≠ "java/lang/invoke/VarHandle" := by decide +kernel
theorem st_Fw {s : State} {b : Nat} (hts : ∀ w ∈ lw_tbl, w.before #[Value.ref b] s = true) : ∀ t ∈ qfl, va_Fw t.1 t.2.1 t.2.2 s := by
  intro t ht
  have hi : ∃ i, qfl[i]? = some t := List.mem_iff_getElem?.mp ht
  obtain ⟨i, hi⟩ := hi
  match i, hi with
  | 0, hi => cases hi; exact va_Fw.of (hts _ q952) (hts _ q951) (hts _ q979) (hts _ q977) (hts _ q975)
  | 1, hi => cases hi; exact va_Fw.of (hts _ q952) (hts _ q951) (hts _ q973) (hts _ q971) (hts _ q969)
  | 2, hi => cases hi; exact va_Fw.of (hts _ q952) (hts _ q951) (hts _ q965) (hts _ q963) (hts _ q961)
  | 3, hi => cases hi; exact va_Fw.of (hts _ q952) (hts _ q951) (hts _ q957) (hts _ q955) (hts _ q953)
  | 4, hi => cases hi; exact va_Fw.of (hts _ q931) (hts _ q930) (hts _ q1019) (hts _ q1017) (hts _ q1015)
  | 5, hi => cases hi; exact va_Fw.of (hts _ q931) (hts _ q930) (hts _ q1001) (hts _ q999) (hts _ q997)
  | 6, hi => cases hi; exact va_Fw.of (hts _ q931) (hts _ q930) (hts _ q1008) (hts _ q1006) (hts _ q1004)
  | 7, hi => cases hi; exact va_Fw.of (hts _ q931) (hts _ q930) (hts _ q947) (hts _ q945) (hts _ q943)
  | 8, hi => cases hi; exact va_Fw.of (hts _ q931) (hts _ q930) (hts _ q936) (hts _ q934) (hts _ q932)
  | 9, hi => cases hi; exact va_Fw.of (hts _ q931) (hts _ q930) (hts _ q1027) (hts _ q1025) (hts _ q1023)
  | k + 10, hi => simp [qfl] at hi
abbrev mAA (ad : Nat → Nat) (lv : Nat → Bool) (D : va_G) (cA : Nat → ClassId) (s : State) : QK := (s.heap, ad, lv, D, cA)
def txN : QT := (fun _ => none, none, none, none, none, [])
theorem st_all {s : State} {b : Nat} {ad : Nat → Nat} {lv : Nat → Bool} {D : va_G} {cA : Nat → ClassId} (hts : ∀ w ∈ lw_tbl, w.before #[Value.ref b] s = true) (hs : ∀ c ∈ nr, c.before #[Value.ref b] s = true) (hcl : ∀ (k : Nat) (q : vw_C), vcl[k]? = some q → u_Kn s q.1 q.2.1 q.2.2 (D.1 k) (D.2 k)) :
    ∃ (y : QY) (ea mi ic : Nat) (ib : Nat → Nat) (nt : Nat), QSt (mAA ad lv D cA s) (GS s) y ∧ QWr (mAA ad lv D cA s) (GS s) ∧ QLs (mAA ad lv D cA s) (GS s) ea mi ∧ QIc (mAA ad lv D cA s) (GS s) ic ib ∧ QAO2 (GS s) ∧ QF (GS s) ∧ (∀ U, GS s U → va_Z "VaneCourt" "NOTHING" "LVaneCourt$Text;" (.ref nt) (QNA s) U s.heap) ∧ ∀ M, TextAt (mAA ad lv D cA s) (GS s) M nt txN := by
  obtain ⟨adK, adV, hV, hW⟩ := st_strings hs
  have al : ∀ U, GS s U → s.vm.Alike U.vm := fun U h => h.alike
  obtain ⟨wt, hwt, hWT⟩ := va_Tof (args := #[Value.ref b]) (s := s) (tm := (.static "VaneCourt$Tokens" "WORDS" "[Ljava/lang/String;")) (ty := .object "java/lang/String") (N := 26) (f := fun i => .ref (adK i)) (A := QNA s) (by decide) (hs _ (nr_at (k := 9) (c := Cond.arrayOf (.static "VaneCourt$Tokens" "WORDS" "[Ljava/lang/String;") (.object "java/lang/String")) (by decide +kernel))) (va_eqt (hs _ (nr_at (k := 10) (c := Cond.eq (.length (.static "VaneCourt$Tokens" "WORDS" "[Ljava/lang/String;")) (.int 26)) (by decide +kernel)))) (fun j hj => vz_eq (hs _ (n_ww j hj)) (hW j (by omega))) QNA_no
  have hWZ := va_Zref (hts _ q414) (hts _ (lw_all_tbl q141)) hwt (QNA_no (s := s))
  have hCS := va_Zof (hts _ q428) (hts _ (lw_all_tbl q146)) (va_eqt (hs _ (nr_at (k := 37) (c := Cond.eq (.static "java/lang/String" "COMPACT_STRINGS" "Z") (.int 1)) (by decide +kernel)))) (QNA_no (s := s))
  have hSF := va_Zqof (hts _ q444) (hts _ (lw_all_tbl q148)) (hs _ (nr_at (k := 38) (c := Cond.isRef (.static "jdk/internal/util/Preconditions" "SIOOBE_FORMATTER" "Ljava/util/function/BiFunction;")) (by decide +kernel))) (QNA_no (s := s))
  have hU := vq_Zqof (hts _ q504) (hts _ (lw_all_tbl q151)) (hs _ (nr_at (k := 42) (c := Cond.isRef (.static "java/lang/Throwable" "UNASSIGNED_STACK" "[Ljava/lang/StackTraceElement;")) (by decide +kernel))) (QNA_no (s := s))
  have hN := vq_Zqof (hts _ q506) (hts _ (lw_all_tbl q151)) (hs _ (nr_at (k := 43) (c := Cond.isRef (.static "java/lang/Throwable" "SUPPRESSED_SENTINEL" "Ljava/util/List;")) (by decide +kernel))) (QNA_no (s := s))
  obtain ⟨ea, hea, hET⟩ := va_Tof (args := #[Value.ref b]) (s := s) (tm := (.static "java/util/ArrayList" "DEFAULTCAPACITY_EMPTY_ELEMENTDATA" "[Ljava/lang/Object;")) (ty := .object "java/lang/Object") (N := 0) (f := fun _ => .null) (A := QNA s) (by decide) (hs _ (nr_at (k := 5) (c := Cond.arrayOf (.static "java/util/ArrayList" "DEFAULTCAPACITY_EMPTY_ELEMENTDATA" "[Ljava/lang/Object;") (.object "java/lang/Object")) (by decide +kernel))) (va_eqt (hs _ (nr_at (k := 7) (c := Cond.eq (.length (.static "java/util/ArrayList" "DEFAULTCAPACITY_EMPTY_ELEMENTDATA" "[Ljava/lang/Object;")) (.int 0)) (by decide +kernel)))) (fun j hj => absurd hj (Nat.not_lt_zero j)) QNA_no
  have hEZ := va_Zref (hts _ q363) (hts _ (lw_all_tbl q145)) hea (QNA_no (s := s))
  obtain ⟨mi, hmi⟩ := va_Mi.of (C := "[Ljava/lang/Object;") (hs _ (nr_at (k := 119) (c := Cond.isRef (.mirror "[Ljava/lang/Object;")) (by decide +kernel)))
  have hIH := va_Zof (hts _ q765) (hts _ (lw_all_tbl q166)) (va_eqt (hs _ (nr_at (k := 44) (c := Cond.eq (.static "java/lang/Integer$IntegerCache" "high" "I") (.int 127)) (by decide +kernel)))) (QNA_no (s := s))
  have hcl0 := va_eqt (t := .length (.static "java/lang/Integer$IntegerCache" "cache" "[Ljava/lang/Integer;")) (z := 256) (hs _ (nr_at (k := 47) (c := Cond.eq (.length (.static "java/lang/Integer$IntegerCache" "cache" "[Ljava/lang/Integer;")) (.int 256)) (by decide +kernel)))
  obtain ⟨ib, hib, hie⟩ := vb_Cof (args := #[Value.ref b]) (s := s) (A := QNA s) (st := (.static "java/lang/Integer$IntegerCache" "cache" "[Ljava/lang/Integer;")) rfl hcl0 (hs _ (nr_at (k := 48) (c := Cond.all (.static "java/lang/Integer$IntegerCache" "cache" "[Ljava/lang/Integer;") (.and (.exactly (.elem (.static "java/lang/Integer$IntegerCache" "cache" "[Ljava/lang/Integer;") (.index 0)) "java/lang/Integer") (.eq (.field (.elem (.static "java/lang/Integer$IntegerCache" "cache" "[Ljava/lang/Integer;") (.index 0)) "java/lang/Integer" "value" "I") (.sub (.index 0) (.int 128))))) (by decide +kernel))) QNA_no
  obtain ⟨ic, hic, hIT⟩ := va_Tof (args := #[Value.ref b]) (s := s) (tm := (.static "java/lang/Integer$IntegerCache" "cache" "[Ljava/lang/Integer;")) (ty := .object "java/lang/Integer") (N := 256) (f := fun i => .ref (ib i)) (A := QNA s) (by decide) (hs _ (nr_at (k := 46) (c := Cond.arrayOf (.static "java/lang/Integer$IntegerCache" "cache" "[Ljava/lang/Integer;") (.object "java/lang/Integer")) (by decide +kernel))) hcl0 (fun j hj => hie j hj) QNA_no
  have hIZ := va_Zref (hts _ q767) (hts _ (lw_all_tbl q166)) hic (QNA_no (s := s))
  have hnx : (Cond.exactly (.static "VaneCourt" "NOTHING" "LVaneCourt$Text;") "VaneCourt$Text").before #[Value.ref b] s = true := (hs _ (nr_at (k := 49) (c := Cond.exactly (.static "VaneCourt" "NOTHING" "LVaneCourt$Text;") "VaneCourt$Text") (by decide +kernel)))
  obtain ⟨nt, c0, cA0, kA0, hnt, -⟩ := Cond.exactly_spec (args := #[Value.ref b]) (first := s) (o := none) (s := s) (idx := []) hnx
  have hNZ := va_Zref (hts _ q915) (hts _ (lw_all_tbl q137)) hnt (QNA_no (s := s))
  have hn_veers := vz_eq (v := .null) (hs _ (nr_at (k := 56) (c := Cond.eq (.field (.static "VaneCourt" "NOTHING" "LVaneCourt$Text;") "VaneCourt$Text" "veers" "LVaneCourt$Sum;") .null) (by decide +kernel))) rfl
  have hn_blows := vz_eq (v := .null) (hs _ (nr_at (k := 57) (c := Cond.eq (.field (.static "VaneCourt" "NOTHING" "LVaneCourt$Text;") "VaneCourt$Text" "blows" "LVaneCourt$Sum;") .null) (by decide +kernel))) rfl
  have hn_sentence := vz_eq (v := .null) (hs _ (nr_at (k := 58) (c := Cond.eq (.field (.static "VaneCourt" "NOTHING" "LVaneCourt$Text;") "VaneCourt$Text" "sentence" "LVaneCourt$Sum;") .null) (by decide +kernel))) rfl
  have hn_fogs := vz_eq (v := .null) (hs _ (nr_at (k := 59) (c := Cond.eq (.field (.static "VaneCourt" "NOTHING" "LVaneCourt$Text;") "VaneCourt$Text" "fogs" "LVaneCourt$Asked;") .null) (by decide +kernel))) rfl
  have hn_clauses := va_eqt (z := 0) (hs _ (nr_at (k := 60) (c := Cond.eq (.field (.static "VaneCourt" "NOTHING" "LVaneCourt$Text;") "VaneCourt$Text" "clauses" "I") (.int 0)) (by decide +kernel)))
  have hn_e0 := vz_eq (v := .null) (hs _ (nr_at (k := 52) (c := Cond.eq (.elem (.field (.static "VaneCourt" "NOTHING" "LVaneCourt$Text;") "VaneCourt$Text" "code" "[LVaneCourt$Asked;") (.int 0)) .null) (by decide +kernel))) rfl
  have hn_e1 := vz_eq (v := .null) (hs _ (nr_at (k := 53) (c := Cond.eq (.elem (.field (.static "VaneCourt" "NOTHING" "LVaneCourt$Text;") "VaneCourt$Text" "code" "[LVaneCourt$Asked;") (.int 1)) .null) (by decide +kernel))) rfl
  have hn_e2 := vz_eq (v := .null) (hs _ (nr_at (k := 54) (c := Cond.eq (.elem (.field (.static "VaneCourt" "NOTHING" "LVaneCourt$Text;") "VaneCourt$Text" "code" "[LVaneCourt$Asked;") (.int 2)) .null) (by decide +kernel))) rfl
  have hn_e3 := vz_eq (v := .null) (hs _ (nr_at (k := 55) (c := Cond.eq (.elem (.field (.static "VaneCourt" "NOTHING" "LVaneCourt$Text;") "VaneCourt$Text" "code" "[LVaneCourt$Asked;") (.int 3)) .null) (by decide +kernel))) rfl
  obtain ⟨ca, hca, hCT⟩ := va_Tof (args := #[Value.ref b]) (s := s) (tm := (.field (.static "VaneCourt" "NOTHING" "LVaneCourt$Text;") "VaneCourt$Text" "code" "[LVaneCourt$Asked;")) (ty := .object "VaneCourt$Asked") (N := 4) (f := fun _ => .null) (A := QNA s) (by decide) (hs _ (nr_at (k := 50) (c := Cond.arrayOf (.field (.static "VaneCourt" "NOTHING" "LVaneCourt$Text;") "VaneCourt$Text" "code" "[LVaneCourt$Asked;") (.object "VaneCourt$Asked")) (by decide +kernel))) (va_eqt (hs _ (nr_at (k := 51) (c := Cond.eq (.length (.field (.static "VaneCourt" "NOTHING" "LVaneCourt$Text;") "VaneCourt$Text" "code" "[LVaneCourt$Asked;")) (.int 4)) (by decide +kernel)))) (fun j hj => by
    rcases (show j = 0 ∨ j = 1 ∨ j = 2 ∨ j = 3 by omega) with rfl | rfl | rfl | rfl
    · exact hn_e0
    · exact hn_e1
    · exact hn_e2
    · exact hn_e3) QNA_no
  have hdx : (Cond.exactly (.field (.static "VaneCourt" "NOTHING" "LVaneCourt$Text;") "VaneCourt$Text" "doings" "Ljava/util/ArrayList;") "java/util/ArrayList").before #[Value.ref b] s = true := (hs _ (nr_at (k := 61) (c := Cond.exactly (.field (.static "VaneCourt" "NOTHING" "LVaneCourt$Text;") "VaneCourt$Text" "doings" "Ljava/util/ArrayList;") "java/util/ArrayList") (by decide +kernel)))
  obtain ⟨da, c1, cA1, kA1, hda, -⟩ := Cond.exactly_spec (args := #[Value.ref b]) (first := s) (o := none) (s := s) (idx := []) hdx
  have hd_e := vz_eq (hs _ (nr_at (k := 62) (c := Cond.eq (.field (.field (.static "VaneCourt" "NOTHING" "LVaneCourt$Text;") "VaneCourt$Text" "doings" "Ljava/util/ArrayList;") "java/util/ArrayList" "elementData" "[Ljava/lang/Object;") (.static "java/util/ArrayList" "DEFAULTCAPACITY_EMPTY_ELEMENTDATA" "[Ljava/lang/Object;")) (by decide +kernel))) hea
  have hd_s := va_eqt (z := 0) (hs _ (nr_at (k := 63) (c := Cond.eq (.field (.field (.static "VaneCourt" "NOTHING" "LVaneCourt$Text;") "VaneCourt$Text" "doings" "Ljava/util/ArrayList;") "java/util/ArrayList" "size" "I") (.int 0)) (by decide +kernel)))
  have hd_m := va_eqt (z := 0) (hs _ (nr_at (k := 64) (c := Cond.eq (.field (.field (.static "VaneCourt" "NOTHING" "LVaneCourt$Text;") "VaneCourt$Text" "doings" "Ljava/util/ArrayList;") "java/util/AbstractList" "modCount" "I") (.int 0)) (by decide +kernel)))
  have hOI : ∀ i, i < 128 → OldO (mAA ad lv D cA s) (ib (i + 128)) (.inr (18, [.int (nI i)])) := by
    intro i hi
    refine OldO.of (C := RJ14) (T := TJ14) (N := 1) rfl (hcl 18 _ rfl) (hib.1 (i + 128) (by omega)) (by decide) (fun k hk => ?_)
    have e0 : k = 0 := by omega
    subst e0
    have h := hib.2 (i + 128) (by omega)
    have e1 : vb_c (i + 128) = nI i := by
      unfold vb_c
      have e2 : (128 : Int32) = nI 128 := by decide
      have e3 : Int32.ofNat (i + 128) = nI (i + 128) := rfl
      rw [e2, e3, ← nI_addn]
      exact vz_sub _ _
    have h : va_OF "java/lang/Integer" "value" "I" (.int (vb_c (i + 128))) (ib (i + 128)) (QNA s) s s.heap := h
    rw [e1] at h
    exact h
  have hOD : OldO (mAA ad lv D cA s) da (.inr (17, [.int 0, .ref ea, .int 0])) := by
    refine OldO.of (C := RJ2) (T := TJ2) (N := 3) rfl (hcl 17 _ rfl) (va_Oof hdx hda QNA_no) (by decide) (fun k hk => ?_)
    rcases (show k = 0 ∨ k = 1 ∨ k = 2 by omega) with rfl | rfl | rfl
    · exact vk_OFof hda hd_m QNA_no
    · exact vk_OFof hda hd_e QNA_no
    · exact vk_OFof hda hd_s QNA_no
  have hOT : OldO (mAA ad lv D cA s) nt (.inr (4, [.ref ca, .null, .null, .null, .null, .int 0, .ref da])) := by
    refine OldO.of (C := RX4) (T := TX4) (N := 7) rfl (hcl 4 _ rfl) (va_Oof hnx hnt QNA_no) (by decide) (fun k hk => ?_)
    rcases (show k = 0 ∨ k = 1 ∨ k = 2 ∨ k = 3 ∨ k = 4 ∨ k = 5 ∨ k = 6 by omega) with rfl | rfl | rfl | rfl | rfl | rfl | rfl
    · exact vk_OFof hnt hca QNA_no
    · exact vk_OFof hnt hn_veers QNA_no
    · exact vk_OFof hnt hn_blows QNA_no
    · exact vk_OFof hnt hn_sentence QNA_no
    · exact vk_OFof hnt hn_fogs QNA_no
    · exact vk_OFof hnt hn_clauses QNA_no
    · exact vk_OFof hnt hda QNA_no
  refine ⟨(wt, adK, adV), ea, mi, ic, ib, nt, ⟨fun U h => hV.moved (al U h), fun U h => vk_R.warm h (vk_R.of (A := #[Value.ref b]) (hts _ q474) (hW 26 (by omega))), fun U h => va_Z.moved (al U h) hWZ, fun U h => va_T.moved (al U h) hWT, fun U h => va_Z.moved (al U h) hCS, fun U h => va_Zq.moved (al U h) hSF⟩, ⟨fun U h => vq_Zq.moved (al U h) hU, fun U h => vq_Zq.moved (al U h) hN⟩, ⟨fun U h => va_Z.moved (al U h) hEZ, fun U h => va_T.moved (al U h) hET, fun U h => va_Mi.moved (al U h) hmi, fun U h => ⟨va_AO.moved (al U h) (va_AO.of (hts _ q668)), va_AO.moved (al U h) (va_AO.of (hts _ q349))⟩⟩, ⟨fun U h => va_Z.moved (al U h) hIH, fun U h => va_Z.moved (al U h) hIZ, fun U h => va_T.moved (al U h) hIT, hOI⟩, fun U h => ⟨?_, va_AO.moved (al U h) (va_AO.of (hts _ q189))⟩, fun U h t ht => ?_, fun U h => va_Z.moved (al U h) hNZ, fun M => ?_⟩
  · have e : (Cond.arrayOver (.array .int)).before #[Value.ref b] s = true := (hts _ q187)
    exact vz_ao (al U h) e
  · refine va_Fw.moved (st_kd t ht) (al U h) ?_
    exact st_Fw hts t ht
  · refine ⟨ca, fun _ => none, .null, .null, .null, .null, 0, da, Or.inr hOT, Or.inr (fun U h => va_T.moved (al U h) hCT), fun q hq => Or.inl ⟨rfl, rfl⟩, Or.inl ⟨rfl, rfl⟩, Or.inl ⟨rfl, rfl⟩, Or.inl ⟨rfl, rfl⟩, Or.inl ⟨rfl, rfl⟩, [], ⟨0, ea, 0, fun _ => none, Or.inr hOD, Or.inl rfl, Nat.le_refl 0, by decide, fun i x h => by cases h⟩, rfl, fun i x d h => by cases h⟩
