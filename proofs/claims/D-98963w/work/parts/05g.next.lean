/-! the next token: contract -/
set_option maxRecDepth 100000
def sNx (D : Nat → Int32) (n : Nat) (t : QTS) (a : Nat) : QTS :=
  if a = n then (a, a, 301, t.2.2.2)
  else if sLet (D a) = true then (lLet D (n - a) a, a, sWl D a (lLet D (n - a) a) sWords 0 302, t.2.2.2)
  else if sDig (D a) = true then ((lNum D (n - a) a 0).1, a, 300, (lNum D (n - a) a 0).2, t.2.2.2.2)
  else if (D a = 60 ∨ D a = 62) ∧ a + 1 < n ∧ D (a + 1) = 61 then (a + 2, a, (if D a = 60 then 303 else 304), t.2.2.2)
  else (a + 1, a, sSg (D a) sSigns 302, t.2.2.2)
theorem sNext_eq (D : Nat → Int32) (n : Nat) (t : QTS) : sNext D n t = sNx D n t (lSkip D (n - t.1) t.1) := rfl
set_option maxHeartbeats 8000000 in
theorem m_X3_next (l : Launch) {K : QK} {G : State → Prop} {A B : QA} {L : QL} {X : QX} {M : QM} {n : Nat} {t : QTS} {y : QY} (hG : QG G) (hC : QCl K) (h13 : ql K 13) (hS : QSt K G y) (hn : n ≤ 300) (ht : t.1 ≤ n) : MC l K G yX3_next (ws_ yX3_next cX3_next 3 none) 6 240 0 0 [.ref (K.2.1 13)] (tw A n t, B, L, X, M) (QR none (tw A n (sNext (A 3) n t), B, L, X, M)) := by
  refine MC.of (by decide) (Nat.le_of_ble_eq_true rfl) (lv := [(0, .ref (K.2.1 13))]) rfl (fun p e s m below meth c ls E hr hl hw => ?_)
  have hx := E.1
  have hb := E.2.1
  have hown := E.2.2.1
  have hts := E.2.2.2.2.1
  have hle := lSkip_le (D := A 3) (n - t.1) t.1
  have hN := sNext_eq (A 3) n t
  refine wn_0 hG hC h13 hS hn E (n - t.1) t (by omega) (fun {H locs ls} hw hl => ?_) hw hl
  revert hN hw
  generalize lSkip (A 3) (n - t.1) t.1 = a at hle ⊢
  intro hN hw
  unfold sNx at hN
  have fin : ∀ u : QTS, sNext (A 3) n t = u → ∀ {H : Heap} {locs : List Loc} {ls : Array Slot}, WP K (tw A n u, B, L, X, M) H locs → W p l e (qrm 6 240 0 0) s m #[.ref (K.2.1 13)] below meth c H locs 0 0 (MQ below (QE K (QR none (tw A n (sNext (A 3) n t), B, L, X, M))) #[.ref (K.2.1 13)] s 0 0 (qA K)) (F0 m 402 ls []) := by
    intro u hu H locs ls hw
    exact d_ret E hr hw (by rw [hu]) dX3_next_402
  refine lv_aload_n hx hb dX3_next_52 rfl (lv_at hl 0 rfl) ?_
  refine lv_aload_n hx hb dX3_next_53 rfl (lv_at hl 0 rfl) ?_
  refine r_gAt E hw hC h13 q315 dX3_next_54 ?_
  refine r_pTok (a := a) E hw h13 q316 rfl dX3_next_57 (fun H locs hw => ?_)
  refine lv_aload_n hx hb dX3_next_60 rfl (lv_at hl 0 rfl) ?_
  refine r_gAt E hw hC h13 q315 dX3_next_61 ?_
  refine lv_aload_n hx hb dX3_next_64 rfl (lv_at hl 0 rfl) ?_
  refine r_gSize E hw hC h13 q314 dX3_next_65 ?_
  refine lv_icmp_ne (tgt := 81) hx hb dX3_next_68 (by decide) (fun c1 => ?_) (fun c1 => ?_)
  case _ =>
    have can : ¬ a = n := fun q => c1 (by rw [show (a, t.2).1 = a from rfl, q])
    rw [if_neg can] at hN
    refine lv_aload_n hx hb dX3_next_81 rfl (lv_at hl 0 rfl) ?_
    refine r_gText E hw hC h13 q313 dX3_next_82 ?_
    refine lv_aload_n hx hb dX3_next_85 rfl (lv_at hl 0 rfl) ?_
    refine r_gAt E hw hC h13 q315 dX3_next_86 ?_
    refine r_gB (j := a) E hw hC rfl (by omega) dX3_next_89 ?_
    refine d_S (As := [.int (A 3 a)]) (v0 := some (.int (b32 (sLet (A 3 a))))) hG E hw hl (m_X3_isLetter l) (va_cwS 1 hts (lw_S q410 q411 q141 q412) rfl rfl rfl kd_X3_isLetter ⟨Nat.le_of_ble_eq_true rfl, Nat.le_of_ble_eq_true rfl⟩) rfl (rest := []) (st1 := [.int (b32 (sLet (A 3 a)))]) rfl rfl rfl dX3_next_90 ⟨Nat.le_of_ble_eq_true rfl, Nat.le_of_ble_eq_true rfl⟩ (fun H locs hw => ?_)
    refine lv_if_eq (tgt := 182) hx hb dX3_next_93 (by decide) (fun c2 => ?_) (fun c2 => ?_)
    case _ =>
      rw [if_neg (b32_f c2)] at hN
      refine lv_aload_n hx hb dX3_next_182 rfl (lv_at hl 0 rfl) ?_
      refine r_gText E hw hC h13 q313 dX3_next_183 ?_
      refine lv_aload_n hx hb dX3_next_186 rfl (lv_at hl 0 rfl) ?_
      refine r_gAt E hw hC h13 q315 dX3_next_187 ?_
      refine r_gB (j := a) E hw hC rfl (by omega) dX3_next_190 ?_
      refine d_S (As := [.int (A 3 a)]) (v0 := some (.int (b32 (sDig (A 3 a))))) hG E hw hl (m_X3_isDigit l) (va_cwS 1 hts (lw_S q467 q468 q141 q469) rfl rfl rfl kd_X3_isDigit ⟨Nat.le_of_ble_eq_true rfl, Nat.le_of_ble_eq_true rfl⟩) rfl (rest := []) (st1 := [.int (b32 (sDig (A 3 a)))]) rfl rfl rfl dX3_next_191 ⟨Nat.le_of_ble_eq_true rfl, Nat.le_of_ble_eq_true rfl⟩ (fun H locs hw => ?_)
      refine lv_if_eq (tgt := 277) hx hb dX3_next_194 (by decide) (fun c3 => ?_) (fun c3 => ?_)
      case _ =>
        rw [if_neg (b32_f c3)] at hN
        refine lv_aload_n hx hb dX3_next_277 rfl (lv_at hl 0 rfl) ?_
        refine r_gText E hw hC h13 q313 dX3_next_278 ?_
        refine lv_aload_n hx hb dX3_next_281 rfl (lv_at hl 0 rfl) ?_
        refine r_gAt E hw hC h13 q315 dX3_next_282 ?_
        refine r_gB (j := a) E hw hC rfl (by omega) dX3_next_285 ?_
        refine lv_istore_n (lv' := [(1, .int (A 3 a)), (0, .ref (K.2.1 13))]) hx hb dX3_next_286 rfl hl (by decide) rfl (fun ls hl => ?_)
        refine lv_aload_n hx hb dX3_next_287 rfl (lv_at hl 1 rfl) ?_
        refine lv_dup hx hb dX3_next_288 rfl ?_
        refine r_gAt E hw hC h13 q315 dX3_next_289 ?_
        refine lv_iconst (v := (1:Int32)) hx hb dX3_next_292 (by decide) ?_
        refine lv_iadd hx hb dX3_next_293 ?_
        refine r_pAt (a := a + 1) E hw h13 q315 nI_sc dX3_next_294 (fun H locs hw => ?_)
        refine lv_aload_n hx hb dX3_next_297 rfl (lv_at hl 1 rfl) ?_
        refine lv_sipush (v := (302:Int32)) hx hb dX3_next_298 (by decide) ?_
        refine r_pSort (a := 302) E hw h13 q317 rfl dX3_next_301 (fun H locs hw => ?_)
        refine lv_iconst (v := (0:Int32)) hx hb dX3_next_304 (by decide) ?_
        refine lv_istore_n (lv' := [(2, .int (nI 0)), (1, .int (A 3 a)), (0, .ref (K.2.1 13))]) hx hb dX3_next_305 rfl hl (by decide) rfl (fun ls hl => ?_)
        refine wn_306 hG hC h13 hS hn E (a + 1, a, 302, t.2.2.2) (A 3 a) sSigns 0 302 rfl (by decide) (fun {H locs ls} hw hl => ?_) hw hl
        have big : (A 3 a = 60 ∨ A 3 a = 62) → ∀ {H : Heap} {locs : List Loc} {ls : Array Slot}, WP K (tw A n (a + 1, a, sSg (A 3 a) sSigns 302, t.2.2.2), B, L, X, M) H locs → lv_has ls 3 [(1, .int (A 3 a)), (0, .ref (K.2.1 13))] → W p l e (qrm 6 240 0 0) s m #[.ref (K.2.1 13)] below meth c H locs 0 0 (MQ below (QE K (QR none (tw A n (sNext (A 3) n t), B, L, X, M))) #[.ref (K.2.1 13)] s 0 0 (qA K)) (F0 m 348 ls []) := by
          intro hc H locs ls hw hl
          refine lv_aload_n hx hb dX3_next_348 rfl (lv_at hl 1 rfl) ?_
          refine r_gAt E hw hC h13 q315 dX3_next_349 ?_
          refine lv_aload_n hx hb dX3_next_352 rfl (lv_at hl 1 rfl) ?_
          refine r_gSize E hw hC h13 q314 dX3_next_353 ?_
          refine lv_icmp_ge (tgt := 402) hx hb dX3_next_356 (by decide) (fun c4 => ?_) (fun c4 => ?_)
          case _ =>
            have h4 : ¬ a + 1 < n := fun q => nI_ge q (by omega) c4
            rw [if_neg (fun q => h4 q.2.1)] at hN
            exact fin _ hN hw
          have h4 : a + 1 < n := by
            rcases Nat.lt_or_ge (a + 1) n with q | q
            · exact q
            · exact absurd (nI_le q (by omega)) c4
          refine lv_aload_n hx hb dX3_next_359 rfl (lv_at hl 1 rfl) ?_
          refine r_gText E hw hC h13 q313 dX3_next_360 ?_
          refine lv_aload_n hx hb dX3_next_363 rfl (lv_at hl 1 rfl) ?_
          refine r_gAt E hw hC h13 q315 dX3_next_364 ?_
          refine r_gB (j := a + 1) E hw hC rfl (by omega) dX3_next_367 ?_
          refine lv_bipush (v := (61:Int32)) hx hb dX3_next_368 (by decide) ?_
          refine lv_icmp_ne (tgt := 402) hx hb dX3_next_370 (by decide) (fun c5 => ?_) (fun c5 => ?_)
          case _ =>
            rw [if_neg (fun q => c5 q.2.2)] at hN
            exact fin _ hN hw
          rw [if_pos ⟨hc, h4, c5⟩] at hN
          have end_ : ∀ z : Int32, (if A 3 a = 60 then (303 : Int32) else 304) = z → ∀ {H : Heap} {locs : List Loc} {ls : Array Slot}, WP K (tw A n (a + 1, a, sSg (A 3 a) sSigns 302, t.2.2.2), B, L, X, M) H locs → lv_has ls 3 [(1, .int (A 3 a)), (0, .ref (K.2.1 13))] → W p l e (qrm 6 240 0 0) s m #[.ref (K.2.1 13)] below meth c H locs 0 0 (MQ below (QE K (QR none (tw A n (sNext (A 3) n t), B, L, X, M))) #[.ref (K.2.1 13)] s 0 0 (qA K)) (F0 m 389 ls [.int z, .ref (K.2.1 13)]) := by
            intro z hz H locs ls hw hl
            rw [hz] at hN
            refine r_pSort (a := z) E hw h13 q317 rfl dX3_next_389 (fun H locs hw => ?_)
            refine lv_aload_n hx hb dX3_next_392 rfl (lv_at hl 1 rfl) ?_
            refine lv_dup hx hb dX3_next_393 rfl ?_
            refine r_gAt E hw hC h13 q315 dX3_next_394 ?_
            refine lv_iconst (v := (1:Int32)) hx hb dX3_next_397 (by decide) ?_
            refine lv_iadd hx hb dX3_next_398 ?_
            refine r_pAt (a := a + 2) E hw h13 q315 nI_sc dX3_next_399 (fun H locs hw => ?_)
            exact fin _ hN hw
          refine lv_aload_n hx hb dX3_next_373 rfl (lv_at hl 1 rfl) ?_
          refine lv_iload_n hx hb dX3_next_374 rfl (lv_at hl 0 rfl) ?_
          refine lv_bipush (v := (60:Int32)) hx hb dX3_next_375 (by decide) ?_
          refine lv_icmp_ne (tgt := 386) hx hb dX3_next_377 (by decide) (fun c6 => ?_) (fun c6 => ?_)
          · refine lv_sipush (v := (304:Int32)) hx hb dX3_next_386 (by decide) ?_
            exact end_ 304 (if_neg c6) hw hl
          · refine lv_sipush (v := (303:Int32)) hx hb dX3_next_380 (by decide) ?_
            refine lv_goto (tgt := 389) hx hb dX3_next_383 (by decide) ?_
            exact end_ 303 (if_pos c6) hw hl
        refine lv_iload_n hx hb dX3_next_336 rfl (lv_at hl 0 rfl) ?_
        refine lv_bipush (v := (60:Int32)) hx hb dX3_next_337 (by decide) ?_
        refine lv_icmp_eq (tgt := 348) hx hb dX3_next_339 (by decide) (fun c4 => ?_) (fun c4 => ?_)
        · exact big (Or.inl c4) hw hl
        refine lv_iload_n hx hb dX3_next_342 rfl (lv_at hl 0 rfl) ?_
        refine lv_bipush (v := (62:Int32)) hx hb dX3_next_343 (by decide) ?_
        refine lv_icmp_ne (tgt := 402) hx hb dX3_next_345 (by decide) (fun c5 => ?_) (fun c5 => ?_)
        · rw [if_neg (fun q => q.1.elim c4 c5)] at hN
          exact fin _ hN hw
        · exact big (Or.inr c5) hw hl
      rw [if_pos (b32_t c3)] at hN
      refine lv_aload_n hx hb dX3_next_197 rfl (lv_at hl 0 rfl) ?_
      refine lv_sipush (v := (300:Int32)) hx hb dX3_next_198 (by decide) ?_
      refine r_pSort (a := 300) E hw h13 q317 rfl dX3_next_201 (fun H locs hw => ?_)
      refine lv_aload_n hx hb dX3_next_204 rfl (lv_at hl 0 rfl) ?_
      refine lv_iconst (v := (0:Int32)) hx hb dX3_next_205 (by decide) ?_
      refine r_pNum (a := 0) E hw h13 q318 rfl dX3_next_206 (fun H locs hw => ?_)
      refine wn_209 hG hC h13 hS hn E (n - a) (a, a, 300, 0, t.2.2.2.2) (show a + (n - a) = n by omega) (fun {H locs ls} hw => ?_) hw hl
      exact fin _ hN hw
    rw [if_pos (b32_t c2)] at hN
    refine wn_96 hG hC h13 hS hn E (n - a) (a, a, t.2.2) (show a + (n - a) = n by omega) (fun {H locs ls} hw hl => ?_) hw hl
    have hl2 := lLet_le (D := A 3) (n - a) a
    refine lv_aload_n hx hb dX3_next_135 rfl (lv_at hl 0 rfl) ?_
    refine lv_sipush (v := (302:Int32)) hx hb dX3_next_136 (by decide) ?_
    refine r_pSort (a := 302) E hw h13 q317 rfl dX3_next_139 (fun H locs hw => ?_)
    refine lv_iconst (v := (0:Int32)) hx hb dX3_next_142 (by decide) ?_
    refine lv_istore_n (lv' := [(1, .int (nI 0)), (0, .ref (K.2.1 13))]) hx hb dX3_next_143 rfl hl (by decide) rfl (fun ls hl => ?_)
    refine wn_144 hG hC h13 hS hn E (lLet (A 3) (n - a) a, a, 302, t.2.2.2) hl2.1 (show lLet (A 3) (n - a) a ≤ n by omega) sWords 0 302 rfl (Nat.zero_le _) (fun {H locs ls} hw => ?_) hw hl
    exact fin _ hN hw
  have can : a = n := nI_inj c1 (by show a < 2 ^ 31; omega) (by omega)
  rw [if_pos can] at hN
  refine lv_aload_n hx hb dX3_next_71 rfl (lv_at hl 0 rfl) ?_
  refine lv_sipush (v := (301:Int32)) hx hb dX3_next_72 (by decide) ?_
  refine r_pSort (a := 301) E hw h13 q317 rfl dX3_next_75 (fun H locs hw => ?_)
  refine lv_goto (tgt := 402) hx hb dX3_next_78 (by decide) ?_
  exact fin _ hN hw
/-- the next token lies on -/
theorem sNext_le {D : Nat → Int32} {n : Nat} {t : QTS} (h : t.1 ≤ n) : (sNext D n t).1 ≤ n ∧ (sNext D n t).2.1 ≤ (sNext D n t).1 ∧ t.1 ≤ (sNext D n t).2.1 := by
  have h1 := lSkip_le (D := D) (n - t.1) t.1
  rw [sNext_eq]
  unfold sNx
  generalize lSkip D (n - t.1) t.1 = a at h1 ⊢
  by_cases c1 : a = n
  · rw [if_pos c1]; exact ⟨by show a ≤ n; omega, Nat.le_refl _, h1.1⟩
  rw [if_neg c1]
  by_cases c2 : sLet (D a) = true
  · rw [if_pos c2]
    have h2 := lLet_le (D := D) (n - a) a
    exact ⟨by show lLet D (n - a) a ≤ n; omega, h2.1, h1.1⟩
  rw [if_neg c2]
  by_cases c3 : sDig (D a) = true
  · rw [if_pos c3]
    have h2 := lNum_le (D := D) (n - a) a 0
    exact ⟨by show (lNum D (n - a) a 0).1 ≤ n; omega, h2.1, h1.1⟩
  rw [if_neg c3]
  by_cases c4 : (D a = 60 ∨ D a = 62) ∧ a + 1 < n ∧ D (a + 1) = 61
  · rw [if_pos c4]; exact ⟨by show a + 2 ≤ n; omega, by show a ≤ a + 2; omega, h1.1⟩
  · rw [if_neg c4]; exact ⟨by show a + 1 ≤ n; omega, by show a ≤ a + 1; omega, h1.1⟩
