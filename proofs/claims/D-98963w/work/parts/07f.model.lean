/-! the model's constructor (printed by mk07f.py) -/
set_option maxRecDepth 100000
abbrev iniB : QA := fun l => if l = 1000 then va_up (va_up (fun _ => 0) 5 (-1)) 6 (-1) else fun _ => 0
abbrev iniL : QL := fun _ _ => 0
def mLab (l : Nat) : Bool := decide (1000 ≤ l) && decide (l < 1018)
abbrev mK (K : QK) (ad : Nat → Nat) : QK := (K.1, fun l => if l < 1000 then K.2.1 l else ad l, fun l => mLab l || K.2.2.1 l, K.2.2.2)
abbrev mLs : List Nat := [1000, 1017, 1016, 1015, 1014, 1013, 1012, 1011, 1010, 1009, 1008, 1007, 1006, 1005, 1004, 1003, 1002, 1001]
theorem mLs_all : ∀ l, l < 1018 → mLab l = true → l ∈ mLs := by decide +kernel
theorem mLs_ge : ∀ l, l ∈ mLs → 1000 ≤ l ∧ l < 1018 := by decide +kernel
theorem mK_M {K : QK} {ad : Nat → Nat} : QMl (mK K ad) := by
  intro l h
  have h1 : mLab l = true := h
  refine ⟨?_, ?_⟩
  · show (mLab l || K.2.2.1 l) = true
    rw [h1]
    rfl
  · unfold mLab at h1
    simp only [Bool.and_eq_true, decide_eq_true_eq] at h1
    exact h1.2
theorem mK_ql {K : QK} {ad : Nat → Nat} {l : Nat} (h : ql K l) : ql (mK K ad) l := by
  refine ⟨?_, h.2⟩
  show (mLab l || K.2.2.1 l) = true
  rw [h.1, Bool.or_true]
theorem mK_C {K : QK} {ad : Nat → Nat} (h : QCl K) : QCl (mK K ad) := fun l hl => mK_ql (h l hl)
theorem WP.model {K : QK} {A : QA} {X : QX} {M0 M : QM} {ad : Nat → Nat} {H : Heap} {locs : List Loc} (hw : WP K (A, iniB, iniL, X, M) H locs) (hlt : ∀ l, ql K l → l < 1000) (hO : OwnL M0 M (mLs.map (fun l => (ad l, qat (mK K ad) (A, iniB, iniL, X, M0) l)))) : WP (mK K ad) (A, iniB, iniL, X, M0) H locs := by
  have sp : ∀ l, ql (mK K ad) l → (l ∈ mLs ∧ (mK K ad).2.1 l = ad l) ∨ (l < 1000 ∧ ql K l ∧ (mK K ad).2.1 l = K.2.1 l) := by
    intro l h
    by_cases c : mLab l = true
    · have h1 := mLs_all l h.2 c
      refine Or.inl ⟨h1, ?_⟩
      have := mLs_ge l h1
      show (if l < 1000 then K.2.1 l else ad l) = ad l
      exact if_neg (by omega)
    · have h1 : (mLab l || K.2.2.1 l) = true := h.1
      have h2 : K.2.2.1 l = true := by
        cases h3 : mLab l with
        | true => exact absurd h3 c
        | false => rw [h3, Bool.false_or] at h1; exact h1
      have h4 : ql K l := ⟨h2, h.2⟩
      refine Or.inr ⟨hlt l h4, h4, ?_⟩
      show (if l < 1000 then K.2.1 l else ad l) = K.2.1 l
      exact if_pos (hlt l h4)
  have hnd : (mLs.map ad).Nodup := by
    have := hO.2.2
    rw [List.map_map] at this
    exact this
  have hmem : ∀ l, l ∈ mLs → M (ad l) = some (qat (mK K ad) (A, iniB, iniL, X, M0) l) ∧ M0 (ad l) = none := fun l h => hO.2.1 _ (List.mem_map.mpr ⟨l, h, rfl⟩)
  have hap : ∀ l, ql K l → M (K.2.1 l) = none := fun l h => hw.apart h
  refine hw.relab rfl rfl (fun l hl => ?_) (fun l k hl hk e => ?_) (fun a e h => ?_)
  · rcases sp l hl with ⟨h1, h2⟩ | ⟨h1, h2, h3⟩
    · rw [h2]
      exact ⟨_, Or.inr (hmem l h1).1, fun q => q⟩
    · rw [h3]
      refine ⟨_, Or.inl ⟨l, h2, rfl, rfl⟩, fun q => ?_⟩
      exact (ad_at (K := K) (K' := mK K ad) (fun j hj => if_pos hj) rfl h1).mp q
  · rcases sp l hl with ⟨h1, h2⟩ | ⟨h1, h2, h3⟩ <;> rcases sp k hk with ⟨g1, g2⟩ | ⟨g1, g2, g3⟩
    · rw [h2, g2] at e
      exact map_inj hnd h1 g1 e
    · rw [h2, g3] at e
      have := (hmem l h1).1
      rw [e, hap k g2] at this
      cases this
    · rw [h3, g2] at e
      have := (hmem k g1).1
      rw [← e, hap l h2] at this
      cases this
    · rw [h3, g3] at e
      exact hw.inj h2 g2 e
  · have h0 : M0 a = some e := h
    refine ⟨Or.inr (hO.1 a e h0), fun l hl e9 => ?_⟩
    rcases sp l hl with ⟨h1, h2⟩ | ⟨h1, h2, h3⟩
    · rw [h2] at e9
      have := (hmem l h1).2
      rw [e9, h0] at this
      cases this
    · rw [h3] at e9
      have := hO.1 a e h0
      rw [← e9, hap l h2] at this
      cases this
theorem mZ_gen (F : Nat → Nat × va_E) {p0 : Nat × va_E} {p1 : Nat × va_E} {p2 : Nat × va_E} {p3 : Nat × va_E} {p4 : Nat × va_E} {p5 : Nat × va_E} {p6 : Nat × va_E} {p7 : Nat × va_E} {p8 : Nat × va_E} {p9 : Nat × va_E} {p10 : Nat × va_E} {p11 : Nat × va_E} {p12 : Nat × va_E} {p13 : Nat × va_E} {p14 : Nat × va_E} {p15 : Nat × va_E} {p16 : Nat × va_E} {p17 : Nat × va_E} (h0 : p0 = F 1000) (h1 : p1 = F 1001) (h2 : p2 = F 1002) (h3 : p3 = F 1003) (h4 : p4 = F 1004) (h5 : p5 = F 1005) (h6 : p6 = F 1006) (h7 : p7 = F 1007) (h8 : p8 = F 1008) (h9 : p9 = F 1009) (h10 : p10 = F 1010) (h11 : p11 = F 1011) (h12 : p12 = F 1012) (h13 : p13 = F 1013) (h14 : p14 = F 1014) (h15 : p15 = F 1015) (h16 : p16 = F 1016) (h17 : p17 = F 1017) : [p0, p17, p16, p15, p14, p13, p12, p11, p10, p9, p8, p7, p6, p5, p4, p3, p2, p1] = mLs.map F := by
  rw [h0, h1, h2, h3, h4, h5, h6, h7, h8, h9, h10, h11, h12, h13, h14, h15, h16, h17]
  rfl
set_option maxHeartbeats 16000000 in
theorem m_X2_init (l : Launch) {K : QK} {G : State → Prop} (hG : QG G) (hlt : ∀ l, ql K l → l < 1000) {A Bo : QA} {X : QX} {M : QM} {y : Nat} (hcp : f_X2_copy 1001 1002 (qu (qu (qu (qu iniB 1001 12 107) 1001 2 (-1)) 1001 9 3) 1001 13 (-1)) = some Bo) (hq : M y = some (.inr (2, [.null, .null, .null, .null, .int 0, .int 0, .int 0, .int 0, .int 0, .int 0, .int 0, .long 0, .int 0, .int 0, .int 0, .null, .null, .int 0, .int 0, .int 0, .int 0, .int 0, .int 0, .int 0, .int 0, .null, .int 0, .null, .null, .int 0, .null, .null, .null, .null, .int 0, .int 0, .null, .null, .null, .null]))) : MK l K G yX2_init (ws_ yX2_init cX2_init 1 none) 3 160 17 11624 [.ref y] (A, iniB, iniL, X, M) (fun v K' w' => v = none ∧ (∃ ad, K' = mK K ad ∧ ad 1000 = y) ∧ w' = (A, Bo, iniL, X, va_up M y none)) := by
  refine MK.ofI (by decide) (Nat.le_of_ble_eq_true rfl) (lv := [(0, .ref y)]) rfl (fun p e s m below meth c ls E hr hin hl hw => ?_)
  have hx := E.1
  have hb := E.2.1
  have hown := E.2.2.1
  have hts := E.2.2.2.2.1
  have hGs := E.2.2.2.2.2.1
  have hO := OwnL.start hq
  refine lv_aload_n hx hb dX2_init_0 rfl (lv_at hl 0 rfl) ?_
  refine W.objInit hx hb hown (hts _ q1349) (hts _ q178) (hts _ q179) rfl (hl.1.trans E.2.2.2.2.2.2.2.symm) rfl dX2_init_1 (Nat.le_of_ble_eq_true rfl) (Nat.le_of_ble_eq_true rfl) ?_
  refine lv_aload_n hx hb dX2_init_4 rfl (lv_at hl 0 rfl) ?_
  refine lv_sipush (v := (3642:Int32)) hx hb dX2_init_5 (by decide) ?_
  refine r_newI (N := 3642) E hw (q_clamp (k := 3642) rfl) (by decide) (by decide) (Nat.le_of_ble_eq_true rfl) (Nat.le_of_ble_eq_true rfl) dX2_init_8 (fun y0 H hw hy0 _ => ?_)
  have hO := hO.newc (e := .inl (K.2.2.2.2 0, 3642, .inl (fun _ => 0))) hy0
  refine r_putF E hw hO.get0 (T := TX2) (N := 40) rfl in_X2 tyX2 tyX2_ok nmX2 0 (by decide) q1353 rfl hin rfl rfl rfl (show 0 < 40 by decide) dX2_init_10 (fun H locs hw => ?_)
  have hO := hO.set0 (e := .inr (2, [.ref y0, .null, .null, .null, .int 0, .int 0, .int 0, .int 0, .int 0, .int 0, .int 0, .long 0, .int 0, .int 0, .int 0, .null, .null, .int 0, .int 0, .int 0, .int 0, .int 0, .int 0, .int 0, .int 0, .null, .int 0, .null, .null, .int 0, .null, .null, .null, .null, .int 0, .int 0, .null, .null, .null, .null]))
  refine lv_aload_n hx hb dX2_init_13 rfl (lv_at hl 0 rfl) ?_
  refine lv_sipush (v := (3642:Int32)) hx hb dX2_init_14 (by decide) ?_
  refine r_newI (N := 3642) E hw (q_clamp (k := 3642) rfl) (by decide) (by decide) (Nat.le_of_ble_eq_true rfl) (Nat.le_of_ble_eq_true rfl) dX2_init_17 (fun y1 H hw hy1 _ => ?_)
  have hO := hO.newc (e := .inl (K.2.2.2.2 0, 3642, .inl (fun _ => 0))) hy1
  refine r_putF E hw hO.get0 (T := TX2) (N := 40) rfl in_X2 tyX2 tyX2_ok nmX2 1 (by decide) q1354 rfl hin rfl rfl rfl (show 1 < 40 by decide) dX2_init_19 (fun H locs hw => ?_)
  have hO := hO.set0 (e := .inr (2, [.ref y0, .ref y1, .null, .null, .int 0, .int 0, .int 0, .int 0, .int 0, .int 0, .int 0, .long 0, .int 0, .int 0, .int 0, .null, .null, .int 0, .int 0, .int 0, .int 0, .int 0, .int 0, .int 0, .int 0, .null, .int 0, .null, .null, .int 0, .null, .null, .null, .null, .int 0, .int 0, .null, .null, .null, .null]))
  refine lv_aload_n hx hb dX2_init_22 rfl (lv_at hl 0 rfl) ?_
  refine lv_sipush (v := (2820:Int32)) hx hb dX2_init_23 (by decide) ?_
  refine r_newI (N := 2820) E hw (q_clamp (k := 2820) rfl) (by decide) (by decide) (Nat.le_of_ble_eq_true rfl) (Nat.le_of_ble_eq_true rfl) dX2_init_26 (fun y2 H hw hy2 _ => ?_)
  have hO := hO.newc (e := .inl (K.2.2.2.2 0, 2820, .inl (fun _ => 0))) hy2
  refine r_putF E hw hO.get0 (T := TX2) (N := 40) rfl in_X2 tyX2 tyX2_ok nmX2 2 (by decide) q1355 rfl hin rfl rfl rfl (show 2 < 40 by decide) dX2_init_28 (fun H locs hw => ?_)
  have hO := hO.set0 (e := .inr (2, [.ref y0, .ref y1, .ref y2, .null, .int 0, .int 0, .int 0, .int 0, .int 0, .int 0, .int 0, .long 0, .int 0, .int 0, .int 0, .null, .null, .int 0, .int 0, .int 0, .int 0, .int 0, .int 0, .int 0, .int 0, .null, .int 0, .null, .null, .int 0, .null, .null, .null, .null, .int 0, .int 0, .null, .null, .null, .null]))
  refine lv_aload_n hx hb dX2_init_31 rfl (lv_at hl 0 rfl) ?_
  refine lv_sipush (v := (300:Int32)) hx hb dX2_init_32 (by decide) ?_
  refine r_newI (N := 300) E hw (q_clamp (k := 300) rfl) (by decide) (by decide) (Nat.le_of_ble_eq_true rfl) (Nat.le_of_ble_eq_true rfl) dX2_init_35 (fun y3 H hw hy3 _ => ?_)
  have hO := hO.newc (e := .inl (K.2.2.2.2 0, 300, .inl (fun _ => 0))) hy3
  refine r_putF E hw hO.get0 (T := TX2) (N := 40) rfl in_X2 tyX2 tyX2_ok nmX2 3 (by decide) q1356 rfl hin rfl rfl rfl (show 3 < 40 by decide) dX2_init_37 (fun H locs hw => ?_)
  have hO := hO.set0 (e := .inr (2, [.ref y0, .ref y1, .ref y2, .ref y3, .int 0, .int 0, .int 0, .int 0, .int 0, .int 0, .int 0, .long 0, .int 0, .int 0, .int 0, .null, .null, .int 0, .int 0, .int 0, .int 0, .int 0, .int 0, .int 0, .int 0, .null, .int 0, .null, .null, .int 0, .null, .null, .null, .null, .int 0, .int 0, .null, .null, .null, .null]))
  refine lv_aload_n hx hb dX2_init_40 rfl (lv_at hl 0 rfl) ?_
  refine lv_iconst (v := (-1:Int32)) hx hb dX2_init_41 (by decide) ?_
  refine r_putD E hw hO.get0 (T := TX2) (N := 40) rfl in_X2 tyX2 tyX2_ok nmX2 5 (by decide) q1358 rfl rfl rfl (show 5 < 40 by decide) dX2_init_42 (fun H locs hw => ?_)
  have hO := hO.set0 (e := .inr (2, [.ref y0, .ref y1, .ref y2, .ref y3, .int 0, .int (-1), .int 0, .int 0, .int 0, .int 0, .int 0, .long 0, .int 0, .int 0, .int 0, .null, .null, .int 0, .int 0, .int 0, .int 0, .int 0, .int 0, .int 0, .int 0, .null, .int 0, .null, .null, .int 0, .null, .null, .null, .null, .int 0, .int 0, .null, .null, .null, .null]))
  refine lv_aload_n hx hb dX2_init_45 rfl (lv_at hl 0 rfl) ?_
  refine lv_iconst (v := (-1:Int32)) hx hb dX2_init_46 (by decide) ?_
  refine r_putD E hw hO.get0 (T := TX2) (N := 40) rfl in_X2 tyX2 tyX2_ok nmX2 6 (by decide) q1359 rfl rfl rfl (show 6 < 40 by decide) dX2_init_47 (fun H locs hw => ?_)
  have hO := hO.set0 (e := .inr (2, [.ref y0, .ref y1, .ref y2, .ref y3, .int 0, .int (-1), .int (-1), .int 0, .int 0, .int 0, .int 0, .long 0, .int 0, .int 0, .int 0, .null, .null, .int 0, .int 0, .int 0, .int 0, .int 0, .int 0, .int 0, .int 0, .null, .int 0, .null, .null, .int 0, .null, .null, .null, .null, .int 0, .int 0, .null, .null, .null, .null]))
  refine lv_aload_n hx hb dX2_init_50 rfl (lv_at hl 0 rfl) ?_
  refine lv_sipush (v := (160:Int32)) hx hb dX2_init_51 (by decide) ?_
  refine r_newI (N := 160) E hw (q_clamp (k := 160) rfl) (by decide) (by decide) (Nat.le_of_ble_eq_true rfl) (Nat.le_of_ble_eq_true rfl) dX2_init_54 (fun y15 H hw hy15 _ => ?_)
  have hO := hO.newc (e := .inl (K.2.2.2.2 0, 160, .inl (fun _ => 0))) hy15
  refine r_putF E hw hO.get0 (T := TX2) (N := 40) rfl in_X2 tyX2 tyX2_ok nmX2 15 (by decide) q1368 rfl hin rfl rfl rfl (show 15 < 40 by decide) dX2_init_56 (fun H locs hw => ?_)
  have hO := hO.set0 (e := .inr (2, [.ref y0, .ref y1, .ref y2, .ref y3, .int 0, .int (-1), .int (-1), .int 0, .int 0, .int 0, .int 0, .long 0, .int 0, .int 0, .int 0, .ref y15, .null, .int 0, .int 0, .int 0, .int 0, .int 0, .int 0, .int 0, .int 0, .null, .int 0, .null, .null, .int 0, .null, .null, .null, .null, .int 0, .int 0, .null, .null, .null, .null]))
  refine lv_aload_n hx hb dX2_init_59 rfl (lv_at hl 0 rfl) ?_
  refine lv_bipush (v := (9:Int32)) hx hb dX2_init_60 (by decide) ?_
  refine r_newI (N := 9) E hw (q_clamp (k := 9) rfl) (by decide) (by decide) (Nat.le_of_ble_eq_true rfl) (Nat.le_of_ble_eq_true rfl) dX2_init_62 (fun y16 H hw hy16 _ => ?_)
  have hO := hO.newc (e := .inl (K.2.2.2.2 0, 9, .inl (fun _ => 0))) hy16
  refine r_putF E hw hO.get0 (T := TX2) (N := 40) rfl in_X2 tyX2 tyX2_ok nmX2 16 (by decide) q1369 rfl hin rfl rfl rfl (show 16 < 40 by decide) dX2_init_64 (fun H locs hw => ?_)
  have hO := hO.set0 (e := .inr (2, [.ref y0, .ref y1, .ref y2, .ref y3, .int 0, .int (-1), .int (-1), .int 0, .int 0, .int 0, .int 0, .long 0, .int 0, .int 0, .int 0, .ref y15, .ref y16, .int 0, .int 0, .int 0, .int 0, .int 0, .int 0, .int 0, .int 0, .null, .int 0, .null, .null, .int 0, .null, .null, .null, .null, .int 0, .int 0, .null, .null, .null, .null]))
  refine lv_aload_n hx hb dX2_init_67 rfl (lv_at hl 0 rfl) ?_
  refine lv_bipush (v := (8:Int32)) hx hb dX2_init_68 (by decide) ?_
  refine r_newI (N := 8) E hw (q_clamp (k := 8) rfl) (by decide) (by decide) (Nat.le_of_ble_eq_true rfl) (Nat.le_of_ble_eq_true rfl) dX2_init_70 (fun y25 H hw hy25 _ => ?_)
  have hO := hO.newc (e := .inl (K.2.2.2.2 0, 8, .inl (fun _ => 0))) hy25
  refine r_putF E hw hO.get0 (T := TX2) (N := 40) rfl in_X2 tyX2 tyX2_ok nmX2 25 (by decide) q1378 rfl hin rfl rfl rfl (show 25 < 40 by decide) dX2_init_72 (fun H locs hw => ?_)
  have hO := hO.set0 (e := .inr (2, [.ref y0, .ref y1, .ref y2, .ref y3, .int 0, .int (-1), .int (-1), .int 0, .int 0, .int 0, .int 0, .long 0, .int 0, .int 0, .int 0, .ref y15, .ref y16, .int 0, .int 0, .int 0, .int 0, .int 0, .int 0, .int 0, .int 0, .ref y25, .int 0, .null, .null, .int 0, .null, .null, .null, .null, .int 0, .int 0, .null, .null, .null, .null]))
  refine lv_aload_n hx hb dX2_init_75 rfl (lv_at hl 0 rfl) ?_
  refine lv_sipush (v := (330:Int32)) hx hb dX2_init_76 (by decide) ?_
  refine r_newJ (N := 330) E hw q1474 (q_clamp (k := 330) rfl) (by decide) (by decide) (Nat.le_of_ble_eq_true rfl) (Nat.le_of_ble_eq_true rfl) dX2_init_79 (fun y27 H hw hy27 _ => ?_)
  have hO := hO.newc (e := .inl (K.2.2.2.2 2, 330, .inr (.inl (fun _ => 0)))) hy27
  refine r_putF E hw hO.get0 (T := TX2) (N := 40) rfl in_X2 tyX2 tyX2_ok nmX2 27 (by decide) q1380 rfl hin rfl rfl rfl (show 27 < 40 by decide) dX2_init_81 (fun H locs hw => ?_)
  have hO := hO.set0 (e := .inr (2, [.ref y0, .ref y1, .ref y2, .ref y3, .int 0, .int (-1), .int (-1), .int 0, .int 0, .int 0, .int 0, .long 0, .int 0, .int 0, .int 0, .ref y15, .ref y16, .int 0, .int 0, .int 0, .int 0, .int 0, .int 0, .int 0, .int 0, .ref y25, .int 0, .ref y27, .null, .int 0, .null, .null, .null, .null, .int 0, .int 0, .null, .null, .null, .null]))
  refine lv_aload_n hx hb dX2_init_84 rfl (lv_at hl 0 rfl) ?_
  refine lv_sipush (v := (330:Int32)) hx hb dX2_init_85 (by decide) ?_
  refine r_newZ (N := 330) E hw q1475 (q_clamp (k := 330) rfl) (by decide) (by decide) (Nat.le_of_ble_eq_true rfl) (Nat.le_of_ble_eq_true rfl) dX2_init_88 (fun y28 H hw hy28 _ => ?_)
  have hO := hO.newc (e := .inl (K.2.2.2.2 3, 330, .inl (fun _ => 0))) hy28
  refine r_putF E hw hO.get0 (T := TX2) (N := 40) rfl in_X2 tyX2 tyX2_ok nmX2 28 (by decide) q1381 rfl hin rfl rfl rfl (show 28 < 40 by decide) dX2_init_90 (fun H locs hw => ?_)
  have hO := hO.set0 (e := .inr (2, [.ref y0, .ref y1, .ref y2, .ref y3, .int 0, .int (-1), .int (-1), .int 0, .int 0, .int 0, .int 0, .long 0, .int 0, .int 0, .int 0, .ref y15, .ref y16, .int 0, .int 0, .int 0, .int 0, .int 0, .int 0, .int 0, .int 0, .ref y25, .int 0, .ref y27, .ref y28, .int 0, .null, .null, .null, .null, .int 0, .int 0, .null, .null, .null, .null]))
  refine lv_aload_n hx hb dX2_init_93 rfl (lv_at hl 0 rfl) ?_
  refine lv_bipush (v := (100:Int32)) hx hb dX2_init_94 (by decide) ?_
  refine r_newI (N := 100) E hw (q_clamp (k := 100) rfl) (by decide) (by decide) (Nat.le_of_ble_eq_true rfl) (Nat.le_of_ble_eq_true rfl) dX2_init_96 (fun y30 H hw hy30 _ => ?_)
  have hO := hO.newc (e := .inl (K.2.2.2.2 0, 100, .inl (fun _ => 0))) hy30
  refine r_putF E hw hO.get0 (T := TX2) (N := 40) rfl in_X2 tyX2 tyX2_ok nmX2 30 (by decide) q1383 rfl hin rfl rfl rfl (show 30 < 40 by decide) dX2_init_98 (fun H locs hw => ?_)
  have hO := hO.set0 (e := .inr (2, [.ref y0, .ref y1, .ref y2, .ref y3, .int 0, .int (-1), .int (-1), .int 0, .int 0, .int 0, .int 0, .long 0, .int 0, .int 0, .int 0, .ref y15, .ref y16, .int 0, .int 0, .int 0, .int 0, .int 0, .int 0, .int 0, .int 0, .ref y25, .int 0, .ref y27, .ref y28, .int 0, .ref y30, .null, .null, .null, .int 0, .int 0, .null, .null, .null, .null]))
  refine lv_aload_n hx hb dX2_init_101 rfl (lv_at hl 0 rfl) ?_
  refine lv_bipush (v := (100:Int32)) hx hb dX2_init_102 (by decide) ?_
  refine r_newI (N := 100) E hw (q_clamp (k := 100) rfl) (by decide) (by decide) (Nat.le_of_ble_eq_true rfl) (Nat.le_of_ble_eq_true rfl) dX2_init_104 (fun y31 H hw hy31 _ => ?_)
  have hO := hO.newc (e := .inl (K.2.2.2.2 0, 100, .inl (fun _ => 0))) hy31
  refine r_putF E hw hO.get0 (T := TX2) (N := 40) rfl in_X2 tyX2 tyX2_ok nmX2 31 (by decide) q1384 rfl hin rfl rfl rfl (show 31 < 40 by decide) dX2_init_106 (fun H locs hw => ?_)
  have hO := hO.set0 (e := .inr (2, [.ref y0, .ref y1, .ref y2, .ref y3, .int 0, .int (-1), .int (-1), .int 0, .int 0, .int 0, .int 0, .long 0, .int 0, .int 0, .int 0, .ref y15, .ref y16, .int 0, .int 0, .int 0, .int 0, .int 0, .int 0, .int 0, .int 0, .ref y25, .int 0, .ref y27, .ref y28, .int 0, .ref y30, .ref y31, .null, .null, .int 0, .int 0, .null, .null, .null, .null]))
  refine lv_aload_n hx hb dX2_init_109 rfl (lv_at hl 0 rfl) ?_
  refine lv_bipush (v := (100:Int32)) hx hb dX2_init_110 (by decide) ?_
  refine r_newI (N := 100) E hw (q_clamp (k := 100) rfl) (by decide) (by decide) (Nat.le_of_ble_eq_true rfl) (Nat.le_of_ble_eq_true rfl) dX2_init_112 (fun y32 H hw hy32 _ => ?_)
  have hO := hO.newc (e := .inl (K.2.2.2.2 0, 100, .inl (fun _ => 0))) hy32
  refine r_putF E hw hO.get0 (T := TX2) (N := 40) rfl in_X2 tyX2 tyX2_ok nmX2 32 (by decide) q1385 rfl hin rfl rfl rfl (show 32 < 40 by decide) dX2_init_114 (fun H locs hw => ?_)
  have hO := hO.set0 (e := .inr (2, [.ref y0, .ref y1, .ref y2, .ref y3, .int 0, .int (-1), .int (-1), .int 0, .int 0, .int 0, .int 0, .long 0, .int 0, .int 0, .int 0, .ref y15, .ref y16, .int 0, .int 0, .int 0, .int 0, .int 0, .int 0, .int 0, .int 0, .ref y25, .int 0, .ref y27, .ref y28, .int 0, .ref y30, .ref y31, .ref y32, .null, .int 0, .int 0, .null, .null, .null, .null]))
  refine lv_aload_n hx hb dX2_init_117 rfl (lv_at hl 0 rfl) ?_
  refine lv_bipush (v := (13:Int32)) hx hb dX2_init_118 (by decide) ?_
  refine r_newI (N := 13) E hw (q_clamp (k := 13) rfl) (by decide) (by decide) (Nat.le_of_ble_eq_true rfl) (Nat.le_of_ble_eq_true rfl) dX2_init_120 (fun y33 H hw hy33 _ => ?_)
  have hO := hO.newc (e := .inl (K.2.2.2.2 0, 13, .inl (fun _ => 0))) hy33
  refine r_putF E hw hO.get0 (T := TX2) (N := 40) rfl in_X2 tyX2 tyX2_ok nmX2 33 (by decide) q1386 rfl hin rfl rfl rfl (show 33 < 40 by decide) dX2_init_122 (fun H locs hw => ?_)
  have hO := hO.set0 (e := .inr (2, [.ref y0, .ref y1, .ref y2, .ref y3, .int 0, .int (-1), .int (-1), .int 0, .int 0, .int 0, .int 0, .long 0, .int 0, .int 0, .int 0, .ref y15, .ref y16, .int 0, .int 0, .int 0, .int 0, .int 0, .int 0, .int 0, .int 0, .ref y25, .int 0, .ref y27, .ref y28, .int 0, .ref y30, .ref y31, .ref y32, .ref y33, .int 0, .int 0, .null, .null, .null, .null]))
  refine lv_aload_n hx hb dX2_init_125 rfl (lv_at hl 0 rfl) ?_
  refine lv_bipush (v := (28:Int32)) hx hb dX2_init_126 (by decide) ?_
  refine r_newI (N := 28) E hw (q_clamp (k := 28) rfl) (by decide) (by decide) (Nat.le_of_ble_eq_true rfl) (Nat.le_of_ble_eq_true rfl) dX2_init_128 (fun y36 H hw hy36 _ => ?_)
  have hO := hO.newc (e := .inl (K.2.2.2.2 0, 28, .inl (fun _ => 0))) hy36
  refine r_putF E hw hO.get0 (T := TX2) (N := 40) rfl in_X2 tyX2 tyX2_ok nmX2 36 (by decide) q1389 rfl hin rfl rfl rfl (show 36 < 40 by decide) dX2_init_130 (fun H locs hw => ?_)
  have hO := hO.set0 (e := .inr (2, [.ref y0, .ref y1, .ref y2, .ref y3, .int 0, .int (-1), .int (-1), .int 0, .int 0, .int 0, .int 0, .long 0, .int 0, .int 0, .int 0, .ref y15, .ref y16, .int 0, .int 0, .int 0, .int 0, .int 0, .int 0, .int 0, .int 0, .ref y25, .int 0, .ref y27, .ref y28, .int 0, .ref y30, .ref y31, .ref y32, .ref y33, .int 0, .int 0, .ref y36, .null, .null, .null]))
  refine lv_aload_n hx hb dX2_init_133 rfl (lv_at hl 0 rfl) ?_
  refine lv_bipush (v := (8:Int32)) hx hb dX2_init_134 (by decide) ?_
  refine r_newI (N := 8) E hw (q_clamp (k := 8) rfl) (by decide) (by decide) (Nat.le_of_ble_eq_true rfl) (Nat.le_of_ble_eq_true rfl) dX2_init_136 (fun y37 H hw hy37 _ => ?_)
  have hO := hO.newc (e := .inl (K.2.2.2.2 0, 8, .inl (fun _ => 0))) hy37
  refine r_putF E hw hO.get0 (T := TX2) (N := 40) rfl in_X2 tyX2 tyX2_ok nmX2 37 (by decide) q1390 rfl hin rfl rfl rfl (show 37 < 40 by decide) dX2_init_138 (fun H locs hw => ?_)
  have hO := hO.set0 (e := .inr (2, [.ref y0, .ref y1, .ref y2, .ref y3, .int 0, .int (-1), .int (-1), .int 0, .int 0, .int 0, .int 0, .long 0, .int 0, .int 0, .int 0, .ref y15, .ref y16, .int 0, .int 0, .int 0, .int 0, .int 0, .int 0, .int 0, .int 0, .ref y25, .int 0, .ref y27, .ref y28, .int 0, .ref y30, .ref y31, .ref y32, .ref y33, .int 0, .int 0, .ref y36, .ref y37, .null, .null]))
  refine lv_aload_n hx hb dX2_init_141 rfl (lv_at hl 0 rfl) ?_
  refine lv_iconst (v := (5:Int32)) hx hb dX2_init_142 (by decide) ?_
  refine r_newI (N := 5) E hw (q_clamp (k := 5) rfl) (by decide) (by decide) (Nat.le_of_ble_eq_true rfl) (Nat.le_of_ble_eq_true rfl) dX2_init_143 (fun y38 H hw hy38 _ => ?_)
  have hO := hO.newc (e := .inl (K.2.2.2.2 0, 5, .inl (fun _ => 0))) hy38
  refine r_putF E hw hO.get0 (T := TX2) (N := 40) rfl in_X2 tyX2 tyX2_ok nmX2 38 (by decide) q1391 rfl hin rfl rfl rfl (show 38 < 40 by decide) dX2_init_145 (fun H locs hw => ?_)
  have hO := hO.set0 (e := .inr (2, [.ref y0, .ref y1, .ref y2, .ref y3, .int 0, .int (-1), .int (-1), .int 0, .int 0, .int 0, .int 0, .long 0, .int 0, .int 0, .int 0, .ref y15, .ref y16, .int 0, .int 0, .int 0, .int 0, .int 0, .int 0, .int 0, .int 0, .ref y25, .int 0, .ref y27, .ref y28, .int 0, .ref y30, .ref y31, .ref y32, .ref y33, .int 0, .int 0, .ref y36, .ref y37, .ref y38, .null]))
  refine lv_aload_n hx hb dX2_init_148 rfl (lv_at hl 0 rfl) ?_
  refine lv_iconst (v := (5:Int32)) hx hb dX2_init_149 (by decide) ?_
  refine r_newI (N := 5) E hw (q_clamp (k := 5) rfl) (by decide) (by decide) (Nat.le_of_ble_eq_true rfl) (Nat.le_of_ble_eq_true rfl) dX2_init_150 (fun y39 H hw hy39 _ => ?_)
  have hO := hO.newc (e := .inl (K.2.2.2.2 0, 5, .inl (fun _ => 0))) hy39
  refine r_putF E hw hO.get0 (T := TX2) (N := 40) rfl in_X2 tyX2 tyX2_ok nmX2 39 (by decide) q1392 rfl hin rfl rfl rfl (show 39 < 40 by decide) dX2_init_152 (fun H locs hw => ?_)
  have hO := hO.set0 (e := .inr (2, [.ref y0, .ref y1, .ref y2, .ref y3, .int 0, .int (-1), .int (-1), .int 0, .int 0, .int 0, .int 0, .long 0, .int 0, .int 0, .int 0, .ref y15, .ref y16, .int 0, .int 0, .int 0, .int 0, .int 0, .int 0, .int 0, .int 0, .ref y25, .int 0, .ref y27, .ref y28, .int 0, .ref y30, .ref y31, .ref y32, .ref y33, .int 0, .int 0, .ref y36, .ref y37, .ref y38, .ref y39]))
  have hO : OwnL (va_up M y none) _ ((y, .inr (2, [.ref y0, .ref y1, .ref y2, .ref y3, .int 0, .int (-1), .int (-1), .int 0, .int 0, .int 0, .int 0, .long 0, .int 0, .int 0, .int 0, .ref y15, .ref y16, .int 0, .int 0, .int 0, .int 0, .int 0, .int 0, .int 0, .int 0, .ref y25, .int 0, .ref y27, .ref y28, .int 0, .ref y30, .ref y31, .ref y32, .ref y33, .int 0, .int 0, .ref y36, .ref y37, .ref y38, .ref y39])) :: (y39, .inl (K.2.2.2.2 0, 5, .inl (fun _ => 0))) :: (y38, .inl (K.2.2.2.2 0, 5, .inl (fun _ => 0))) :: (y37, .inl (K.2.2.2.2 0, 8, .inl (fun _ => 0))) :: (y36, .inl (K.2.2.2.2 0, 28, .inl (fun _ => 0))) :: (y33, .inl (K.2.2.2.2 0, 13, .inl (fun _ => 0))) :: (y32, .inl (K.2.2.2.2 0, 100, .inl (fun _ => 0))) :: (y31, .inl (K.2.2.2.2 0, 100, .inl (fun _ => 0))) :: (y30, .inl (K.2.2.2.2 0, 100, .inl (fun _ => 0))) :: (y28, .inl (K.2.2.2.2 3, 330, .inl (fun _ => 0))) :: (y27, .inl (K.2.2.2.2 2, 330, .inr (.inl (fun _ => 0)))) :: (y25, .inl (K.2.2.2.2 0, 8, .inl (fun _ => 0))) :: (y16, .inl (K.2.2.2.2 0, 9, .inl (fun _ => 0))) :: (y15, .inl (K.2.2.2.2 0, 160, .inl (fun _ => 0))) :: (y3, .inl (K.2.2.2.2 0, 300, .inl (fun _ => 0))) :: (y2, .inl (K.2.2.2.2 0, 2820, .inl (fun _ => 0))) :: (y1, .inl (K.2.2.2.2 0, 3642, .inl (fun _ => 0))) :: (y0, .inl (K.2.2.2.2 0, 3642, .inl (fun _ => 0))) :: []) := hO
  have hZ := mZ_gen (fun l => ((fun l => if l = 1001 then y0 else if l = 1002 then y1 else if l = 1003 then y2 else if l = 1004 then y3 else if l = 1005 then y15 else if l = 1006 then y16 else if l = 1007 then y25 else if l = 1008 then y27 else if l = 1009 then y28 else if l = 1010 then y30 else if l = 1011 then y31 else if l = 1012 then y32 else if l = 1013 then y33 else if l = 1014 then y36 else if l = 1015 then y37 else if l = 1016 then y38 else if l = 1017 then y39 else y) l, qat (mK K (fun l => if l = 1001 then y0 else if l = 1002 then y1 else if l = 1003 then y2 else if l = 1004 then y3 else if l = 1005 then y15 else if l = 1006 then y16 else if l = 1007 then y25 else if l = 1008 then y27 else if l = 1009 then y28 else if l = 1010 then y30 else if l = 1011 then y31 else if l = 1012 then y32 else if l = 1013 then y33 else if l = 1014 then y36 else if l = 1015 then y37 else if l = 1016 then y38 else if l = 1017 then y39 else y)) (A, iniB, iniL, X, va_up M y none) l)) (p0 := (y, .inr (2, [.ref y0, .ref y1, .ref y2, .ref y3, .int 0, .int (-1), .int (-1), .int 0, .int 0, .int 0, .int 0, .long 0, .int 0, .int 0, .int 0, .ref y15, .ref y16, .int 0, .int 0, .int 0, .int 0, .int 0, .int 0, .int 0, .int 0, .ref y25, .int 0, .ref y27, .ref y28, .int 0, .ref y30, .ref y31, .ref y32, .ref y33, .int 0, .int 0, .ref y36, .ref y37, .ref y38, .ref y39]))) (p1 := (y0, .inl (K.2.2.2.2 0, 3642, .inl (fun _ => 0)))) (p2 := (y1, .inl (K.2.2.2.2 0, 3642, .inl (fun _ => 0)))) (p3 := (y2, .inl (K.2.2.2.2 0, 2820, .inl (fun _ => 0)))) (p4 := (y3, .inl (K.2.2.2.2 0, 300, .inl (fun _ => 0)))) (p5 := (y15, .inl (K.2.2.2.2 0, 160, .inl (fun _ => 0)))) (p6 := (y16, .inl (K.2.2.2.2 0, 9, .inl (fun _ => 0)))) (p7 := (y25, .inl (K.2.2.2.2 0, 8, .inl (fun _ => 0)))) (p8 := (y27, .inl (K.2.2.2.2 2, 330, .inr (.inl (fun _ => 0))))) (p9 := (y28, .inl (K.2.2.2.2 3, 330, .inl (fun _ => 0)))) (p10 := (y30, .inl (K.2.2.2.2 0, 100, .inl (fun _ => 0)))) (p11 := (y31, .inl (K.2.2.2.2 0, 100, .inl (fun _ => 0)))) (p12 := (y32, .inl (K.2.2.2.2 0, 100, .inl (fun _ => 0)))) (p13 := (y33, .inl (K.2.2.2.2 0, 13, .inl (fun _ => 0)))) (p14 := (y36, .inl (K.2.2.2.2 0, 28, .inl (fun _ => 0)))) (p15 := (y37, .inl (K.2.2.2.2 0, 8, .inl (fun _ => 0)))) (p16 := (y38, .inl (K.2.2.2.2 0, 5, .inl (fun _ => 0)))) (p17 := (y39, .inl (K.2.2.2.2 0, 5, .inl (fun _ => 0)))) rfl rfl rfl rfl rfl rfl rfl rfl rfl rfl rfl rfl rfl rfl rfl rfl rfl rfl
  have hO := hO.eqZ hZ
  obtain ⟨ad, e0, hw⟩ : ∃ ad : Nat → Nat, ad 1000 = y ∧ WP (mK K ad) (A, iniB, iniL, X, va_up M y none) H locs := ⟨_, rfl, WP.model hw hlt hO⟩
  have E' : EV (mK K ad) G p s m #[.ref y] meth c cX2_init yX2_init.cls 1 := E
  have hM : QMl (mK K ad) := mK_M
  have k0 : (mK K ad).2.1 1000 = y := e0
  rw [← k0] at hl
  refine lv_aload_n hx hb dX2_init_155 rfl (lv_at hl 0 rfl) ?_
  refine r_getM (v := .ref ((mK K ad).2.1 1001)) E' hw hM 0 (by decide) q1353 rfl dX2_init_156 ?_
  refine lv_bipush (v := (12:Int32)) hx hb dX2_init_159 (by decide) ?_
  refine lv_bipush (v := (107:Int32)) hx hb dX2_init_161 (by decide) ?_
  refine r_iastB (j := 12) E' hw (qi_1001 hM) (q_lit (k := 12) (n := 3642) rfl rfl) (q_clamp (k := 12) rfl) dX2_init_163 (fun H locs hw => ?_)
  refine lv_aload_n hx hb dX2_init_164 rfl (lv_at hl 0 rfl) ?_
  refine r_getM (v := .ref ((mK K ad).2.1 1001)) E' hw hM 0 (by decide) q1353 rfl dX2_init_165 ?_
  refine lv_iconst (v := (2:Int32)) hx hb dX2_init_168 (by decide) ?_
  refine lv_iconst (v := (-1:Int32)) hx hb dX2_init_169 (by decide) ?_
  refine r_iastB (j := 2) E' hw (qi_1001 hM) (q_lit (k := 2) (n := 3642) rfl rfl) (q_clamp (k := 2) rfl) dX2_init_170 (fun H locs hw => ?_)
  refine lv_aload_n hx hb dX2_init_171 rfl (lv_at hl 0 rfl) ?_
  refine r_getM (v := .ref ((mK K ad).2.1 1001)) E' hw hM 0 (by decide) q1353 rfl dX2_init_172 ?_
  refine lv_bipush (v := (9:Int32)) hx hb dX2_init_175 (by decide) ?_
  refine lv_iconst (v := (3:Int32)) hx hb dX2_init_177 (by decide) ?_
  refine r_iastB (j := 9) E' hw (qi_1001 hM) (q_lit (k := 9) (n := 3642) rfl rfl) (q_clamp (k := 9) rfl) dX2_init_178 (fun H locs hw => ?_)
  refine lv_aload_n hx hb dX2_init_179 rfl (lv_at hl 0 rfl) ?_
  refine r_getM (v := .ref ((mK K ad).2.1 1001)) E' hw hM 0 (by decide) q1353 rfl dX2_init_180 ?_
  refine lv_bipush (v := (13:Int32)) hx hb dX2_init_183 (by decide) ?_
  refine lv_iconst (v := (-1:Int32)) hx hb dX2_init_185 (by decide) ?_
  refine r_iastB (j := 13) E' hw (qi_1001 hM) (q_lit (k := 13) (n := 3642) rfl rfl) (q_clamp (k := 13) rfl) dX2_init_186 (fun H locs hw => ?_)
  refine lv_aload_n hx hb dX2_init_187 rfl (lv_at hl 0 rfl) ?_
  refine r_getM (v := .ref ((mK K ad).2.1 1001)) E' hw hM 0 (by decide) q1353 rfl dX2_init_188 ?_
  refine lv_aload_n hx hb dX2_init_191 rfl (lv_at hl 0 rfl) ?_
  refine r_getM (v := .ref ((mK K ad).2.1 1002)) E' hw hM 1 (by decide) q1354 rfl dX2_init_192 ?_
  refine d_S (As := [.ref ((mK K ad).2.1 1001), .ref ((mK K ad).2.1 1002)]) (v0 := none) hG E' hw hl (m_X2_copy l hG hM (qi_1001 hM) (qi_1002 hM) hcp) (va_cwS 2 hts (lw_S q1350 q1351 q140 q1352) rfl rfl rfl kd_X2_copy ⟨Nat.le_of_ble_eq_true rfl, Nat.le_of_ble_eq_true rfl⟩) rfl (rest := []) (st1 := []) rfl rfl rfl dX2_init_195 ⟨(Nat.le_of_ble_eq_true rfl), (Nat.le_of_ble_eq_true rfl)⟩ (fun H locs hw => ?_)
  exact r_retK (K' := mK K ad) E hr ⟨rfl, rfl⟩ ⟨rfl, ⟨ad, rfl, e0⟩, rfl⟩ hw (Nat.le_of_ble_eq_true rfl) (Nat.le_of_ble_eq_true rfl) dX2_init_198
