/-! behind, doing: their walks; a text while it is being read; code -/
set_option maxRecDepth 100000
theorem kd_X16_init : yX16_init.cls ≠ "java/lang/invoke/MethodHandle" ∧ yX16_init.cls ≠ "java/lang/invoke/VarHandle" ∧ (parseMethodDescriptor yX16_init.desc).map (fun d => d.parameters.length) = some 5 := by decide +kernel
theorem kd_X3_behind : yX3_behind.cls ≠ "java/lang/invoke/MethodHandle" ∧ yX3_behind.cls ≠ "java/lang/invoke/VarHandle" ∧ (parseMethodDescriptor yX3_behind.desc).map (fun d => d.parameters.length) = some 3 := by decide +kernel
theorem pb_o {α β : Type} {r : PR α} {k : α → QTS → PR β} : pbo (some r) (fun a t => some (k a t)) = some (pb r k) := by
  cases r with
  | inl e => rfl
  | inr x => rfl
def sDoing (D : Nat → Int32) (n : Nat) (k : Int32) (t : QTS) : Option (PR QDo) :=
  if t.2.2.2.2.2 = 205 then pbo (some (sNumber D n 0 5 t)) fun a t1 => pbo (some (sBehind D n 212 1 9 t1)) fun b t2 => pad 1 (pbo (some (sBehind D n 213 1 9 t2)) fun c t3 => some (.inr ((205, a, b, c, k), t3, 0)))
  else if t.2.2.2.2.2 = 209 then pbo (some (sNumber D n 0 3 t)) fun a t1 => pad 1 (pbo (some (sBehind D n 214 0 9 t1)) fun b t2 => some (.inr ((209, a, b, -1, k), t2, 0)))
  else if t.2.2.2.2.2 = 211 then pad 1 (pbo (some (sNumber D n 1 60 t)) fun a t1 => some (.inr ((211, a, -1, -1, k), t1, 0)))
  else if t.2.2.2.2.2 = 207 ∨ t.2.2.2.2.2 = 210 then some (.inr ((t.2.2.2.2.2, -1, -1, -1, k), t, 1))
  else pad 1 (pbo (some (sNumber D n 0 7 t)) fun a t1 => some (.inr ((t.2.2.2.2.2, a, -1, -1, k), t1, 0)))
theorem PT.behind {D : Nat → Int32} {n : Nat} {w lo hi : Int32} : PT n (fun t => some (sBehind D n w lo hi t)) := by
  intro t q t' c ht h
  have h : pbo (some (sWant D n w t)) (fun _ t => some (sNumber D n lo hi t)) = some (.inr (q, t', c)) := by rw [pb_o]; exact h
  obtain ⟨a, t2, c2, d, g1, g2, -⟩ := pbo_inr h
  have k1 := PT.want _ _ _ _ ht g1
  exact k1.tr (PT.number _ _ _ _ k1.1 g2)
theorem PT.doing {D : Nat → Int32} {n : Nat} {k : Int32} : PT n (sDoing D n k) := by
  intro t q t' c ht h
  unfold sDoing at h
  by_cases c1 : t.2.2.2.2.2 = 205
  · rw [if_pos c1] at h
    obtain ⟨a, t1, e1, d1, g1, h, -⟩ := pbo_inr h
    obtain ⟨b, t2, e2, d2, g2, h, -⟩ := pbo_inr h
    obtain ⟨d, h, -⟩ := pad_inr h
    obtain ⟨c9, t3, e3, d3, g3, h, -⟩ := pbo_inr h
    cases h
    have k1 := PT.number _ _ _ _ ht g1
    have k2 := k1.tr (PT.behind _ _ _ _ k1.1 g2)
    exact k2.tr (PT.behind _ _ _ _ k2.1 g3)
  rw [if_neg c1] at h
  by_cases c2 : t.2.2.2.2.2 = 209
  · rw [if_pos c2] at h
    obtain ⟨a, t1, e1, d1, g1, h, -⟩ := pbo_inr h
    obtain ⟨d, h, -⟩ := pad_inr h
    obtain ⟨b, t2, e2, d2, g2, h, -⟩ := pbo_inr h
    cases h
    have k1 := PT.number _ _ _ _ ht g1
    exact k1.tr (PT.behind _ _ _ _ k1.1 g2)
  rw [if_neg c2] at h
  by_cases c3 : t.2.2.2.2.2 = 211
  · rw [if_pos c3] at h
    obtain ⟨d, h, -⟩ := pad_inr h
    obtain ⟨b, t2, e2, d2, g2, h, -⟩ := pbo_inr h
    cases h
    exact PT.number _ _ _ _ ht g2
  rw [if_neg c3] at h
  by_cases c4 : t.2.2.2.2.2 = 207 ∨ t.2.2.2.2.2 = 210
  · rw [if_pos c4] at h
    cases h
    exact ⟨ht, rfl⟩
  rw [if_neg c4] at h
  obtain ⟨d, h, -⟩ := pad_inr h
  obtain ⟨b, t2, e2, d2, g2, h, -⟩ := pbo_inr h
  cases h
  exact PT.number _ _ _ _ ht g2
set_option maxHeartbeats 4000000 in
theorem m_X3_behind (l : Launch) {K : QK} {G : State → Prop} {A B : QA} {L : QL} {X : QX} {M : QM} {n : Nat} {y : QY} {t : QTS} (hG : QG G) (hC : QCl K) (h13 : ql K 13) (hS : QSt K G y) (hWr : QWr K G) (hlst : l.stackTraces = false) (hn : n ≤ 300) (ht : t.1 ≤ n) {w lo hi : Int32} : MP l K G yX3_behind (ws_ yX3_behind cX3_behind 4 (some .int)) 9 340 [.ref (K.2.1 13), .int w, .int lo, .int hi] A B L X M n t (sBehind (A 3) n w lo hi t) (fun _ a v => v = some (.int a)) := by
  generalize hr0 : sBehind (A 3) n w lo hi t = r
  have h : pbo (some (sWant (A 3) n w t)) (fun _ t => some (sNumber (A 3) n lo hi t)) = some r := by rw [pb_o]; exact congrArg some hr0
  refine MX.of (by decide) (Nat.le_of_ble_eq_true rfl) (lv := [(0, .ref (K.2.1 13)), (1, .int w), (2, .int lo), (3, .int hi)]) rfl (fun p e s m below meth c ls E hr hnt hl hw => ?_)
  have hx := E.1
  have hb := E.2.1
  have hown := E.2.2.1
  have hts := E.2.2.2.2.1
  refine lv_aload_n hx hb dX3_behind_0 rfl (lv_at hl 0 rfl) ?_
  refine lv_iload_n hx hb dX3_behind_1 rfl (lv_at hl 1 rfl) ?_
  refine c_B (c0 := 0) (As := [.int w]) (rest := []) (V1 := fun _ _ v => v = none) hG E hnt hw h13 QExt.refl h padd_0.symm (Nat.le_refl _) (Nat.le_refl _) (fun r1 h1 => by cases h1; exact m_X3_want l hG hC h13 hS hWr hlst hn ht) (fun r1 => (cwV 1 hts (lw_V q555 q557 qs8 q141 q558) rfl rfl rfl ⟨rfl, kd_X3_want⟩ ⟨Nat.le_of_ble_eq_true rfl, Nat.le_of_ble_eq_true rfl⟩)) hl rfl rfl rfl dX3_behind_2 (fun u t1 cst v M1 H locs y1 ho1 h hz hc hs hx1 hV hw => ?_)
  subst hV
  refine W.eq (g2 := F0 m 5 ls []) rfl ?_
  have tk1 := PT.want _ _ _ _ ht ho1
  refine lv_aload_n hx hb dX3_behind_5 rfl (lv_at hl 0 rfl) ?_
  refine lv_iload_n hx hb dX3_behind_6 rfl (lv_at hl 2 rfl) ?_
  refine lv_iload_n hx hb dX3_behind_7 rfl (lv_at hl 3 rfl) ?_
  refine c_B (c0 := 0 + cst) (k := fun a t => some (.inr (a, t, 0))) (z := y1) (As := [.int lo, .int hi]) (rest := []) (V1 := fun _ a v => v = some (.int a)) hG E hnt hw h13 hx1 (pbo_id h) hz hc hs (fun r1 h1 => by cases h1; exact m_X3_number l hG hC h13 hS hWr hlst hn tk1.1) (fun r1 => (cwV 2 hts (lw_V q551 q553 qs7 q141 q554) rfl rfl rfl ⟨rfl, kd_X3_number⟩ ⟨Nat.le_of_ble_eq_true rfl, Nat.le_of_ble_eq_true rfl⟩)) hl rfl rfl rfl dX3_behind_8 (fun u2 t2 cst2 v M2 H locs y2 ho2 h hz hc hs hx2 hV hw => ?_)
  subst hV
  refine W.eq (g2 := F0 m 11 ls [.int u2]) rfl ?_
  have h := Option.some.inj h
  subst h
  exact p_iret (c0 := 0 + cst + cst2) (c1 := 0) E hr rfl hz (by omega) (by omega) (hx1.trans hx2) rfl hw dX3_behind_11
/-- an answer: a doing's cell, made since M -/
def VD (K : QK) (M : QM) : QM → QDo → Option Value → Prop := fun M' d v => ∃ a, v = some (.ref a) ∧ DAt K (qnew M M') a (.inr (16, [.int d.1, .int d.2.1, .int d.2.2.1, .int d.2.2.2.1, .int d.2.2.2.2]))
set_option maxHeartbeats 8000000 in
theorem m_X3_doing (l : Launch) {K : QK} {G : State → Prop} {A B : QA} {L : QL} {X : QX} {M : QM} {n : Nat} {y : QY} {t : QTS} {k : Int32} {r : PR QDo} (hG : QG G) (hC : QCl K) (h13 : ql K 13) (hS : QSt K G y) (hWr : QWr K G) (hlst : l.stackTraces = false) (hn : n ≤ 300) (ht : t.1 ≤ n) (h : sDoing (A 3) n k t = some r) : MP l K G yX3_doing (ws_ yX3_doing cX3_doing 4 (some (.object "VaneCourt$Doing"))) 10 400 [.ref (K.2.1 13), .int k] A B L X M n t r (VD K M) := by
  refine MX.of (by decide) (Nat.le_of_ble_eq_true rfl) (lv := [(0, .ref (K.2.1 13)), (1, .int k)]) rfl (fun p e s m below meth c ls E hr hnt hl hw => ?_)
  have hx := E.1
  have hb := E.2.1
  have hown := E.2.2.1
  have hts := E.2.2.2.2.1
  unfold sDoing at h
  refine lv_aload_n hx hb dX3_doing_0 rfl (lv_at hl 0 rfl) ?_
  refine r_gKind E hw hC h13 q320 dX3_doing_1 ?_
  have hz0 : r = padd 0 r := padd_0.symm
  have tab : ∀ (v : Int32) (off : Int) (tgt : Nat), t.2.2.2.2.2 = v → ¬ v.toInt < 205 → ¬ 211 < v.toInt → (#[44, 157, 141, 157, 87, 141, 119] : Array Int)[(v.toInt - 205).toNat]? = some off → ((4 : Nat) : Int) + off = (tgt : Int) → W p l e (pR 10 400 r) s m #[.ref (K.2.1 13), .int k] below meth c s.heap [] 0 0 (PQ below K A B L X n M (VD K M) #[.ref (K.2.1 13), .int k] s r) (F0 m tgt ls []) → W p l e (pR 10 400 r) s m #[.ref (K.2.1 13), .int k] below meth c s.heap [] 0 0 (PQ below K A B L X n M (VD K M) #[.ref (K.2.1 13), .int k] s r) (F0 m 4 ls [.int t.2.2.2.2.2]) := by
    intro v off tgt hv h1 h2 h3 h4 kk
    rw [hv]
    exact lv_tableIn hx hb dX3_doing_4 h1 h2 h3 h4 kk
  by_cases c1 : t.2.2.2.2.2 = 205
  · rw [if_pos c1] at h
    have hz := hz0
    refine tab 205 44 48 c1 (by decide) (by decide) rfl (by decide) ?_
    refine lv_aload_n hx hb dX3_doing_48 rfl (lv_at hl 0 rfl) ?_
    refine lv_iconst (v := (0:Int32)) hx hb dX3_doing_49 (by decide) ?_
    refine lv_iconst (v := (5:Int32)) hx hb dX3_doing_50 (by decide) ?_
    refine c_B (c0 := 0) (As := [.int 0, .int 5]) (rest := []) (V1 := fun _ a v => v = some (.int a)) hG E hnt hw h13 QExt.refl h hz (by omega) (by omega) (fun r1 h1 => by cases h1; exact m_X3_number l hG hC h13 hS hWr hlst hn ht) (fun r1 => (cwV 2 hts (lw_V q551 q553 qs7 q141 q554) rfl rfl rfl ⟨rfl, kd_X3_number⟩ ⟨Nat.le_of_ble_eq_true rfl, Nat.le_of_ble_eq_true rfl⟩)) hl rfl rfl rfl dX3_doing_51 (fun u t0_ cst v M0_ H locs y_ ho h hz hc hs hx'0 hV hw => ?_)
    subst hV
    refine W.eq (g2 := F0 m 54 ls [.int u]) rfl ?_
    have tk := PT.number _ _ _ _ ht ho
    refine lv_istore_n (lv' := [(2, .int u), (0, .ref (K.2.1 13)), (1, .int k)]) hx hb dX3_doing_54 rfl hl (by decide) rfl (fun ls hl => ?_)
    refine lv_aload_n hx hb dX3_doing_55 rfl (lv_at hl 1 rfl) ?_
    refine lv_sipush (v := (212:Int32)) hx hb dX3_doing_56 (by decide) ?_
    refine lv_iconst (v := (1:Int32)) hx hb dX3_doing_59 (by decide) ?_
    refine lv_bipush (v := (9:Int32)) hx hb dX3_doing_60 (by decide) ?_
    refine c_B (c0 := 0 + cst) (As := [.int 212, .int 1, .int 9]) (rest := []) (V1 := fun _ a v => v = some (.int a)) hG E hnt hw h13 hx'0 h hz (by omega) (by omega) (fun r1 h1 => by cases h1; exact m_X3_behind l hG hC h13 hS hWr hlst hn tk.1) (fun r1 => (cwV 3 hts (lw_V q849 q851 qs25 q141 q852) rfl rfl rfl ⟨rfl, kd_X3_behind⟩ ⟨Nat.le_of_ble_eq_true rfl, Nat.le_of_ble_eq_true rfl⟩)) hl rfl rfl rfl dX3_doing_62 (fun u2 t2 cst2 v M2 H locs y2 ho2 h hz hc hs hx2 hV hw => ?_)
    subst hV
    refine W.eq (g2 := F0 m 65 ls [.int u2]) rfl ?_
    have tk2 := tk.tr (PT.behind _ _ _ _ tk.1 ho2)
    refine lv_istore_n (lv' := [(3, .int u2), (2, .int u), (0, .ref (K.2.1 13)), (1, .int k)]) hx hb dX3_doing_65 rfl hl (by decide) rfl (fun ls hl => ?_)
    obtain ⟨y9, h, hy9⟩ := pad_s h
    rw [hy9, padd_padd] at hz
    have hle : 0 + cst + cst2 + 1 ≤ pc_ r := by rw [hz, pc_add]; exact Nat.le_add_right _ _
    refine r_new (ci := 16) (fs := [.int 0, .int 0, .int 0, .int 0, .int 0]) E hw (T := TX16) (N := 5) rfl in_X16 tyX16 tyX16_ok q853 q854 q171 (fun j hj => by match j, hj with | 0, _ => rfl | 1, _ => rfl | 2, _ => rfl | 3, _ => rfl | 4, _ => rfl | j + 5, hj => exact absurd hj (by omega)) (show _ ≤ pc_ r by omega) (show _ ≤ 12 * pc_ r by omega) dX3_doing_66 (fun q H hw hq _ _ => ?_)
    have hq1 : M2 q = none := hq
    have hxx : QExt M (va_up M2 q (some (.inr (16, [.int 0, .int 0, .int 0, .int 0, .int 0])))) := (hx'0.trans hx2).trans (QExt.up hq1)
    refine lv_dup hx hb dX3_doing_69 rfl ?_
    refine lv_aload_n hx hb dX3_doing_70 rfl (lv_at hl 2 rfl) ?_
    refine r_gKind E hw hC h13 q320 dX3_doing_71 ?_
    refine lv_iload_n hx hb dX3_doing_74 rfl (lv_at hl 1 rfl) ?_
    refine lv_iload_n hx hb dX3_doing_75 rfl (lv_at hl 0 rfl) ?_
    refine lv_aload_n hx hb dX3_doing_76 rfl (lv_at hl 2 rfl) ?_
    refine lv_sipush (v := (213:Int32)) hx hb dX3_doing_77 (by decide) ?_
    refine lv_iconst (v := (1:Int32)) hx hb dX3_doing_80 (by decide) ?_
    refine lv_bipush (v := (9:Int32)) hx hb dX3_doing_81 (by decide) ?_
    refine c_B (c0 := 0 + cst + cst2 + 1) (As := [.int 213, .int 1, .int 9]) (rest := [.int u2, .int u, .int t2.2.2.2.2.2, .ref q, .ref q]) (V1 := fun _ a v => v = some (.int a)) hG E hnt hw h13 hxx h hz (by omega) (by omega) (fun r1 h1 => by cases h1; exact m_X3_behind l hG hC h13 hS hWr hlst hn tk2.1) (fun r1 => (cwV 3 hts (lw_V q849 q851 qs25 q141 q852) rfl rfl rfl ⟨rfl, kd_X3_behind⟩ ⟨Nat.le_of_ble_eq_true rfl, Nat.le_of_ble_eq_true rfl⟩)) hl rfl rfl rfl dX3_doing_83 (fun u3 t3 cst3 v M3 H locs y3 ho3 h hz hc hs hx3 hV hw => ?_)
    subst hV
    refine W.eq (g2 := F0 m 86 ls [.int u3, .int u2, .int u, .int t2.2.2.2.2.2, .ref q, .ref q]) rfl ?_
    have h := Option.some.inj h
    subst h
    have hle2 : 0 + cst + cst2 + 1 + cst3 ≤ pc_ r := by rw [hz, pc_add]; exact Nat.le_add_right _ _
    have kd : t2.2.2.2.2.2 = 205 := (congrArg Prod.snd tk2.2).trans c1
    rw [kd]
    refine lv_iload_n hx hb dX3_doing_86 rfl (lv_at hl 3 rfl) ?_
    refine c_IN (As := [.int 205, .int u, .int u2, .int u3, .int k]) (rest := [.ref q]) hG E hw (m_X16_init l hG (hx3 q _ va_up_s)) ⟨va_cnB 5 hts (lw_meth q857) rfl rfl rfl (hG.2.2 s _ E.2.2.2.2.2.1 q855 rfl) (hts _ q171) kd_X16_init ⟨Nat.le_of_ble_eq_true rfl, Nat.le_of_ble_eq_true rfl⟩, rfl, hts _ q856⟩ hl rfl rfl (Nat.le_of_ble_eq_true rfl) dX3_doing_87 ⟨(show _ ≤ pc_ r by omega), (show _ ≤ 12 * pc_ r by omega)⟩ (fun v w' H locs hP9 hw => ?_)
    obtain ⟨rfl, rfl⟩ := hP9
    refine W.eq (g2 := F0 m 90 ls [.ref q]) rfl ?_
    have hq0 := QExt.no (hx'0.trans hx2) hq1
    exact p_aret (c0 := 0 + cst + cst2 + 1 + cst3) (c1 := 0) E hr (Or.inl ⟨_, rfl⟩) hz (by omega) (by omega) (QExt.up2 (hxx.trans hx3) hq0) ⟨q, rfl, Or.inl ((qnew_n hq0).trans va_up_s)⟩ hw dX3_doing_90
  rw [if_neg c1] at h
  by_cases c2 : t.2.2.2.2.2 = 209
  · rw [if_pos c2] at h
    have hz := hz0
    refine tab 209 87 91 c2 (by decide) (by decide) rfl (by decide) ?_
    refine lv_aload_n hx hb dX3_doing_91 rfl (lv_at hl 0 rfl) ?_
    refine lv_iconst (v := (0:Int32)) hx hb dX3_doing_92 (by decide) ?_
    refine lv_iconst (v := (3:Int32)) hx hb dX3_doing_93 (by decide) ?_
    refine c_B (c0 := 0) (As := [.int 0, .int 3]) (rest := []) (V1 := fun _ a v => v = some (.int a)) hG E hnt hw h13 QExt.refl h hz (by omega) (by omega) (fun r1 h1 => by cases h1; exact m_X3_number l hG hC h13 hS hWr hlst hn ht) (fun r1 => (cwV 2 hts (lw_V q551 q553 qs7 q141 q554) rfl rfl rfl ⟨rfl, kd_X3_number⟩ ⟨Nat.le_of_ble_eq_true rfl, Nat.le_of_ble_eq_true rfl⟩)) hl rfl rfl rfl dX3_doing_94 (fun u t0_ cst v M0_ H locs y_ ho h hz hc hs hx'0 hV hw => ?_)
    subst hV
    refine W.eq (g2 := F0 m 97 ls [.int u]) rfl ?_
    have tk := PT.number _ _ _ _ ht ho
    refine lv_istore_n (lv' := [(2, .int u), (0, .ref (K.2.1 13)), (1, .int k)]) hx hb dX3_doing_97 rfl hl (by decide) rfl (fun ls hl => ?_)
    obtain ⟨y9, h, hy9⟩ := pad_s h
    rw [hy9, padd_padd] at hz
    have hle : 0 + cst + 1 ≤ pc_ r := by rw [hz, pc_add]; exact Nat.le_add_right _ _
    refine r_new (ci := 16) (fs := [.int 0, .int 0, .int 0, .int 0, .int 0]) E hw (T := TX16) (N := 5) rfl in_X16 tyX16 tyX16_ok q853 q854 q171 (fun j hj => by match j, hj with | 0, _ => rfl | 1, _ => rfl | 2, _ => rfl | 3, _ => rfl | 4, _ => rfl | j + 5, hj => exact absurd hj (by omega)) (show _ ≤ pc_ r by omega) (show _ ≤ 12 * pc_ r by omega) dX3_doing_98 (fun q H hw hq _ _ => ?_)
    have hq1 : M0_ q = none := hq
    have hxx : QExt M (va_up M0_ q (some (.inr (16, [.int 0, .int 0, .int 0, .int 0, .int 0])))) := hx'0.trans (QExt.up hq1)
    refine lv_dup hx hb dX3_doing_101 rfl ?_
    refine lv_aload_n hx hb dX3_doing_102 rfl (lv_at hl 1 rfl) ?_
    refine r_gKind E hw hC h13 q320 dX3_doing_103 ?_
    refine lv_iload_n hx hb dX3_doing_106 rfl (lv_at hl 0 rfl) ?_
    refine lv_aload_n hx hb dX3_doing_107 rfl (lv_at hl 1 rfl) ?_
    refine lv_sipush (v := (214:Int32)) hx hb dX3_doing_108 (by decide) ?_
    refine lv_iconst (v := (0:Int32)) hx hb dX3_doing_111 (by decide) ?_
    refine lv_bipush (v := (9:Int32)) hx hb dX3_doing_112 (by decide) ?_
    refine c_B (c0 := 0 + cst + 1) (As := [.int 214, .int 0, .int 9]) (rest := [.int u, .int t0_.2.2.2.2.2, .ref q, .ref q]) (V1 := fun _ a v => v = some (.int a)) hG E hnt hw h13 hxx h hz (by omega) (by omega) (fun r1 h1 => by cases h1; exact m_X3_behind l hG hC h13 hS hWr hlst hn tk.1) (fun r1 => (cwV 3 hts (lw_V q849 q851 qs25 q141 q852) rfl rfl rfl ⟨rfl, kd_X3_behind⟩ ⟨Nat.le_of_ble_eq_true rfl, Nat.le_of_ble_eq_true rfl⟩)) hl rfl rfl rfl dX3_doing_114 (fun u2 t2 cst2 v M2 H locs y2 ho2 h hz hc hs hx2 hV hw => ?_)
    subst hV
    refine W.eq (g2 := F0 m 117 ls [.int u2, .int u, .int t0_.2.2.2.2.2, .ref q, .ref q]) rfl ?_
    have h := Option.some.inj h
    subst h
    have hle2 : 0 + cst + 1 + cst2 ≤ pc_ r := by rw [hz, pc_add]; exact Nat.le_add_right _ _
    have kd : t0_.2.2.2.2.2 = 209 := (congrArg Prod.snd tk.2).trans c2
    rw [kd]
    refine lv_iconst (v := (-1:Int32)) hx hb dX3_doing_117 (by decide) ?_
    refine lv_iload_n hx hb dX3_doing_118 rfl (lv_at hl 2 rfl) ?_
    refine c_IN (As := [.int 209, .int u, .int u2, .int (-1), .int k]) (rest := [.ref q]) hG E hw (m_X16_init l hG (hx2 q _ va_up_s)) ⟨va_cnB 5 hts (lw_meth q857) rfl rfl rfl (hG.2.2 s _ E.2.2.2.2.2.1 q855 rfl) (hts _ q171) kd_X16_init ⟨Nat.le_of_ble_eq_true rfl, Nat.le_of_ble_eq_true rfl⟩, rfl, hts _ q856⟩ hl rfl rfl (Nat.le_of_ble_eq_true rfl) dX3_doing_119 ⟨(show _ ≤ pc_ r by omega), (show _ ≤ 12 * pc_ r by omega)⟩ (fun v w' H locs hP9 hw => ?_)
    obtain ⟨rfl, rfl⟩ := hP9
    refine W.eq (g2 := F0 m 122 ls [.ref q]) rfl ?_
    have hq0 := QExt.no hx'0 hq1
    exact p_aret (c0 := 0 + cst + 1 + cst2) (c1 := 0) E hr (Or.inl ⟨_, rfl⟩) hz (by omega) (by omega) (QExt.up2 (hxx.trans hx2) hq0) ⟨q, rfl, Or.inl ((qnew_n hq0).trans va_up_s)⟩ hw dX3_doing_122
  rw [if_neg c2] at h
  by_cases c3 : t.2.2.2.2.2 = 211
  · rw [if_pos c3] at h
    obtain ⟨y9, h, hz⟩ := pad_s h
    have hle : 1 ≤ pc_ r := by rw [hz, pc_add]; exact Nat.le_add_right _ _
    refine tab 211 119 123 c3 (by decide) (by decide) rfl (by decide) ?_
    refine r_new (ci := 16) (fs := [.int 0, .int 0, .int 0, .int 0, .int 0]) E hw (T := TX16) (N := 5) rfl in_X16 tyX16 tyX16_ok q853 q854 q171 (fun j hj => by match j, hj with | 0, _ => rfl | 1, _ => rfl | 2, _ => rfl | 3, _ => rfl | 4, _ => rfl | j + 5, hj => exact absurd hj (by omega)) (show _ ≤ pc_ r by omega) (show _ ≤ 12 * pc_ r by omega) dX3_doing_123 (fun q H hw hq _ _ => ?_)
    have hq1 : M q = none := hq
    have hxx : QExt M (va_up M q (some (.inr (16, [.int 0, .int 0, .int 0, .int 0, .int 0])))) := QExt.up hq1
    refine lv_dup hx hb dX3_doing_126 rfl ?_
    refine lv_aload_n hx hb dX3_doing_127 rfl (lv_at hl 0 rfl) ?_
    refine r_gKind E hw hC h13 q320 dX3_doing_128 ?_
    refine lv_aload_n hx hb dX3_doing_131 rfl (lv_at hl 0 rfl) ?_
    refine lv_iconst (v := (1:Int32)) hx hb dX3_doing_132 (by decide) ?_
    refine lv_bipush (v := (60:Int32)) hx hb dX3_doing_133 (by decide) ?_
    refine c_B (c0 := 1) (As := [.int 1, .int 60]) (rest := [.int t.2.2.2.2.2, .ref q, .ref q]) (V1 := fun _ a v => v = some (.int a)) hG E hnt hw h13 hxx h hz (by omega) (by omega) (fun r1 h1 => by cases h1; exact m_X3_number l hG hC h13 hS hWr hlst hn ht) (fun r1 => (cwV 2 hts (lw_V q551 q553 qs7 q141 q554) rfl rfl rfl ⟨rfl, kd_X3_number⟩ ⟨Nat.le_of_ble_eq_true rfl, Nat.le_of_ble_eq_true rfl⟩)) hl rfl rfl rfl dX3_doing_135 (fun u1 t1 cst1 v M1 H locs y1 ho1 h hz hc hs hx1 hV hw => ?_)
    subst hV
    refine W.eq (g2 := F0 m 138 ls [.int u1, .int t.2.2.2.2.2, .ref q, .ref q]) rfl ?_
    have h := Option.some.inj h
    subst h
    have hle2 : 1 + cst1 ≤ pc_ r := by rw [hz, pc_add]; exact Nat.le_add_right _ _
    rw [c3]
    refine lv_iconst (v := (-1:Int32)) hx hb dX3_doing_138 (by decide) ?_
    refine lv_iconst (v := (-1:Int32)) hx hb dX3_doing_139 (by decide) ?_
    refine lv_iload_n hx hb dX3_doing_140 rfl (lv_at hl 1 rfl) ?_
    refine c_IN (As := [.int 211, .int u1, .int (-1), .int (-1), .int k]) (rest := [.ref q]) hG E hw (m_X16_init l hG (hx1 q _ va_up_s)) ⟨va_cnB 5 hts (lw_meth q857) rfl rfl rfl (hG.2.2 s _ E.2.2.2.2.2.1 q855 rfl) (hts _ q171) kd_X16_init ⟨Nat.le_of_ble_eq_true rfl, Nat.le_of_ble_eq_true rfl⟩, rfl, hts _ q856⟩ hl rfl rfl (Nat.le_of_ble_eq_true rfl) dX3_doing_141 ⟨(show _ ≤ pc_ r by omega), (show _ ≤ 12 * pc_ r by omega)⟩ (fun v w' H locs hP9 hw => ?_)
    obtain ⟨rfl, rfl⟩ := hP9
    refine W.eq (g2 := F0 m 144 ls [.ref q]) rfl ?_
    exact p_aret (c0 := 1 + cst1) (c1 := 0) E hr (Or.inl ⟨_, rfl⟩) hz (by omega) (by omega) (QExt.up2 (hxx.trans hx1) hq1) ⟨q, rfl, Or.inl ((qnew_n hq1).trans va_up_s)⟩ hw dX3_doing_144
  rw [if_neg c3] at h
  by_cases c4 : t.2.2.2.2.2 = 207 ∨ t.2.2.2.2.2 = 210
  · rw [if_pos c4] at h
    have hz : r = padd 0 (.inr ((t.2.2.2.2.2, -1, -1, -1, k), t, 1)) := (Option.some.inj h).symm
    have hle : 1 ≤ pc_ r := by rw [hz]; exact Nat.le_refl _
    have go : W p l e (pR 10 400 r) s m #[.ref (K.2.1 13), .int k] below meth c s.heap [] 0 0 (PQ below K A B L X n M (VD K M) #[.ref (K.2.1 13), .int k] s r) (F0 m 145 ls []) := by
      refine r_new (ci := 16) (fs := [.int 0, .int 0, .int 0, .int 0, .int 0]) E hw (T := TX16) (N := 5) rfl in_X16 tyX16 tyX16_ok q853 q854 q171 (fun j hj => by match j, hj with | 0, _ => rfl | 1, _ => rfl | 2, _ => rfl | 3, _ => rfl | 4, _ => rfl | j + 5, hj => exact absurd hj (by omega)) (show _ ≤ pc_ r by omega) (show _ ≤ 12 * pc_ r by omega) dX3_doing_145 (fun q H hw hq _ _ => ?_)
      have hq1 : M q = none := hq
      refine lv_dup hx hb dX3_doing_148 rfl ?_
      refine lv_aload_n hx hb dX3_doing_149 rfl (lv_at hl 0 rfl) ?_
      refine r_gKind E hw hC h13 q320 dX3_doing_150 ?_
      refine lv_iconst (v := (-1:Int32)) hx hb dX3_doing_153 (by decide) ?_
      refine lv_iconst (v := (-1:Int32)) hx hb dX3_doing_154 (by decide) ?_
      refine lv_iconst (v := (-1:Int32)) hx hb dX3_doing_155 (by decide) ?_
      refine lv_iload_n hx hb dX3_doing_156 rfl (lv_at hl 1 rfl) ?_
      refine c_IN (As := [.int t.2.2.2.2.2, .int (-1), .int (-1), .int (-1), .int k]) (rest := [.ref q]) hG E hw (m_X16_init l hG va_up_s) ⟨va_cnB 5 hts (lw_meth q857) rfl rfl rfl (hG.2.2 s _ E.2.2.2.2.2.1 q855 rfl) (hts _ q171) kd_X16_init ⟨Nat.le_of_ble_eq_true rfl, Nat.le_of_ble_eq_true rfl⟩, rfl, hts _ q856⟩ hl rfl rfl (Nat.le_of_ble_eq_true rfl) dX3_doing_157 ⟨(show _ ≤ pc_ r by omega), (show _ ≤ 12 * pc_ r by omega)⟩ (fun v w' H locs hP9 hw => ?_)
      obtain ⟨rfl, rfl⟩ := hP9
      refine W.eq (g2 := F0 m 160 ls [.ref q]) rfl ?_
      exact p_aret (c0 := 0) (c1 := 1) E hr (Or.inl ⟨_, rfl⟩) hz (by omega) (by omega) (QExt.up2 (QExt.up hq1) hq1) ⟨q, rfl, Or.inl ((qnew_n hq1).trans va_up_s)⟩ hw dX3_doing_160
    rcases c4 with c4 | c4
    · exact tab 207 141 145 c4 (by decide) (by decide) rfl (by decide) go
    · exact tab 210 141 145 c4 (by decide) (by decide) rfl (by decide) go
  rw [if_neg c4] at h
  obtain ⟨y9, h, hz⟩ := pad_s h
  have hle : 1 ≤ pc_ r := by rw [hz, pc_add]; exact Nat.le_add_right _ _
  have go : W p l e (pR 10 400 r) s m #[.ref (K.2.1 13), .int k] below meth c s.heap [] 0 0 (PQ below K A B L X n M (VD K M) #[.ref (K.2.1 13), .int k] s r) (F0 m 161 ls []) := by
    refine r_new (ci := 16) (fs := [.int 0, .int 0, .int 0, .int 0, .int 0]) E hw (T := TX16) (N := 5) rfl in_X16 tyX16 tyX16_ok q853 q854 q171 (fun j hj => by match j, hj with | 0, _ => rfl | 1, _ => rfl | 2, _ => rfl | 3, _ => rfl | 4, _ => rfl | j + 5, hj => exact absurd hj (by omega)) (show _ ≤ pc_ r by omega) (show _ ≤ 12 * pc_ r by omega) dX3_doing_161 (fun q H hw hq _ _ => ?_)
    have hq1 : M q = none := hq
    have hxx : QExt M (va_up M q (some (.inr (16, [.int 0, .int 0, .int 0, .int 0, .int 0])))) := QExt.up hq1
    refine lv_dup hx hb dX3_doing_164 rfl ?_
    refine lv_aload_n hx hb dX3_doing_165 rfl (lv_at hl 0 rfl) ?_
    refine r_gKind E hw hC h13 q320 dX3_doing_166 ?_
    refine lv_aload_n hx hb dX3_doing_169 rfl (lv_at hl 0 rfl) ?_
    refine lv_iconst (v := (0:Int32)) hx hb dX3_doing_170 (by decide) ?_
    refine lv_bipush (v := (7:Int32)) hx hb dX3_doing_171 (by decide) ?_
    refine c_B (c0 := 1) (As := [.int 0, .int 7]) (rest := [.int t.2.2.2.2.2, .ref q, .ref q]) (V1 := fun _ a v => v = some (.int a)) hG E hnt hw h13 hxx h hz (by omega) (by omega) (fun r1 h1 => by cases h1; exact m_X3_number l hG hC h13 hS hWr hlst hn ht) (fun r1 => (cwV 2 hts (lw_V q551 q553 qs7 q141 q554) rfl rfl rfl ⟨rfl, kd_X3_number⟩ ⟨Nat.le_of_ble_eq_true rfl, Nat.le_of_ble_eq_true rfl⟩)) hl rfl rfl rfl dX3_doing_173 (fun u1 t1 cst1 v M1 H locs y1 ho1 h hz hc hs hx1 hV hw => ?_)
    subst hV
    refine W.eq (g2 := F0 m 176 ls [.int u1, .int t.2.2.2.2.2, .ref q, .ref q]) rfl ?_
    have h := Option.some.inj h
    subst h
    have hle2 : 1 + cst1 ≤ pc_ r := by rw [hz, pc_add]; exact Nat.le_add_right _ _
    refine lv_iconst (v := (-1:Int32)) hx hb dX3_doing_176 (by decide) ?_
    refine lv_iconst (v := (-1:Int32)) hx hb dX3_doing_177 (by decide) ?_
    refine lv_iload_n hx hb dX3_doing_178 rfl (lv_at hl 1 rfl) ?_
    refine c_IN (As := [.int t.2.2.2.2.2, .int u1, .int (-1), .int (-1), .int k]) (rest := [.ref q]) hG E hw (m_X16_init l hG (hx1 q _ va_up_s)) ⟨va_cnB 5 hts (lw_meth q857) rfl rfl rfl (hG.2.2 s _ E.2.2.2.2.2.1 q855 rfl) (hts _ q171) kd_X16_init ⟨Nat.le_of_ble_eq_true rfl, Nat.le_of_ble_eq_true rfl⟩, rfl, hts _ q856⟩ hl rfl rfl (Nat.le_of_ble_eq_true rfl) dX3_doing_179 ⟨(show _ ≤ pc_ r by omega), (show _ ≤ 12 * pc_ r by omega)⟩ (fun v w' H locs hP9 hw => ?_)
    obtain ⟨rfl, rfl⟩ := hP9
    refine W.eq (g2 := F0 m 182 ls [.ref q]) rfl ?_
    exact p_aret (c0 := 1 + cst1) (c1 := 0) E hr (Or.inl ⟨_, rfl⟩) hz (by omega) (by omega) (QExt.up2 (hxx.trans hx1) hq1) ⟨q, rfl, Or.inl ((qnew_n hq1).trans va_up_s)⟩ hw dX3_doing_182
  by_cases c5 : t.2.2.2.2.2 = 206
  · exact tab 206 157 161 c5 (by decide) (by decide) rfl (by decide) go
  by_cases c6 : t.2.2.2.2.2 = 208
  · exact tab 208 157 161 c6 (by decide) (by decide) rfl (by decide) go
  refine lv_tableOut (tgt := 161) hx hb dX3_doing_4 ?_ (by decide) go
  have m1 : t.2.2.2.2.2.toInt ≠ 205 := qne32 (y := 205) c1
  have m2 : t.2.2.2.2.2.toInt ≠ 209 := qne32 (y := 209) c2
  have m3 : t.2.2.2.2.2.toInt ≠ 211 := qne32 (y := 211) c3
  have m4 : t.2.2.2.2.2.toInt ≠ 207 := qne32 (y := 207) (fun z => c4 (Or.inl z))
  have m5 : t.2.2.2.2.2.toInt ≠ 210 := qne32 (y := 210) (fun z => c4 (Or.inr z))
  have m6 : t.2.2.2.2.2.toInt ≠ 206 := qne32 (y := 206) c5
  have m7 : t.2.2.2.2.2.toInt ≠ 208 := qne32 (y := 208) c6
  omega
