/-! VaneCourt's constructor: its walk (printed by mk07d.py) -/
set_option maxRecDepth 100000
theorem OwnL.join1 {M0 M M' : QM} {Z Z' : va_W} {p : Nat × va_E} {q : Nat} {e0 e : va_E} (h : OwnL M0 M (p :: (q, e0) :: Z)) (g : OwnL (va_up M q none) M' ((q, e) :: Z')) : OwnL M0 M' (p :: (((q, e) :: Z) ++ Z')) := h.join (i := 1) rfl g
/-- what was laid at a label: of a grid its rows' places, one behind another -/
def conR (K : QK) (ad : Nat → Nat) (w : QW) (l : Nat) : va_E := if l = 6 then .inl (K.2.2.2.2 4, 3, .inr (.inr (.inr (.inr (fun i => some (ad l + 1 + i)))))) else if l = 102 ∨ l = 103 ∨ l = 104 ∨ l = 105 ∨ l = 202 ∨ l = 203 ∨ l = 204 ∨ l = 205 then .inl (K.2.2.2.2 4, 8, .inr (.inr (.inr (.inr (fun i => some (ad l + 1 + i)))))) else if l = 106 ∨ l = 206 then .inl (K.2.2.2.2 4, 30, .inr (.inr (.inr (.inr (fun i => some (ad l + 1 + i)))))) else qat (cK K ad) w l
theorem gr_at {D : va_G} {H : Heap} {a n : Nat} {c : ClassId} {f g : Nat → Option Nat} (h : ∀ i, i < n → f i = g i) (q : va_at D vcl (a, .inl (c, n, .inr (.inr (.inr (.inr f))))) H) : va_at D vcl (a, .inl (c, n, .inr (.inr (.inr (.inr g))))) H := by
  refine Eq.trans q (congrArg some ?_)
  show arrV c n (fun j => va_rf (f j)) = arrV c n (fun j => va_rf (g j))
  refine arrV_ext (fun i hi => ?_)
  show va_rf (f i) = va_rf (g i)
  rw [h i hi]
/-- a grid's rows stand one behind another -/
def adG (ad : Nat → Nat) : Prop := (∀ i, i < 3 → ad 6 + 1 + i = ad (7 + i)) ∧ (∀ i, i < 8 → ad 102 + 1 + i = ad (110 + i)) ∧ (∀ i, i < 8 → ad 103 + 1 + i = ad (120 + i)) ∧ (∀ i, i < 8 → ad 104 + 1 + i = ad (130 + i)) ∧ (∀ i, i < 8 → ad 105 + 1 + i = ad (140 + i)) ∧ (∀ i, i < 30 → ad 106 + 1 + i = ad (150 + i)) ∧ (∀ i, i < 8 → ad 202 + 1 + i = ad (210 + i)) ∧ (∀ i, i < 8 → ad 203 + 1 + i = ad (220 + i)) ∧ (∀ i, i < 8 → ad 204 + 1 + i = ad (230 + i)) ∧ (∀ i, i < 8 → ad 205 + 1 + i = ad (240 + i)) ∧ (∀ i, i < 30 → ad 206 + 1 + i = ad (250 + i))
theorem conR_at {K : QK} {ad : Nat → Nat} {w : QW} {H : Heap} (hg : adG ad) (l : Nat) (q : va_at K.2.2.2.1 vcl (ad l, conR K ad w l) H) : va_at K.2.2.2.1 vcl (ad l, qat (cK K ad) w l) H := by
  obtain ⟨k6, k102, k103, k104, k105, k106, k202, k203, k204, k205, k206⟩ := hg
  have go : ∀ (b n : Nat), (∀ i, i < n → ad l + 1 + i = ad (b + i)) → (∀ i, i < n → b + i < 1000) → ∀ i, i < n → some (ad l + 1 + i) = qgrid (cK K ad).2.1 b i := by
    intro b n h1 h2 i hi
    show _ = some (if b + i < 1000 then ad (b + i) else K.2.1 (b + i))
    rw [if_pos (h2 i hi), h1 i hi]
  by_cases c6 : l = 6
  · subst c6; exact gr_at (go 7 3 k6 (fun i hi => by omega)) q
  by_cases c102 : l = 102
  · subst c102; exact gr_at (go 110 8 k102 (fun i hi => by omega)) q
  by_cases c103 : l = 103
  · subst c103; exact gr_at (go 120 8 k103 (fun i hi => by omega)) q
  by_cases c104 : l = 104
  · subst c104; exact gr_at (go 130 8 k104 (fun i hi => by omega)) q
  by_cases c105 : l = 105
  · subst c105; exact gr_at (go 140 8 k105 (fun i hi => by omega)) q
  by_cases c106 : l = 106
  · subst c106; exact gr_at (go 150 30 k106 (fun i hi => by omega)) q
  by_cases c202 : l = 202
  · subst c202; exact gr_at (go 210 8 k202 (fun i hi => by omega)) q
  by_cases c203 : l = 203
  · subst c203; exact gr_at (go 220 8 k203 (fun i hi => by omega)) q
  by_cases c204 : l = 204
  · subst c204; exact gr_at (go 230 8 k204 (fun i hi => by omega)) q
  by_cases c205 : l = 205
  · subst c205; exact gr_at (go 240 8 k205 (fun i hi => by omega)) q
  by_cases c206 : l = 206
  · subst c206; exact gr_at (go 250 30 k206 (fun i hi => by omega)) q
  unfold conR at q
  rw [if_neg c6, if_neg (by omega), if_neg (by omega)] at q
  exact q
theorem adX_G {x s1 s2 tp nm tr gn cm od bo an ar g2 g3 g4 g5 g6 ax bn br h2 h3 h4 h5 h6 bx : Nat} : adG (adX x s1 s2 tp nm tr gn cm od bo (adS an ar g2 g3 g4 g5 g6 ax) (adS bn br h2 h3 h4 h5 h6 bx)) := by
  refine ⟨?_, ?_, ?_, ?_, ?_, ?_, ?_, ?_, ?_, ?_, ?_⟩
  · intro i hi
    have e1 : adX x s1 s2 tp nm tr gn cm od bo (adS an ar g2 g3 g4 g5 g6 ax) (adS bn br h2 h3 h4 h5 h6 bx) 6 = gn := rfl
    rw [e1]
    unfold adX
    rw [if_neg (by omega), if_neg (by omega), if_neg (by omega), if_neg (by omega), if_neg (by omega), if_neg (by omega), if_neg (by omega), if_neg (by omega), if_neg (by omega), if_neg (by omega), if_neg (by omega), if_neg (by omega)]
    omega
  · intro i hi
    have e1 : adX x s1 s2 tp nm tr gn cm od bo (adS an ar g2 g3 g4 g5 g6 ax) (adS bn br h2 h3 h4 h5 h6 bx) 102 = g2 := rfl
    rw [e1]
    unfold adX
    rw [if_neg (by omega), if_pos (by omega)]
    unfold adS
    rw [if_neg (by omega), if_pos (by omega)]
    omega
  · intro i hi
    have e1 : adX x s1 s2 tp nm tr gn cm od bo (adS an ar g2 g3 g4 g5 g6 ax) (adS bn br h2 h3 h4 h5 h6 bx) 103 = g3 := rfl
    rw [e1]
    unfold adX
    rw [if_neg (by omega), if_pos (by omega)]
    unfold adS
    rw [if_neg (by omega), if_neg (by omega), if_pos (by omega)]
    omega
  · intro i hi
    have e1 : adX x s1 s2 tp nm tr gn cm od bo (adS an ar g2 g3 g4 g5 g6 ax) (adS bn br h2 h3 h4 h5 h6 bx) 104 = g4 := rfl
    rw [e1]
    unfold adX
    rw [if_neg (by omega), if_pos (by omega)]
    unfold adS
    rw [if_neg (by omega), if_neg (by omega), if_neg (by omega), if_pos (by omega)]
    omega
  · intro i hi
    have e1 : adX x s1 s2 tp nm tr gn cm od bo (adS an ar g2 g3 g4 g5 g6 ax) (adS bn br h2 h3 h4 h5 h6 bx) 105 = g5 := rfl
    rw [e1]
    unfold adX
    rw [if_neg (by omega), if_pos (by omega)]
    unfold adS
    rw [if_neg (by omega), if_neg (by omega), if_neg (by omega), if_neg (by omega), if_pos (by omega)]
    omega
  · intro i hi
    have e1 : adX x s1 s2 tp nm tr gn cm od bo (adS an ar g2 g3 g4 g5 g6 ax) (adS bn br h2 h3 h4 h5 h6 bx) 106 = g6 := rfl
    rw [e1]
    unfold adX
    rw [if_neg (by omega), if_pos (by omega)]
    unfold adS
    rw [if_neg (by omega), if_neg (by omega), if_neg (by omega), if_neg (by omega), if_neg (by omega)]
    omega
  · intro i hi
    have e1 : adX x s1 s2 tp nm tr gn cm od bo (adS an ar g2 g3 g4 g5 g6 ax) (adS bn br h2 h3 h4 h5 h6 bx) 202 = h2 := rfl
    rw [e1]
    unfold adX
    rw [if_pos (by omega)]
    unfold adS
    rw [if_neg (by omega), if_pos (by omega)]
    omega
  · intro i hi
    have e1 : adX x s1 s2 tp nm tr gn cm od bo (adS an ar g2 g3 g4 g5 g6 ax) (adS bn br h2 h3 h4 h5 h6 bx) 203 = h3 := rfl
    rw [e1]
    unfold adX
    rw [if_pos (by omega)]
    unfold adS
    rw [if_neg (by omega), if_neg (by omega), if_pos (by omega)]
    omega
  · intro i hi
    have e1 : adX x s1 s2 tp nm tr gn cm od bo (adS an ar g2 g3 g4 g5 g6 ax) (adS bn br h2 h3 h4 h5 h6 bx) 204 = h4 := rfl
    rw [e1]
    unfold adX
    rw [if_pos (by omega)]
    unfold adS
    rw [if_neg (by omega), if_neg (by omega), if_neg (by omega), if_pos (by omega)]
    omega
  · intro i hi
    have e1 : adX x s1 s2 tp nm tr gn cm od bo (adS an ar g2 g3 g4 g5 g6 ax) (adS bn br h2 h3 h4 h5 h6 bx) 205 = h5 := rfl
    rw [e1]
    unfold adX
    rw [if_pos (by omega)]
    unfold adS
    rw [if_neg (by omega), if_neg (by omega), if_neg (by omega), if_neg (by omega), if_pos (by omega)]
    omega
  · intro i hi
    have e1 : adX x s1 s2 tp nm tr gn cm od bo (adS an ar g2 g3 g4 g5 g6 ax) (adS bn br h2 h3 h4 h5 h6 bx) 206 = h6 := rfl
    rw [e1]
    unfold adX
    rw [if_pos (by omega)]
    unfold adS
    rw [if_neg (by omega), if_neg (by omega), if_neg (by omega), if_neg (by omega), if_neg (by omega)]
    omega
set_option maxHeartbeats 8000000 in
theorem stC1 {K : QK} {B : QA} {L : QL} {M : QM} {x s1 s2 tp nm tr gn cm od bo an ar g2 g3 g4 g5 g6 ax bn br h2 h3 h4 h5 h6 bx : Nat} : stZ K an ar g2 g3 g4 g5 g6 ax = (stL 100).map (fun l => (adX x s1 s2 tp nm tr gn cm od bo (adS an ar g2 g3 g4 g5 g6 ax) (adS bn br h2 h3 h4 h5 h6 bx) l, conR K (adX x s1 s2 tp nm tr gn cm od bo (adS an ar g2 g3 g4 g5 g6 ax) (adS bn br h2 h3 h4 h5 h6 bx)) (iniA, B, L, fun _ _ => none, M) l)) := by
  rfl
set_option maxHeartbeats 8000000 in
theorem stC2 {K : QK} {B : QA} {L : QL} {M : QM} {x s1 s2 tp nm tr gn cm od bo an ar g2 g3 g4 g5 g6 ax bn br h2 h3 h4 h5 h6 bx : Nat} : stZ K bn br h2 h3 h4 h5 h6 bx = (stL 200).map (fun l => (adX x s1 s2 tp nm tr gn cm od bo (adS an ar g2 g3 g4 g5 g6 ax) (adS bn br h2 h3 h4 h5 h6 bx) l, conR K (adX x s1 s2 tp nm tr gn cm od bo (adS an ar g2 g3 g4 g5 g6 ax) (adS bn br h2 h3 h4 h5 h6 bx)) (iniA, B, L, fun _ _ => none, M) l)) := by
  rfl
