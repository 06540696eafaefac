/-! what is owed of each operation, both sides written as functions (printed by mk08.py) -/
set_option maxRecDepth 100000
abbrev bz (v : Int32) : Int32 := if v = 0 then 0 else 1
/-- texts, by their handles, as they stand behind image(), back(), text() -/
def Tim (T : Int32 → Option QT) : Int32 → Option QT := fun h => if qok h 4 = true then T h else none
def Tbk (T Ti : Int32 → Option QT) : Int32 → Option QT := fun h => if h = -1 then T (-1) else Ti h
def Tput (T : Int32 → Option QT) (k : Nat) (t : QT) : Int32 → Option QT := fun h => if h = nI k then some t else T h
def S_newCase (Rel : (Int32 → Option QT) → (Int32 → Option QT) → QA → QA → QL → Prop) : Prop := ∀ (T Ti : Int32 → Option QT) (A B : QA) (L : QL) (x1 : Int32) (x2 : Int32) (x3 : Int32) (x4 : Int32), Rel T Ti A B L → ∃ (ro : Int32) (Ao : QA) (Bo : QA), f_X0_newCase x1 x2 x3 x4 A = some (ro, Ao) ∧ f_X2_newCase x1 x2 x3 x4 B = some (ro, Bo) ∧ Rel T Ti Ao Bo L
def S_feed (Rel : (Int32 → Option QT) → (Int32 → Option QT) → QA → QA → QL → Prop) : Prop := ∀ (T Ti : Int32 → Option QT) (A B : QA) (L : QL) (x1 : Int32) (x2 : Int32) (x3 : Int32) (x4 : Int32) (x5 : Int32), Rel T Ti A B L → ∃ (ro : Int32) (Ao : QA) (Bo : QA), f_X0_feed x1 x2 x3 x4 x5 A = some (ro, Ao) ∧ f_X2_feed x1 x2 x3 x4 x5 B = some (ro, Bo) ∧ Rel T Ti Ao Bo L
def S_end (Rel : (Int32 → Option QT) → (Int32 → Option QT) → QA → QA → QL → Prop) : Prop := ∀ (T Ti : Int32 → Option QT) (A B : QA) (L : QL) (x1 : Int32), Rel T Ti A B L → ∃ (ro : Int32) (Ao : QA) (Bo : QA), f_X0_end x1 A = some (ro, Ao) ∧ f_X2_end x1 B = some (ro, Bo) ∧ Rel T Ti Ao Bo L
def S_text (Rel : (Int32 → Option QT) → (Int32 → Option QT) → QA → QA → QL → Prop) : Prop := ∀ (T Ti : Int32 → Option QT) (A B : QA) (L : QL), Rel T Ti A B L →
  (A 100 1 = 4 ∧ ∃ Bo Lo, f_X2_text B L = some (-1, Bo, Lo) ∧ Rel T Ti A Bo Lo) ∨
  ∃ (n k : Nat) (r : PR QT), A 100 1 = nI k ∧ k < 4 ∧ A 0 3 = nI n ∧ n ≤ 300 ∧ sRead (A 3) n t00 = some r ∧ pc_ r ≤ 6500 ∧ Ti (nI k) = none ∧
    ((∃ e Bo Lo, r = .inl e ∧ f_X2_text B L = some (-1, Bo, Lo) ∧ Rel T Ti (txA A e.1 (nI e.2.1)) Bo Lo) ∨
     ∃ x Bo Lo, r = .inr x ∧ f_X2_text B L = some (nI (k + 1) - 1, Bo, Lo) ∧ Rel (Tput T k x.1) Ti (qu (txS A) 100 1 (nI (k + 1))) Bo Lo)
def S_fault (Rel : (Int32 → Option QT) → (Int32 → Option QT) → QA → QA → QL → Prop) : Prop := ∀ (T Ti : Int32 → Option QT) (A B : QA) (L : QL) (x1 : Int32), Rel T Ti A B L → ∃ (ro : Int32), f_X0_fault x1 A = some ro ∧ f_X2_fault x1 B = some ro ∧ Rel T Ti A B L
def S_by (Rel : (Int32 → Option QT) → (Int32 → Option QT) → QA → QA → QL → Prop) : Prop := ∀ (T Ti : Int32 → Option QT) (A B : QA) (L : QL) (x1 : Int32), Rel T Ti A B L → ∃ (ro : Int32) (Ao : QA) (Bo : QA), f_X0_by x1 A = some (ro, Ao) ∧ f_X2_by x1 B = some (ro, Bo) ∧ Rel T Ti Ao Bo L
def S_call (Rel : (Int32 → Option QT) → (Int32 → Option QT) → QA → QA → QL → Prop) : Prop := ∀ (T Ti : Int32 → Option QT) (A B : QA) (L : QL) (x1 : Int32), Rel T Ti A B L → ∃ (ro : Int32) (Ao : QA) (Bo : QA), f_X0_call x1 A = some (ro, Ao) ∧ f_X2_call x1 B = some (ro, Bo) ∧ Rel T Ti Ao Bo L
def S_delay (Rel : (Int32 → Option QT) → (Int32 → Option QT) → QA → QA → QL → Prop) : Prop := ∀ (T Ti : Int32 → Option QT) (A B : QA) (L : QL), Rel T Ti A B L → ∃ (ro : Int32) (Ao : QA) (Bo : QA), f_X0_delay A = some (ro, Ao) ∧ f_X2_delay B = some (ro, Bo) ∧ Rel T Ti Ao Bo L
def S_appeal (Rel : (Int32 → Option QT) → (Int32 → Option QT) → QA → QA → QL → Prop) : Prop := ∀ (T Ti : Int32 → Option QT) (A B : QA) (L : QL) (x1 : Int32), Rel T Ti A B L → ∃ (ro : Int32) (Ao : QA) (Bo : QA), f_X0_appeal x1 A = some (ro, Ao) ∧ f_X2_appeal x1 B = some (ro, Bo) ∧ Rel T Ti Ao Bo L
def S_gust (Rel : (Int32 → Option QT) → (Int32 → Option QT) → QA → QA → QL → Prop) : Prop := ∀ (T Ti : Int32 → Option QT) (A B : QA) (L : QL) (x1 : Int32) (x2 : Int32), Rel T Ti A B L → ∃ (ro : Int32) (Ao : QA) (Bo : QA), f_X0_gust x1 x2 A = some (ro, Ao) ∧ f_X2_gust x1 x2 B = some (ro, Bo) ∧ Rel T Ti Ao Bo L
def S_withdraw (Rel : (Int32 → Option QT) → (Int32 → Option QT) → QA → QA → QL → Prop) : Prop := ∀ (T Ti : Int32 → Option QT) (A B : QA) (L : QL), Rel T Ti A B L → ∃ (ro : Int32) (Ao : QA) (Bo : QA), f_X0_withdraw A = some (ro, Ao) ∧ f_X2_withdraw B = some (ro, Bo) ∧ Rel T Ti Ao Bo L
def S_hour (Rel : (Int32 → Option QT) → (Int32 → Option QT) → QA → QA → QL → Prop) : Prop := ∀ (T Ti : Int32 → Option QT) (A B : QA) (L : QL) (x1 : Int32), Rel T Ti A B L → ∃ (ro : Int32) (Ao : QA) (Bo : QA) (Lo : QL), f_X0_hour T x1 A = some (ro, Ao) ∧ f_X2_hour x1 B L = some (ro, Bo, Lo) ∧ Rel T Ti Ao Bo Lo
def S_played (Rel : (Int32 → Option QT) → (Int32 → Option QT) → QA → QA → QL → Prop) : Prop := ∀ (T Ti : Int32 → Option QT) (A B : QA) (L : QL) (x1 : Int32), Rel T Ti A B L → ∃ (ro : Int32) (Ao : QA) (Bo : QA) (Lo : QL), f_X0_played T x1 A = some (ro, Ao) ∧ f_X2_played x1 B L = some (ro, Bo, Lo) ∧ Rel T Ti Ao Bo Lo
def S_decades (Rel : (Int32 → Option QT) → (Int32 → Option QT) → QA → QA → QL → Prop) : Prop := ∀ (T Ti : Int32 → Option QT) (A B : QA) (L : QL) (x1 : Int32) (x2 : Int32), Rel T Ti A B L → ∃ (ro : Int32) (Ao : QA) (Bo : QA) (Lo : QL), f_X0_decades T x1 x2 A = some (ro, Ao) ∧ f_X2_decades x1 x2 B L = some (ro, Bo, Lo) ∧ Rel T Ti Ao Bo Lo
def S_undo (Rel : (Int32 → Option QT) → (Int32 → Option QT) → QA → QA → QL → Prop) : Prop := ∀ (T Ti : Int32 → Option QT) (A B : QA) (L : QL), Rel T Ti A B L → ∃ (ro : Int32) (Ao : QA) (Bo : QA), f_X0_undo A = some (ro, Ao) ∧ f_X2_undo B = some (ro, Bo) ∧ Rel T Ti Ao Bo L
def S_ofCase (Rel : (Int32 → Option QT) → (Int32 → Option QT) → QA → QA → QL → Prop) : Prop := ∀ (T Ti : Int32 → Option QT) (A B : QA) (L : QL) (x1 : Int32) (x2 : Int32), Rel T Ti A B L → ∃ (ro : Int32), f_X0_ofCase x1 x2 A = some ro ∧ f_X2_ofCase x1 x2 B = some ro ∧ Rel T Ti A B L
def S_is (Rel : (Int32 → Option QT) → (Int32 → Option QT) → QA → QA → QL → Prop) : Prop := ∀ (T Ti : Int32 → Option QT) (A B : QA) (L : QL) (x1 : Int32), Rel T Ti A B L → ∃ (ro : Int32), f_X0_is x1 A = some ro ∧ f_X2_is x1 B = some ro ∧ Rel T Ti A B L
def S_book (Rel : (Int32 → Option QT) → (Int32 → Option QT) → QA → QA → QL → Prop) : Prop := ∀ (T Ti : Int32 → Option QT) (A B : QA) (L : QL) (x1 : Int32) (x2 : Int32), Rel T Ti A B L → ∃ (ro : Int32), f_X0_book x1 x2 A = some ro ∧ f_X2_book x1 x2 B = some ro ∧ Rel T Ti A B L
def S_foretold (Rel : (Int32 → Option QT) → (Int32 → Option QT) → QA → QA → QL → Prop) : Prop := ∀ (T Ti : Int32 → Option QT) (A B : QA) (L : QL) (x1 : Int32) (x2 : Int32), Rel T Ti A B L → ∃ (ro : Int32) (Ao : QA) (Bo : QA) (Lo : QL), f_X0_foretold T x1 x2 A = some (ro, Ao) ∧ f_X2_foretold x1 x2 B L = some (ro, Bo, Lo) ∧ Rel T Ti Ao Bo Lo
def S_ends (Rel : (Int32 → Option QT) → (Int32 → Option QT) → QA → QA → QL → Prop) : Prop := ∀ (T Ti : Int32 → Option QT) (A B : QA) (L : QL) (x1 : Int32) (x2 : Int32) (x3 : Int32) (x4 : Int32), Rel T Ti A B L → ∃ (ro : Int32) (Ao : QA) (Bo : QA) (Lo : QL), f_X0_ends T x1 x2 x3 x4 A = some (ro, Ao) ∧ f_X2_ends x1 x2 x3 x4 B L = some (ro, Bo, Lo) ∧ Rel T Ti Ao Bo Lo
def S_best (Rel : (Int32 → Option QT) → (Int32 → Option QT) → QA → QA → QL → Prop) : Prop := ∀ (T Ti : Int32 → Option QT) (A B : QA) (L : QL) (x1 : Int32) (x2 : Int32) (x3 : Int32), (x2 = 0 ∨ x2 = 1) → Rel T Ti A B L → ∃ (ro : Int32) (Ao : QA) (Bo : QA) (Lo : QL), f_X0_best T x1 x2 x3 A = some (ro, Ao) ∧ f_X2_best x1 x2 x3 B L = some (ro, Bo, Lo) ∧ Rel T Ti Ao Bo Lo
def S_harshest (Rel : (Int32 → Option QT) → (Int32 → Option QT) → QA → QA → QL → Prop) : Prop := ∀ (T Ti : Int32 → Option QT) (A B : QA) (L : QL) (x1 : Int32), Rel T Ti A B L → ∃ (ro : Int32) (Ao : QA) (Bo : QA) (Lo : QL), f_X0_harshest T x1 A = some (ro, Ao) ∧ f_X2_harshest x1 B L = some (ro, Bo, Lo) ∧ Rel T Ti Ao Bo Lo
def S_odds (Rel : (Int32 → Option QT) → (Int32 → Option QT) → QA → QA → QL → Prop) : Prop := ∀ (T Ti : Int32 → Option QT) (A B : QA) (L : QL) (x1 : Int32), (x1 = 0 ∨ x1 = 1) → Rel T Ti A B L → ∃ (ro : Int64) (Ao : QA) (Bo : QA) (Lo : QL), f_X0_odds T x1 A = some (ro, Ao) ∧ f_X2_odds x1 B L = some (ro, Bo, Lo) ∧ Rel T Ti Ao Bo Lo
def S_clash (Rel : (Int32 → Option QT) → (Int32 → Option QT) → QA → QA → QL → Prop) : Prop := ∀ (T Ti : Int32 → Option QT) (A B : QA) (L : QL) (x1 : Int32), Rel T Ti A B L → ∃ (ro : Int32) (Ao : QA) (Bo : QA) (Lo : QL), f_X0_clash T x1 A = some (ro, Ao) ∧ f_X2_clash x1 B L = some (ro, Bo, Lo) ∧ Rel T Ti Ao Bo Lo
def S_leastFacts (Rel : (Int32 → Option QT) → (Int32 → Option QT) → QA → QA → QL → Prop) : Prop := ∀ (T Ti : Int32 → Option QT) (A B : QA) (L : QL) (x1 : Int32), Rel T Ti A B L → ∃ (ro : Int32) (Ao : QA) (Bo : QA) (Lo : QL), f_X0_leastFacts T x1 A = some (ro, Ao) ∧ f_X2_leastFacts x1 B L = some (ro, Bo, Lo) ∧ Rel T Ti Ao Bo Lo
def S_game (Rel : (Int32 → Option QT) → (Int32 → Option QT) → QA → QA → QL → Prop) : Prop := ∀ (T Ti : Int32 → Option QT) (A B : QA) (L : QL) (x1 : Int32) (x2 : Int32) (x3 : Int32), (x2 = 0 ∨ x2 = 1) → (x3 = 0 ∨ x3 = 1) → Rel T Ti A B L → ∃ (ro : Int32) (Ao : QA) (Bo : QA) (Lo : QL), f_X0_game T x1 x2 x3 A = some (ro, Ao) ∧ f_X2_game x1 x2 x3 B L = some (ro, Bo, Lo) ∧ Rel T Ti Ao Bo Lo
def S_session (Rel : (Int32 → Option QT) → (Int32 → Option QT) → QA → QA → QL → Prop) : Prop := ∀ (T Ti : Int32 → Option QT) (A B : QA) (L : QL) (x1 : Int32) (x2 : Int32), Rel T Ti A B L → ∃ (ro : Int32) (Ao : QA) (Bo : QA) (Lo : QL), f_X0_session T x1 x2 A = some (ro, Ao) ∧ f_X2_session x1 x2 B L = some (ro, Bo, Lo) ∧ Rel T Ti Ao Bo Lo
def S_record (Rel : (Int32 → Option QT) → (Int32 → Option QT) → QA → QA → QL → Prop) : Prop := ∀ (T Ti : Int32 → Option QT) (A B : QA) (L : QL) (x1 : Int32) (x2 : Int32) (x3 : Int32), (x3 = 0 ∨ x3 = 1) → Rel T Ti A B L → ∃ (ro : Int32) (Ao : QA) (Bo : QA), f_X0_record x1 x2 x3 A = some (ro, Ao) ∧ f_X2_record x1 x2 x3 B = some (ro, Bo) ∧ Rel T Ti Ao Bo L
def S_turned (Rel : (Int32 → Option QT) → (Int32 → Option QT) → QA → QA → QL → Prop) : Prop := ∀ (T Ti : Int32 → Option QT) (A B : QA) (L : QL), Rel T Ti A B L → ∃ (ro : Int32) (Ao : QA) (Bo : QA) (Lo : QL), f_X0_turned T A = some (ro, Ao) ∧ f_X2_turned B L = some (ro, Bo, Lo) ∧ Rel T Ti Ao Bo Lo
def S_fewestWrong (Rel : (Int32 → Option QT) → (Int32 → Option QT) → QA → QA → QL → Prop) : Prop := ∀ (T Ti : Int32 → Option QT) (A B : QA) (L : QL), Rel T Ti A B L → ∃ (ro : Int32) (Ao : QA) (Bo : QA) (Lo : QL), f_X0_fewestWrong T A = some (ro, Ao) ∧ f_X2_fewestWrong B L = some (ro, Bo, Lo) ∧ Rel T Ti Ao Bo Lo
def S_whose (Rel : (Int32 → Option QT) → (Int32 → Option QT) → QA → QA → QL → Prop) : Prop := ∀ (T Ti : Int32 → Option QT) (A B : QA) (L : QL), Rel T Ti A B L → ∃ (ro : Int32) (Ao : QA) (Bo : QA) (Lo : QL), f_X0_whose T A = some (ro, Ao) ∧ f_X2_whose B L = some (ro, Bo, Lo) ∧ Rel T Ti Ao Bo Lo
def S_learn (Rel : (Int32 → Option QT) → (Int32 → Option QT) → QA → QA → QL → Prop) : Prop := ∀ (T Ti : Int32 → Option QT) (A B : QA) (L : QL) (x1 : Int32) (x2 : Int32), (x2 = 0 ∨ x2 = 1) → Rel T Ti A B L → ∃ (ro : Int32) (Ao : QA) (Bo : QA), f_X0_learn x1 x2 A = some (ro, Ao) ∧ f_X2_learn x1 x2 B = some (ro, Bo) ∧ Rel T Ti Ao Bo L
def S_codes (Rel : (Int32 → Option QT) → (Int32 → Option QT) → QA → QA → QL → Prop) : Prop := ∀ (T Ti : Int32 → Option QT) (A B : QA) (L : QL) (x1 : Int32), Rel T Ti A B L → ∃ (ro : Int32), f_X0_codes x1 A = some ro ∧ f_X2_codes x1 B = some ro ∧ Rel T Ti A B L
def S_sure (Rel : (Int32 → Option QT) → (Int32 → Option QT) → QA → QA → QL → Prop) : Prop := ∀ (T Ti : Int32 → Option QT) (A B : QA) (L : QL) (x1 : Int32), Rel T Ti A B L → ∃ (ro : Int32), f_X0_sure x1 A = some ro ∧ f_X2_sure x1 B = some ro ∧ Rel T Ti A B L
def S_toBring (Rel : (Int32 → Option QT) → (Int32 → Option QT) → QA → QA → QL → Prop) : Prop := ∀ (T Ti : Int32 → Option QT) (A B : QA) (L : QL), Rel T Ti A B L → ∃ (ro : Int32), f_X0_toBring A = some ro ∧ f_X2_toBring B = some ro ∧ Rel T Ti A B L
def S_counsel (Rel : (Int32 → Option QT) → (Int32 → Option QT) → QA → QA → QL → Prop) : Prop := ∀ (T Ti : Int32 → Option QT) (A B : QA) (L : QL) (x1 : Int32) (x2 : Int32), Rel T Ti A B L → ∃ (ro : Int32) (Ao : QA) (Bo : QA), f_X0_counsel x1 x2 A = some (ro, Ao) ∧ f_X2_counsel x1 x2 B = some (ro, Bo) ∧ Rel T Ti Ao Bo L
def S_hired (Rel : (Int32 → Option QT) → (Int32 → Option QT) → QA → QA → QL → Prop) : Prop := ∀ (T Ti : Int32 → Option QT) (A B : QA) (L : QL) (x1 : Int32) (x2 : Int32), (x2 = 0 ∨ x2 = 1) → Rel T Ti A B L → ∃ (ro : Int32), f_X0_hired x1 x2 A = some ro ∧ f_X2_hired x1 x2 B = some ro ∧ Rel T Ti A B L
def S_calm (Rel : (Int32 → Option QT) → (Int32 → Option QT) → QA → QA → QL → Prop) : Prop := ∀ (T Ti : Int32 → Option QT) (A B : QA) (L : QL) (x1 : Int32), Rel T Ti A B L → ∃ (ro : Int32) (Ao : QA) (Bo : QA) (Lo : QL), f_X0_calm T x1 A = some (ro, Ao) ∧ f_X2_calm x1 B L = some (ro, Bo, Lo) ∧ Rel T Ti Ao Bo Lo
def S_standing (Rel : (Int32 → Option QT) → (Int32 → Option QT) → QA → QA → QL → Prop) : Prop := ∀ (T Ti : Int32 → Option QT) (A B : QA) (L : QL) (x1 : Int32) (x2 : Int32), Rel T Ti A B L → ∃ (ro : Int32) (Ao : QA) (Bo : QA) (Lo : QL), f_X0_standing T x1 x2 A = some (ro, Ao) ∧ f_X2_standing x1 x2 B L = some (ro, Bo, Lo) ∧ Rel T Ti Ao Bo Lo
def S_image (Rel : (Int32 → Option QT) → (Int32 → Option QT) → QA → QA → QL → Prop) : Prop := ∀ (T Ti : Int32 → Option QT) (A B : QA) (L : QL), Rel T Ti A B L → ∃ Bo, f_X2_image B = some (qbe2 A 101 3, Bo) ∧ Rel T (Tim T) (qbe2 A) Bo L
def S_back (Rel : (Int32 → Option QT) → (Int32 → Option QT) → QA → QA → QL → Prop) : Prop := ∀ (T Ti : Int32 → Option QT) (A B : QA) (L : QL), Rel T Ti A B L → ∃ Bo, f_X2_back B = some (qbe1 A 101 3, Bo) ∧ Rel (Tbk T Ti) Ti (qbe1 A) Bo L
def S_about (Rel : (Int32 → Option QT) → (Int32 → Option QT) → QA → QA → QL → Prop) : Prop := ∀ (T Ti : Int32 → Option QT) (A B : QA) (L : QL) (x1 : Int32), Rel T Ti A B L → ∃ (ro : Int32), f_X0_about x1 A = some ro ∧ f_X2_about x1 B = some ro ∧ Rel T Ti A B L
def SimAll (Rel : (Int32 → Option QT) → (Int32 → Option QT) → QA → QA → QL → Prop) : Prop := S_newCase Rel ∧ S_feed Rel ∧ S_end Rel ∧ S_text Rel ∧ S_fault Rel ∧ S_by Rel ∧ S_call Rel ∧ S_delay Rel ∧ S_appeal Rel ∧ S_gust Rel ∧ S_withdraw Rel ∧ S_hour Rel ∧ S_played Rel ∧ S_decades Rel ∧ S_undo Rel ∧ S_ofCase Rel ∧ S_is Rel ∧ S_book Rel ∧ S_foretold Rel ∧ S_ends Rel ∧ S_best Rel ∧ S_harshest Rel ∧ S_odds Rel ∧ S_clash Rel ∧ S_leastFacts Rel ∧ S_game Rel ∧ S_session Rel ∧ S_record Rel ∧ S_turned Rel ∧ S_fewestWrong Rel ∧ S_whose Rel ∧ S_learn Rel ∧ S_codes Rel ∧ S_sure Rel ∧ S_toBring Rel ∧ S_counsel Rel ∧ S_hired Rel ∧ S_calm Rel ∧ S_standing Rel ∧ S_image Rel ∧ S_back Rel ∧ S_about Rel
/-- the texts' cells: those of now, those of the image -/
def HW (K : QK) (G : State → Prop) (X : QX) (M : QM) (T Ti : Int32 → Option QT) (ta : Int32 → Nat) : Prop :=
  QTx K G X M T ta ∧ (∀ h t, Ti h = some t → qok h 4 = true ∧ T h = some t ∧ X 207 h.toNatClampNeg = some (ta h)) ∧ (∀ i, i < 4 → ∀ y, X 107 i = some y → ∃ fs, M y = some (.inr (4, fs))) ∧ (∀ i, i < 4 → ∀ y, X 207 i = some y → ∃ fs, M y = some (.inr (4, fs)))
theorem HW.ext {K : QK} {G : State → Prop} {X : QX} {M M' : QM} {T Ti : Int32 → Option QT} {ta : Int32 → Nat} (h : HW K G X M T Ti ta) (hx : QExt M M') : HW K G X M' T Ti ta := by
  obtain ⟨h1, h2, h3, h4⟩ := h
  refine ⟨h1.ext hx, h2, fun i hi y hy => ?_, fun i hi y hy => ?_⟩
  · obtain ⟨fs, h⟩ := h3 i hi y hy
    exact ⟨fs, hx _ _ h⟩
  · obtain ⟨fs, h⟩ := h4 i hi y hy
    exact ⟨fs, hx _ _ h⟩
theorem qok_nI {h : Int32} (hq : qok h 4 = true) : h = nI h.toNatClampNeg := by
  have h1 := qok_in hq
  simp only [qok, Bool.and_eq_true, decide_eq_true_eq] at hq
  apply Int32.toInt_inj.mp
  have h2 := qok_lt (show qok h 4 = true by simp only [qok, Bool.and_eq_true, decide_eq_true_eq]; exact hq)
  rw [nI_toInt (by omega)]
  unfold Int32.toNatClampNeg
  omega
theorem cpy4 {f g : Nat → Option Nat} {i : Nat} (hi : i < 4) : va_cpy f g 0 0 4 i = f i := by
  unfold va_cpy
  rw [if_pos (by omega)]
  congr 1
  omega
theorem HW.text {K : QK} {G : State → Prop} {X : QX} {M M' : QM} {T Ti : Int32 → Option QT} {ta : Int32 → Nat} {k a : Nat} {t : QT} {fs : List Value} (h : HW K G X M T Ti ta) (hk : k < 4) (hn : Ti (nI k) = none) (hx : QExt M M') (ht : TextAt K G M' a t) (hf : M' a = some (.inr (4, fs))) :
    HW K G (qset X 107 (va_up (X 107) k (some a))) M' (Tput T k t) Ti (fun h => if h = nI k then a else ta h) := by
  obtain ⟨h1, h2, h3, h4⟩ := h.ext hx
  have hm1 : ¬ (-1 : Int32) = nI k := by
    intro e
    have := congrArg Int32.toInt e
    rw [nI_toInt (by omega)] at this
    have e9 : (-1 : Int32).toInt = -1 := by decide
    rw [e9] at this
    omega
  refine ⟨⟨h1.1, fun h t' ht' => ?_, ?_, fun h t' hq ht' => ?_⟩, fun h t' ht' => ?_, fun i hi y hy => ?_, fun i hi y hy => ?_⟩
  · unfold Tput at ht'
    by_cases e : h = nI k
    · rw [if_pos e] at ht'
      cases ht'
      show TextAt K G M' (if h = nI k then a else ta h) t
      rw [if_pos e]
      exact ht
    · rw [if_neg e] at ht'
      show TextAt K G M' (if h = nI k then a else ta h) t'
      rw [if_neg e]
      exact h1.2.1 h t' ht'
  · show ∀ U, G U → va_Z "VaneCourt" "NOTHING" "LVaneCourt$Text;" (.ref (if (-1 : Int32) = nI k then a else ta (-1))) (qA K) U K.1
    rw [if_neg hm1]
    exact h1.2.2.1
  · unfold Tput at ht'
    show qset X 107 (va_up (X 107) k (some a)) 107 h.toNatClampNeg = some (if h = nI k then a else ta h)
    rw [qset_s]
    by_cases e : h = nI k
    · rw [if_pos e, e, nI_clamp (by omega), va_up_s]
    · rw [if_neg e] at ht'
      rw [if_neg e]
      have e2 : h.toNatClampNeg ≠ k := fun z => e (by rw [← z]; exact qok_nI hq)
      rw [va_up_n e2]
      exact h1.2.2.2 h t' hq ht'
  · obtain ⟨g1, g2, g3⟩ := h2 h t' ht'
    have e : ¬ h = nI k := fun z => by rw [z, hn] at ht'; cases ht'
    refine ⟨g1, ?_, ?_⟩
    · unfold Tput
      rw [if_neg e]
      exact g2
    · show qset X 107 _ 207 h.toNatClampNeg = some (if h = nI k then a else ta h)
      rw [qset_n (by decide), if_neg e]
      exact g3
  · rw [qset_s] at hy
    by_cases e : i = k
    · rw [e, va_up_s] at hy
      cases hy
      exact ⟨fs, hf⟩
    · rw [va_up_n e] at hy
      exact h3 i hi y hy
  · rw [qset_n (by decide)] at hy
    exact h4 i hi y hy
theorem HW.image {K : QK} {G : State → Prop} {X : QX} {M : QM} {T Ti : Int32 → Option QT} {ta : Int32 → Nat} (h : HW K G X M T Ti ta) : HW K G (qset X 207 (va_cpy (X 107) (X 207) 0 0 4)) M T (Tim T) ta := by
  obtain ⟨h1, h2, h3, h4⟩ := h
  refine ⟨⟨h1.1, h1.2.1, h1.2.2.1, fun h t hq ht => ?_⟩, fun h t ht => ?_, fun i hi y hy => ?_, fun i hi y hy => ?_⟩
  · rw [qset_n (by decide)]
    exact h1.2.2.2 h t hq ht
  · unfold Tim at ht
    by_cases e : qok h 4 = true
    · rw [if_pos e] at ht
      refine ⟨e, ht, ?_⟩
      rw [qset_s, cpy4 (qok_lt e)]
      exact h1.2.2.2 h t e ht
    · rw [if_neg e] at ht; cases ht
  · rw [qset_n (by decide)] at hy
    exact h3 i hi y hy
  · rw [qset_s, cpy4 hi] at hy
    exact h3 i hi y hy
theorem HW.back {K : QK} {G : State → Prop} {X : QX} {M : QM} {T Ti : Int32 → Option QT} {ta : Int32 → Nat} (h : HW K G X M T Ti ta) : HW K G (qset X 107 (va_cpy (X 207) (X 107) 0 0 4)) M (Tbk T Ti) Ti ta := by
  obtain ⟨h1, h2, h3, h4⟩ := h
  have hm : ∀ h : Int32, qok h 4 = true → h ≠ -1 := fun h hq e => by rw [e] at hq; exact absurd hq (by decide)
  refine ⟨⟨h1.1, fun h t ht => ?_, h1.2.2.1, fun h t hq ht => ?_⟩, fun h t ht => ?_, fun i hi y hy => ?_, fun i hi y hy => ?_⟩
  · unfold Tbk at ht
    by_cases e : h = -1
    · rw [if_pos e] at ht
      rw [e]
      exact h1.2.1 _ t ht
    · rw [if_neg e] at ht
      exact h1.2.1 h t (h2 h t ht).2.1
  · unfold Tbk at ht
    rw [if_neg (hm h hq)] at ht
    rw [qset_s, cpy4 (qok_lt hq)]
    exact (h2 h t ht).2.2
  · obtain ⟨g1, g2, g3⟩ := h2 h t ht
    refine ⟨g1, ?_, ?_⟩
    · unfold Tbk
      rw [if_neg (hm h g1)]
      exact ht
    · rw [qset_n (by decide)]
      exact g3
  · rw [qset_s, cpy4 hi] at hy
    exact h4 i hi y hy
  · rw [qset_n (by decide)] at hy
    exact h4 i hi y hy
