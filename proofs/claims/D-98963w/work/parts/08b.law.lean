/-! the law's cases (printed by mk08.py) -/
set_option maxRecDepth 100000
theorem kd_X0_about : yX0_about.cls ≠ "java/lang/invoke/MethodHandle" ∧ yX0_about.cls ≠ "java/lang/invoke/VarHandle" ∧ (parseMethodDescriptor yX0_about.desc).map (fun d => d.parameters.length) = some 1 := by decide +kernel
theorem kd_X0_back : yX0_back.cls ≠ "java/lang/invoke/MethodHandle" ∧ yX0_back.cls ≠ "java/lang/invoke/VarHandle" ∧ (parseMethodDescriptor yX0_back.desc).map (fun d => d.parameters.length) = some 0 := by decide +kernel
theorem kd_X0_best : yX0_best.cls ≠ "java/lang/invoke/MethodHandle" ∧ yX0_best.cls ≠ "java/lang/invoke/VarHandle" ∧ (parseMethodDescriptor yX0_best.desc).map (fun d => d.parameters.length) = some 3 := by decide +kernel
theorem kd_X0_book : yX0_book.cls ≠ "java/lang/invoke/MethodHandle" ∧ yX0_book.cls ≠ "java/lang/invoke/VarHandle" ∧ (parseMethodDescriptor yX0_book.desc).map (fun d => d.parameters.length) = some 2 := by decide +kernel
theorem kd_X0_by : yX0_by.cls ≠ "java/lang/invoke/MethodHandle" ∧ yX0_by.cls ≠ "java/lang/invoke/VarHandle" ∧ (parseMethodDescriptor yX0_by.desc).map (fun d => d.parameters.length) = some 1 := by decide +kernel
theorem kd_X0_calm : yX0_calm.cls ≠ "java/lang/invoke/MethodHandle" ∧ yX0_calm.cls ≠ "java/lang/invoke/VarHandle" ∧ (parseMethodDescriptor yX0_calm.desc).map (fun d => d.parameters.length) = some 1 := by decide +kernel
theorem kd_X0_clash : yX0_clash.cls ≠ "java/lang/invoke/MethodHandle" ∧ yX0_clash.cls ≠ "java/lang/invoke/VarHandle" ∧ (parseMethodDescriptor yX0_clash.desc).map (fun d => d.parameters.length) = some 1 := by decide +kernel
theorem kd_X0_counsel : yX0_counsel.cls ≠ "java/lang/invoke/MethodHandle" ∧ yX0_counsel.cls ≠ "java/lang/invoke/VarHandle" ∧ (parseMethodDescriptor yX0_counsel.desc).map (fun d => d.parameters.length) = some 2 := by decide +kernel
theorem kd_X0_decades : yX0_decades.cls ≠ "java/lang/invoke/MethodHandle" ∧ yX0_decades.cls ≠ "java/lang/invoke/VarHandle" ∧ (parseMethodDescriptor yX0_decades.desc).map (fun d => d.parameters.length) = some 2 := by decide +kernel
theorem kd_X0_end : yX0_end.cls ≠ "java/lang/invoke/MethodHandle" ∧ yX0_end.cls ≠ "java/lang/invoke/VarHandle" ∧ (parseMethodDescriptor yX0_end.desc).map (fun d => d.parameters.length) = some 1 := by decide +kernel
theorem kd_X0_ends : yX0_ends.cls ≠ "java/lang/invoke/MethodHandle" ∧ yX0_ends.cls ≠ "java/lang/invoke/VarHandle" ∧ (parseMethodDescriptor yX0_ends.desc).map (fun d => d.parameters.length) = some 4 := by decide +kernel
theorem kd_X0_fault : yX0_fault.cls ≠ "java/lang/invoke/MethodHandle" ∧ yX0_fault.cls ≠ "java/lang/invoke/VarHandle" ∧ (parseMethodDescriptor yX0_fault.desc).map (fun d => d.parameters.length) = some 1 := by decide +kernel
theorem kd_X0_feed : yX0_feed.cls ≠ "java/lang/invoke/MethodHandle" ∧ yX0_feed.cls ≠ "java/lang/invoke/VarHandle" ∧ (parseMethodDescriptor yX0_feed.desc).map (fun d => d.parameters.length) = some 5 := by decide +kernel
theorem kd_X0_fewestWrong : yX0_fewestWrong.cls ≠ "java/lang/invoke/MethodHandle" ∧ yX0_fewestWrong.cls ≠ "java/lang/invoke/VarHandle" ∧ (parseMethodDescriptor yX0_fewestWrong.desc).map (fun d => d.parameters.length) = some 0 := by decide +kernel
theorem kd_X0_foretold : yX0_foretold.cls ≠ "java/lang/invoke/MethodHandle" ∧ yX0_foretold.cls ≠ "java/lang/invoke/VarHandle" ∧ (parseMethodDescriptor yX0_foretold.desc).map (fun d => d.parameters.length) = some 2 := by decide +kernel
theorem kd_X0_game : yX0_game.cls ≠ "java/lang/invoke/MethodHandle" ∧ yX0_game.cls ≠ "java/lang/invoke/VarHandle" ∧ (parseMethodDescriptor yX0_game.desc).map (fun d => d.parameters.length) = some 3 := by decide +kernel
theorem kd_X0_harshest : yX0_harshest.cls ≠ "java/lang/invoke/MethodHandle" ∧ yX0_harshest.cls ≠ "java/lang/invoke/VarHandle" ∧ (parseMethodDescriptor yX0_harshest.desc).map (fun d => d.parameters.length) = some 1 := by decide +kernel
theorem kd_X0_hired : yX0_hired.cls ≠ "java/lang/invoke/MethodHandle" ∧ yX0_hired.cls ≠ "java/lang/invoke/VarHandle" ∧ (parseMethodDescriptor yX0_hired.desc).map (fun d => d.parameters.length) = some 2 := by decide +kernel
theorem kd_X0_image : yX0_image.cls ≠ "java/lang/invoke/MethodHandle" ∧ yX0_image.cls ≠ "java/lang/invoke/VarHandle" ∧ (parseMethodDescriptor yX0_image.desc).map (fun d => d.parameters.length) = some 0 := by decide +kernel
theorem kd_X0_is : yX0_is.cls ≠ "java/lang/invoke/MethodHandle" ∧ yX0_is.cls ≠ "java/lang/invoke/VarHandle" ∧ (parseMethodDescriptor yX0_is.desc).map (fun d => d.parameters.length) = some 1 := by decide +kernel
theorem kd_X0_learn : yX0_learn.cls ≠ "java/lang/invoke/MethodHandle" ∧ yX0_learn.cls ≠ "java/lang/invoke/VarHandle" ∧ (parseMethodDescriptor yX0_learn.desc).map (fun d => d.parameters.length) = some 2 := by decide +kernel
theorem kd_X0_leastFacts : yX0_leastFacts.cls ≠ "java/lang/invoke/MethodHandle" ∧ yX0_leastFacts.cls ≠ "java/lang/invoke/VarHandle" ∧ (parseMethodDescriptor yX0_leastFacts.desc).map (fun d => d.parameters.length) = some 1 := by decide +kernel
theorem kd_X0_odds : yX0_odds.cls ≠ "java/lang/invoke/MethodHandle" ∧ yX0_odds.cls ≠ "java/lang/invoke/VarHandle" ∧ (parseMethodDescriptor yX0_odds.desc).map (fun d => d.parameters.length) = some 1 := by decide +kernel
theorem kd_X0_ofCase : yX0_ofCase.cls ≠ "java/lang/invoke/MethodHandle" ∧ yX0_ofCase.cls ≠ "java/lang/invoke/VarHandle" ∧ (parseMethodDescriptor yX0_ofCase.desc).map (fun d => d.parameters.length) = some 2 := by decide +kernel
theorem kd_X0_record : yX0_record.cls ≠ "java/lang/invoke/MethodHandle" ∧ yX0_record.cls ≠ "java/lang/invoke/VarHandle" ∧ (parseMethodDescriptor yX0_record.desc).map (fun d => d.parameters.length) = some 3 := by decide +kernel
theorem kd_X0_session : yX0_session.cls ≠ "java/lang/invoke/MethodHandle" ∧ yX0_session.cls ≠ "java/lang/invoke/VarHandle" ∧ (parseMethodDescriptor yX0_session.desc).map (fun d => d.parameters.length) = some 2 := by decide +kernel
theorem kd_X0_standing : yX0_standing.cls ≠ "java/lang/invoke/MethodHandle" ∧ yX0_standing.cls ≠ "java/lang/invoke/VarHandle" ∧ (parseMethodDescriptor yX0_standing.desc).map (fun d => d.parameters.length) = some 2 := by decide +kernel
theorem kd_X0_sure : yX0_sure.cls ≠ "java/lang/invoke/MethodHandle" ∧ yX0_sure.cls ≠ "java/lang/invoke/VarHandle" ∧ (parseMethodDescriptor yX0_sure.desc).map (fun d => d.parameters.length) = some 1 := by decide +kernel
theorem kd_X0_text : yX0_text.cls ≠ "java/lang/invoke/MethodHandle" ∧ yX0_text.cls ≠ "java/lang/invoke/VarHandle" ∧ (parseMethodDescriptor yX0_text.desc).map (fun d => d.parameters.length) = some 0 := by decide +kernel
theorem kd_X0_toBring : yX0_toBring.cls ≠ "java/lang/invoke/MethodHandle" ∧ yX0_toBring.cls ≠ "java/lang/invoke/VarHandle" ∧ (parseMethodDescriptor yX0_toBring.desc).map (fun d => d.parameters.length) = some 0 := by decide +kernel
theorem kd_X0_turned : yX0_turned.cls ≠ "java/lang/invoke/MethodHandle" ∧ yX0_turned.cls ≠ "java/lang/invoke/VarHandle" ∧ (parseMethodDescriptor yX0_turned.desc).map (fun d => d.parameters.length) = some 0 := by decide +kernel
theorem kd_X0_undo : yX0_undo.cls ≠ "java/lang/invoke/MethodHandle" ∧ yX0_undo.cls ≠ "java/lang/invoke/VarHandle" ∧ (parseMethodDescriptor yX0_undo.desc).map (fun d => d.parameters.length) = some 0 := by decide +kernel
theorem kd_X0_whose : yX0_whose.cls ≠ "java/lang/invoke/MethodHandle" ∧ yX0_whose.cls ≠ "java/lang/invoke/VarHandle" ∧ (parseMethodDescriptor yX0_whose.desc).map (fun d => d.parameters.length) = some 0 := by decide +kernel
theorem kd_X2_about : yX2_about.cls ≠ "java/lang/invoke/MethodHandle" ∧ yX2_about.cls ≠ "java/lang/invoke/VarHandle" ∧ (parseMethodDescriptor yX2_about.desc).map (fun d => d.parameters.length) = some 1 := by decide +kernel
theorem kd_X2_back : yX2_back.cls ≠ "java/lang/invoke/MethodHandle" ∧ yX2_back.cls ≠ "java/lang/invoke/VarHandle" ∧ (parseMethodDescriptor yX2_back.desc).map (fun d => d.parameters.length) = some 0 := by decide +kernel
theorem kd_X2_best : yX2_best.cls ≠ "java/lang/invoke/MethodHandle" ∧ yX2_best.cls ≠ "java/lang/invoke/VarHandle" ∧ (parseMethodDescriptor yX2_best.desc).map (fun d => d.parameters.length) = some 3 := by decide +kernel
theorem kd_X2_book : yX2_book.cls ≠ "java/lang/invoke/MethodHandle" ∧ yX2_book.cls ≠ "java/lang/invoke/VarHandle" ∧ (parseMethodDescriptor yX2_book.desc).map (fun d => d.parameters.length) = some 2 := by decide +kernel
theorem kd_X2_by : yX2_by.cls ≠ "java/lang/invoke/MethodHandle" ∧ yX2_by.cls ≠ "java/lang/invoke/VarHandle" ∧ (parseMethodDescriptor yX2_by.desc).map (fun d => d.parameters.length) = some 1 := by decide +kernel
theorem kd_X2_calm : yX2_calm.cls ≠ "java/lang/invoke/MethodHandle" ∧ yX2_calm.cls ≠ "java/lang/invoke/VarHandle" ∧ (parseMethodDescriptor yX2_calm.desc).map (fun d => d.parameters.length) = some 1 := by decide +kernel
theorem kd_X2_clash : yX2_clash.cls ≠ "java/lang/invoke/MethodHandle" ∧ yX2_clash.cls ≠ "java/lang/invoke/VarHandle" ∧ (parseMethodDescriptor yX2_clash.desc).map (fun d => d.parameters.length) = some 1 := by decide +kernel
theorem kd_X2_codes : yX2_codes.cls ≠ "java/lang/invoke/MethodHandle" ∧ yX2_codes.cls ≠ "java/lang/invoke/VarHandle" ∧ (parseMethodDescriptor yX2_codes.desc).map (fun d => d.parameters.length) = some 1 := by decide +kernel
theorem kd_X2_counsel : yX2_counsel.cls ≠ "java/lang/invoke/MethodHandle" ∧ yX2_counsel.cls ≠ "java/lang/invoke/VarHandle" ∧ (parseMethodDescriptor yX2_counsel.desc).map (fun d => d.parameters.length) = some 2 := by decide +kernel
theorem kd_X2_decades : yX2_decades.cls ≠ "java/lang/invoke/MethodHandle" ∧ yX2_decades.cls ≠ "java/lang/invoke/VarHandle" ∧ (parseMethodDescriptor yX2_decades.desc).map (fun d => d.parameters.length) = some 2 := by decide +kernel
theorem kd_X2_end : yX2_end.cls ≠ "java/lang/invoke/MethodHandle" ∧ yX2_end.cls ≠ "java/lang/invoke/VarHandle" ∧ (parseMethodDescriptor yX2_end.desc).map (fun d => d.parameters.length) = some 1 := by decide +kernel
theorem kd_X2_ends : yX2_ends.cls ≠ "java/lang/invoke/MethodHandle" ∧ yX2_ends.cls ≠ "java/lang/invoke/VarHandle" ∧ (parseMethodDescriptor yX2_ends.desc).map (fun d => d.parameters.length) = some 4 := by decide +kernel
theorem kd_X2_fault : yX2_fault.cls ≠ "java/lang/invoke/MethodHandle" ∧ yX2_fault.cls ≠ "java/lang/invoke/VarHandle" ∧ (parseMethodDescriptor yX2_fault.desc).map (fun d => d.parameters.length) = some 1 := by decide +kernel
theorem kd_X2_feed : yX2_feed.cls ≠ "java/lang/invoke/MethodHandle" ∧ yX2_feed.cls ≠ "java/lang/invoke/VarHandle" ∧ (parseMethodDescriptor yX2_feed.desc).map (fun d => d.parameters.length) = some 5 := by decide +kernel
theorem kd_X2_fewestWrong : yX2_fewestWrong.cls ≠ "java/lang/invoke/MethodHandle" ∧ yX2_fewestWrong.cls ≠ "java/lang/invoke/VarHandle" ∧ (parseMethodDescriptor yX2_fewestWrong.desc).map (fun d => d.parameters.length) = some 0 := by decide +kernel
theorem kd_X2_foretold : yX2_foretold.cls ≠ "java/lang/invoke/MethodHandle" ∧ yX2_foretold.cls ≠ "java/lang/invoke/VarHandle" ∧ (parseMethodDescriptor yX2_foretold.desc).map (fun d => d.parameters.length) = some 2 := by decide +kernel
theorem kd_X2_game : yX2_game.cls ≠ "java/lang/invoke/MethodHandle" ∧ yX2_game.cls ≠ "java/lang/invoke/VarHandle" ∧ (parseMethodDescriptor yX2_game.desc).map (fun d => d.parameters.length) = some 3 := by decide +kernel
theorem kd_X2_harshest : yX2_harshest.cls ≠ "java/lang/invoke/MethodHandle" ∧ yX2_harshest.cls ≠ "java/lang/invoke/VarHandle" ∧ (parseMethodDescriptor yX2_harshest.desc).map (fun d => d.parameters.length) = some 1 := by decide +kernel
theorem kd_X2_hired : yX2_hired.cls ≠ "java/lang/invoke/MethodHandle" ∧ yX2_hired.cls ≠ "java/lang/invoke/VarHandle" ∧ (parseMethodDescriptor yX2_hired.desc).map (fun d => d.parameters.length) = some 2 := by decide +kernel
theorem kd_X2_hour : yX2_hour.cls ≠ "java/lang/invoke/MethodHandle" ∧ yX2_hour.cls ≠ "java/lang/invoke/VarHandle" ∧ (parseMethodDescriptor yX2_hour.desc).map (fun d => d.parameters.length) = some 1 := by decide +kernel
theorem kd_X2_image : yX2_image.cls ≠ "java/lang/invoke/MethodHandle" ∧ yX2_image.cls ≠ "java/lang/invoke/VarHandle" ∧ (parseMethodDescriptor yX2_image.desc).map (fun d => d.parameters.length) = some 0 := by decide +kernel
theorem kd_X2_is : yX2_is.cls ≠ "java/lang/invoke/MethodHandle" ∧ yX2_is.cls ≠ "java/lang/invoke/VarHandle" ∧ (parseMethodDescriptor yX2_is.desc).map (fun d => d.parameters.length) = some 1 := by decide +kernel
theorem kd_X2_learn : yX2_learn.cls ≠ "java/lang/invoke/MethodHandle" ∧ yX2_learn.cls ≠ "java/lang/invoke/VarHandle" ∧ (parseMethodDescriptor yX2_learn.desc).map (fun d => d.parameters.length) = some 2 := by decide +kernel
theorem kd_X2_leastFacts : yX2_leastFacts.cls ≠ "java/lang/invoke/MethodHandle" ∧ yX2_leastFacts.cls ≠ "java/lang/invoke/VarHandle" ∧ (parseMethodDescriptor yX2_leastFacts.desc).map (fun d => d.parameters.length) = some 1 := by decide +kernel
theorem kd_X2_odds : yX2_odds.cls ≠ "java/lang/invoke/MethodHandle" ∧ yX2_odds.cls ≠ "java/lang/invoke/VarHandle" ∧ (parseMethodDescriptor yX2_odds.desc).map (fun d => d.parameters.length) = some 1 := by decide +kernel
theorem kd_X2_ofCase : yX2_ofCase.cls ≠ "java/lang/invoke/MethodHandle" ∧ yX2_ofCase.cls ≠ "java/lang/invoke/VarHandle" ∧ (parseMethodDescriptor yX2_ofCase.desc).map (fun d => d.parameters.length) = some 2 := by decide +kernel
theorem kd_X2_played : yX2_played.cls ≠ "java/lang/invoke/MethodHandle" ∧ yX2_played.cls ≠ "java/lang/invoke/VarHandle" ∧ (parseMethodDescriptor yX2_played.desc).map (fun d => d.parameters.length) = some 1 := by decide +kernel
theorem kd_X2_record : yX2_record.cls ≠ "java/lang/invoke/MethodHandle" ∧ yX2_record.cls ≠ "java/lang/invoke/VarHandle" ∧ (parseMethodDescriptor yX2_record.desc).map (fun d => d.parameters.length) = some 3 := by decide +kernel
theorem kd_X2_session : yX2_session.cls ≠ "java/lang/invoke/MethodHandle" ∧ yX2_session.cls ≠ "java/lang/invoke/VarHandle" ∧ (parseMethodDescriptor yX2_session.desc).map (fun d => d.parameters.length) = some 2 := by decide +kernel
theorem kd_X2_standing : yX2_standing.cls ≠ "java/lang/invoke/MethodHandle" ∧ yX2_standing.cls ≠ "java/lang/invoke/VarHandle" ∧ (parseMethodDescriptor yX2_standing.desc).map (fun d => d.parameters.length) = some 2 := by decide +kernel
theorem kd_X2_sure : yX2_sure.cls ≠ "java/lang/invoke/MethodHandle" ∧ yX2_sure.cls ≠ "java/lang/invoke/VarHandle" ∧ (parseMethodDescriptor yX2_sure.desc).map (fun d => d.parameters.length) = some 1 := by decide +kernel
theorem kd_X2_text : yX2_text.cls ≠ "java/lang/invoke/MethodHandle" ∧ yX2_text.cls ≠ "java/lang/invoke/VarHandle" ∧ (parseMethodDescriptor yX2_text.desc).map (fun d => d.parameters.length) = some 0 := by decide +kernel
theorem kd_X2_toBring : yX2_toBring.cls ≠ "java/lang/invoke/MethodHandle" ∧ yX2_toBring.cls ≠ "java/lang/invoke/VarHandle" ∧ (parseMethodDescriptor yX2_toBring.desc).map (fun d => d.parameters.length) = some 0 := by decide +kernel
theorem kd_X2_turned : yX2_turned.cls ≠ "java/lang/invoke/MethodHandle" ∧ yX2_turned.cls ≠ "java/lang/invoke/VarHandle" ∧ (parseMethodDescriptor yX2_turned.desc).map (fun d => d.parameters.length) = some 0 := by decide +kernel
theorem kd_X2_undo : yX2_undo.cls ≠ "java/lang/invoke/MethodHandle" ∧ yX2_undo.cls ≠ "java/lang/invoke/VarHandle" ∧ (parseMethodDescriptor yX2_undo.desc).map (fun d => d.parameters.length) = some 0 := by decide +kernel
theorem kd_X2_whose : yX2_whose.cls ≠ "java/lang/invoke/MethodHandle" ∧ yX2_whose.cls ≠ "java/lang/invoke/VarHandle" ∧ (parseMethodDescriptor yX2_whose.desc).map (fun d => d.parameters.length) = some 0 := by decide +kernel
theorem r_nz {p : Program} {l : Launch} {e : Env} {R : Room} {s : State} {m : MethodId} {args : Array Value} {below : List Frame} {meth : Method} {c : Code} {H : Heap} {locs : List Loc} {cells slots : Nat} {Q : State → Prop} {cc : ByteArray} {pc t1 t2 : Nat} {ls : Array Slot} {rest : List Value} {v : Int32} (hx : p.tables.exec = Jvm.exec) (hb : c.code = cc) (d1 : decode cc pc = .ok (.ifCond .eq 7, 3)) (d2 : decode cc (pc + 3) = .ok (.iconst 1, 1)) (d3 : decode cc (pc + 3 + 1) = .ok (.goto 4, 3)) (h1 : ((pc : Nat) : Int) + 7 = (t1 : Int)) (d4 : decode cc t1 = .ok (.iconst 0, 1)) (h2 : ((pc + 3 + 1 : Nat) : Int) + 4 = (t2 : Int)) (h3 : t1 + 1 = t2)
    (kk : W p l e R s m args below meth c H locs cells slots Q (F0 m t2 ls (.int (bz v) :: rest))) : W p l e R s m args below meth c H locs cells slots Q (F0 m pc ls (.int v :: rest)) := by
  subst h3
  refine lv_if_eq (tgt := t1) hx hb d1 h1 (fun c => ?_) (fun c => ?_)
  · refine lv_iconst (v := (0:Int32)) hx hb d4 (by decide) ?_
    unfold bz at kk
    rw [if_pos c] at kk
    exact kk
  · refine lv_iconst (v := (1:Int32)) hx hb d2 (by decide) ?_
    refine lv_goto (tgt := t1 + 1) hx hb d3 h2 ?_
    unfold bz at kk
    rw [if_neg c] at kk
    exact kk
theorem bz_01 (v : Int32) : bz v = 0 ∨ bz v = 1 := by
  unfold bz
  by_cases c : v = 0
  · rw [if_pos c]; exact Or.inl rfl
  · rw [if_neg c]; exact Or.inr rfl
/-- the script's word at a place -/
theorem r_scr {p : Program} {l : Launch} {e : Env} {R : Room} {s : State} {m : MethodId} {args : Array Value} {below : List Frame} {meth : Method} {c : Code} {H : Heap} {locs : List Loc} {cells slots : Nat} {Q : State → Prop} {cc : ByteArray} {pc : Nat} {ls : Array Slot} {rest : List Value} {K : QK} {w : QW} {b Ls j : Nat} {xs : Nat → Int32} {v : Int32} (hx : p.tables.exec = Jvm.exec) (hb : c.code = cc) (hK : K.1 = s.heap) (hX : va_X b Ls xs s s.heap) (hbl : b < s.heap.size) (hw : WP K w H locs) (hv : v = nI j) (hj : j < Ls) (hL : Ls ≤ 384) (hdg : decode cc pc = .ok (.iaload, 1))
    (kk : W p l e R s m args below meth c H locs cells slots Q (F0 m (pc + 1) ls (.int (xs j) :: rest))) : W p l e R s m args below meth c H locs cells slots Q (F0 m pc ls (.int v :: .ref b :: rest)) := by
  subst hv
  have hc : (nI j).toNatClampNeg = j := nI_clamp (by omega)
  have hS := hw.S
  rw [hK] at hS
  refine va_sld (A := qA K) hx hb hX hbl (fun h => ?_) hS (vp_in_nI hj (by omega)) hdg ?_
  · have h : K.1.size ≤ b := h
    rw [hK] at h
    omega
  · rw [hc]; exact kk
set_option maxHeartbeats 4000000 in
theorem lc_newCase {p : Program} {l : Launch} {e : Env} {s : State} {m : MethodId} {below : List Frame} {meth : Method} {c : Code} {K : QK} {G : State → Prop} {Q : State → Prop} {b Ls i : Nat} {xs : Nat → Int32} {T Ti : Int32 → Option QT} {ta : Int32 → Nat} {A B : QA} {L : QL} {X : QX} {M : QM} {H : Heap} {locs : List Loc} {ls : Array Slot} {cells slots : Nat} {Rel : (Int32 → Option QT) → (Int32 → Option QT) → QA → QA → QL → Prop} (hSim : S_newCase Rel) (hG : QG G) (hC : QCl K) (hM : QMl K) (hK : K.1 = s.heap) (hX : va_X b Ls xs s s.heap) (hbl : b < s.heap.size) (hL : Ls ≤ 384) (hi : i + 5 < Ls) (E : EV K G p s m #[Value.ref b] meth c code "VaneCourtLaw" 4) (hc6 : cells + 6600 ≤ 1200128) (hs6 : slots + 78100 ≤ 5501098) (hR : Rel T Ti A B L) (hH : HW K G X M T Ti ta)
    (next : ∀ (T Ti : Int32 → Option QT) (ta : Int32 → Nat) (A B : QA) (L : QL) (X : QX) (M : QM), Rel T Ti A B L → HW K G X M T Ti ta → ∀ {H : Heap} {locs : List Loc} {ls : Array Slot} {cells1 slots1 : Nat}, cells1 ≤ cells + 6600 → slots1 ≤ slots + 78100 → WP K (A, B, L, X, M) H locs → lv_has ls 4 [(1, .ref (K.2.1 0)), (2, .ref (K.2.1 1000)), (3, .int (nI i)), (0, .ref b)] → W p l e room_1 s m #[Value.ref b] below meth c H locs cells1 slots1 Q (F0 m 1455 ls [])) (hw : WP K (A, B, L, X, M) H locs) (hl : lv_has ls 4 [(1, .ref (K.2.1 0)), (2, .ref (K.2.1 1000)), (3, .int (nI i)), (0, .ref b)]) : W p l e room_1 s m #[Value.ref b] below meth c H locs cells slots Q (F0 m 216 ls []) := by
  have hx := E.1
  have hb := E.2.1
  have hown := E.2.2.1
  have hts := E.2.2.2.2.1
  refine lv_aload_n hx hb dL_law_216 rfl (lv_at hl 0 rfl) ?_
  refine lv_aload_n hx hb dL_law_217 rfl (lv_at hl 3 rfl) ?_
  refine lv_iload_n hx hb dL_law_218 rfl (lv_at hl 2 rfl) ?_
  refine lv_iconst (v := nI 1) hx hb dL_law_219 (by decide) ?_
  refine lv_iadd hx hb dL_law_220 ?_
  refine r_scr (j := i + 1) hx hb hK hX hbl hw nI_addn (by omega) hL dL_law_221 ?_
  refine lv_aload_n hx hb dL_law_222 rfl (lv_at hl 3 rfl) ?_
  refine lv_iload_n hx hb dL_law_223 rfl (lv_at hl 2 rfl) ?_
  refine lv_iconst (v := nI 2) hx hb dL_law_224 (by decide) ?_
  refine lv_iadd hx hb dL_law_225 ?_
  refine r_scr (j := i + 2) hx hb hK hX hbl hw nI_addn (by omega) hL dL_law_226 ?_
  refine lv_aload_n hx hb dL_law_227 rfl (lv_at hl 3 rfl) ?_
  refine lv_iload_n hx hb dL_law_228 rfl (lv_at hl 2 rfl) ?_
  refine lv_iconst (v := nI 3) hx hb dL_law_229 (by decide) ?_
  refine lv_iadd hx hb dL_law_230 ?_
  refine r_scr (j := i + 3) hx hb hK hX hbl hw nI_addn (by omega) hL dL_law_231 ?_
  refine lv_aload_n hx hb dL_law_232 rfl (lv_at hl 3 rfl) ?_
  refine lv_iload_n hx hb dL_law_233 rfl (lv_at hl 2 rfl) ?_
  refine lv_iconst (v := nI 4) hx hb dL_law_234 (by decide) ?_
  refine lv_iadd hx hb dL_law_235 ?_
  refine r_scr (j := i + 4) hx hb hK hX hbl hw nI_addn (by omega) hL dL_law_236 ?_
  obtain ⟨ro, Ao, Bo, h1, h2, hR2⟩ := hSim T Ti A B L (xs (i + 1)) (xs (i + 2)) (xs (i + 3)) (xs (i + 4))  hR
  refine c_V (As := [.int (xs (i + 1)), .int (xs (i + 2)), .int (xs (i + 3)), .int (xs (i + 4))]) (rest := []) hG E hw (m_X0_newCase l hG hC h1) (qX0 hC) rfl (cwV 4 hts (lw_V q279 q280 q281 q137 q282) rfl rfl rfl ⟨rfl, kd_X0_newCase⟩ ⟨Nat.le_of_ble_eq_true rfl, Nat.le_of_ble_eq_true rfl⟩) hl rfl rfl (Nat.le_of_ble_eq_true rfl) dL_law_237 ⟨(show cells + 1 ≤ 1200128 by omega), (show slots + 4 ≤ 5501098 by omega)⟩ (fun v w1 H locs hP hw => ?_)
  obtain ⟨rfl, M1, rfl, hx1⟩ := hP
  refine W.eq (g2 := F0 m 240 ls [.int ro]) rfl ?_
  refine lv_aload_n hx hb dL_law_240 rfl (lv_at hl 1 rfl) ?_
  refine lv_aload_n hx hb dL_law_241 rfl (lv_at hl 3 rfl) ?_
  refine lv_iload_n hx hb dL_law_242 rfl (lv_at hl 2 rfl) ?_
  refine lv_iconst (v := nI 1) hx hb dL_law_243 (by decide) ?_
  refine lv_iadd hx hb dL_law_244 ?_
  refine r_scr (j := i + 1) hx hb hK hX hbl hw nI_addn (by omega) hL dL_law_245 ?_
  refine lv_aload_n hx hb dL_law_246 rfl (lv_at hl 3 rfl) ?_
  refine lv_iload_n hx hb dL_law_247 rfl (lv_at hl 2 rfl) ?_
  refine lv_iconst (v := nI 2) hx hb dL_law_248 (by decide) ?_
  refine lv_iadd hx hb dL_law_249 ?_
  refine r_scr (j := i + 2) hx hb hK hX hbl hw nI_addn (by omega) hL dL_law_250 ?_
  refine lv_aload_n hx hb dL_law_251 rfl (lv_at hl 3 rfl) ?_
  refine lv_iload_n hx hb dL_law_252 rfl (lv_at hl 2 rfl) ?_
  refine lv_iconst (v := nI 3) hx hb dL_law_253 (by decide) ?_
  refine lv_iadd hx hb dL_law_254 ?_
  refine r_scr (j := i + 3) hx hb hK hX hbl hw nI_addn (by omega) hL dL_law_255 ?_
  refine lv_aload_n hx hb dL_law_256 rfl (lv_at hl 3 rfl) ?_
  refine lv_iload_n hx hb dL_law_257 rfl (lv_at hl 2 rfl) ?_
  refine lv_iconst (v := nI 4) hx hb dL_law_258 (by decide) ?_
  refine lv_iadd hx hb dL_law_259 ?_
  refine r_scr (j := i + 4) hx hb hK hX hbl hw nI_addn (by omega) hL dL_law_260 ?_
  refine d_V (As := [.int (xs (i + 1)), .int (xs (i + 2)), .int (xs (i + 3)), .int (xs (i + 4))]) (v0 := some (.int ro)) hG E hw hl (m_X2_newCase l hG hM (A := Ao) (rs := (X, M1)) h2) (qM0 hM) rfl (cwV 4 hts (lw_V q1476 q1477 q1478 q140 q1479) rfl rfl rfl ⟨rfl, kd_X2_newCase⟩ ⟨Nat.le_of_ble_eq_true rfl, Nat.le_of_ble_eq_true rfl⟩) rfl (rest := [.int ro]) (st1 := [.int ro, .int ro]) rfl rfl rfl dL_law_261 ⟨(show cells + 1 ≤ 1200128 by omega), (show slots + 4 ≤ 5501098 by omega)⟩ (fun H locs hw => ?_)
  refine lv_icmp_eq (tgt := 1455) hx hb dL_law_264 (by decide) (fun _ => ?_) (fun c => absurd rfl c)
  exact next T Ti ta Ao Bo L X M1 hR2 (hH.ext hx1) (by omega) (by omega) hw hl
set_option maxHeartbeats 4000000 in
theorem lc_feed {p : Program} {l : Launch} {e : Env} {s : State} {m : MethodId} {below : List Frame} {meth : Method} {c : Code} {K : QK} {G : State → Prop} {Q : State → Prop} {b Ls i : Nat} {xs : Nat → Int32} {T Ti : Int32 → Option QT} {ta : Int32 → Nat} {A B : QA} {L : QL} {X : QX} {M : QM} {H : Heap} {locs : List Loc} {ls : Array Slot} {cells slots : Nat} {Rel : (Int32 → Option QT) → (Int32 → Option QT) → QA → QA → QL → Prop} (hSim : S_feed Rel) (hG : QG G) (hC : QCl K) (hM : QMl K) (hK : K.1 = s.heap) (hX : va_X b Ls xs s s.heap) (hbl : b < s.heap.size) (hL : Ls ≤ 384) (hi : i + 5 < Ls) (E : EV K G p s m #[Value.ref b] meth c code "VaneCourtLaw" 4) (hc6 : cells + 6600 ≤ 1200128) (hs6 : slots + 78100 ≤ 5501098) (hR : Rel T Ti A B L) (hH : HW K G X M T Ti ta)
    (next : ∀ (T Ti : Int32 → Option QT) (ta : Int32 → Nat) (A B : QA) (L : QL) (X : QX) (M : QM), Rel T Ti A B L → HW K G X M T Ti ta → ∀ {H : Heap} {locs : List Loc} {ls : Array Slot} {cells1 slots1 : Nat}, cells1 ≤ cells + 6600 → slots1 ≤ slots + 78100 → WP K (A, B, L, X, M) H locs → lv_has ls 4 [(1, .ref (K.2.1 0)), (2, .ref (K.2.1 1000)), (3, .int (nI i)), (0, .ref b)] → W p l e room_1 s m #[Value.ref b] below meth c H locs cells1 slots1 Q (F0 m 1455 ls [])) (hw : WP K (A, B, L, X, M) H locs) (hl : lv_has ls 4 [(1, .ref (K.2.1 0)), (2, .ref (K.2.1 1000)), (3, .int (nI i)), (0, .ref b)]) : W p l e room_1 s m #[Value.ref b] below meth c H locs cells slots Q (F0 m 269 ls []) := by
  have hx := E.1
  have hb := E.2.1
  have hown := E.2.2.1
  have hts := E.2.2.2.2.1
  refine lv_aload_n hx hb dL_law_269 rfl (lv_at hl 0 rfl) ?_
  refine lv_aload_n hx hb dL_law_270 rfl (lv_at hl 3 rfl) ?_
  refine lv_iload_n hx hb dL_law_271 rfl (lv_at hl 2 rfl) ?_
  refine lv_iconst (v := nI 1) hx hb dL_law_272 (by decide) ?_
  refine lv_iadd hx hb dL_law_273 ?_
  refine r_scr (j := i + 1) hx hb hK hX hbl hw nI_addn (by omega) hL dL_law_274 ?_
  refine lv_aload_n hx hb dL_law_275 rfl (lv_at hl 3 rfl) ?_
  refine lv_iload_n hx hb dL_law_276 rfl (lv_at hl 2 rfl) ?_
  refine lv_iconst (v := nI 2) hx hb dL_law_277 (by decide) ?_
  refine lv_iadd hx hb dL_law_278 ?_
  refine r_scr (j := i + 2) hx hb hK hX hbl hw nI_addn (by omega) hL dL_law_279 ?_
  refine lv_aload_n hx hb dL_law_280 rfl (lv_at hl 3 rfl) ?_
  refine lv_iload_n hx hb dL_law_281 rfl (lv_at hl 2 rfl) ?_
  refine lv_iconst (v := nI 3) hx hb dL_law_282 (by decide) ?_
  refine lv_iadd hx hb dL_law_283 ?_
  refine r_scr (j := i + 3) hx hb hK hX hbl hw nI_addn (by omega) hL dL_law_284 ?_
  refine lv_aload_n hx hb dL_law_285 rfl (lv_at hl 3 rfl) ?_
  refine lv_iload_n hx hb dL_law_286 rfl (lv_at hl 2 rfl) ?_
  refine lv_iconst (v := nI 4) hx hb dL_law_287 (by decide) ?_
  refine lv_iadd hx hb dL_law_288 ?_
  refine r_scr (j := i + 4) hx hb hK hX hbl hw nI_addn (by omega) hL dL_law_289 ?_
  refine lv_aload_n hx hb dL_law_290 rfl (lv_at hl 3 rfl) ?_
  refine lv_iload_n hx hb dL_law_291 rfl (lv_at hl 2 rfl) ?_
  refine lv_iconst (v := nI 5) hx hb dL_law_292 (by decide) ?_
  refine lv_iadd hx hb dL_law_293 ?_
  refine r_scr (j := i + 5) hx hb hK hX hbl hw nI_addn (by omega) hL dL_law_294 ?_
  obtain ⟨ro, Ao, Bo, h1, h2, hR2⟩ := hSim T Ti A B L (xs (i + 1)) (xs (i + 2)) (xs (i + 3)) (xs (i + 4)) (xs (i + 5))  hR
  refine d_V (As := [.int (xs (i + 1)), .int (xs (i + 2)), .int (xs (i + 3)), .int (xs (i + 4)), .int (xs (i + 5))]) (v0 := some (.int ro)) hG E hw hl (m_X0_feed l hG hC (rs := (B, L, X, M)) h1) (qX0 hC) rfl (cwV 5 hts (lw_V q290 q291 q292 q137 q293) rfl rfl rfl ⟨rfl, kd_X0_feed⟩ ⟨Nat.le_of_ble_eq_true rfl, Nat.le_of_ble_eq_true rfl⟩) rfl (rest := []) (st1 := [.int ro]) rfl rfl rfl dL_law_295 ⟨(show cells ≤ 1200128 by omega), (show slots ≤ 5501098 by omega)⟩ (fun H locs hw => ?_)
  refine lv_aload_n hx hb dL_law_298 rfl (lv_at hl 1 rfl) ?_
  refine lv_aload_n hx hb dL_law_299 rfl (lv_at hl 3 rfl) ?_
  refine lv_iload_n hx hb dL_law_300 rfl (lv_at hl 2 rfl) ?_
  refine lv_iconst (v := nI 1) hx hb dL_law_301 (by decide) ?_
  refine lv_iadd hx hb dL_law_302 ?_
  refine r_scr (j := i + 1) hx hb hK hX hbl hw nI_addn (by omega) hL dL_law_303 ?_
  refine lv_aload_n hx hb dL_law_304 rfl (lv_at hl 3 rfl) ?_
  refine lv_iload_n hx hb dL_law_305 rfl (lv_at hl 2 rfl) ?_
  refine lv_iconst (v := nI 2) hx hb dL_law_306 (by decide) ?_
  refine lv_iadd hx hb dL_law_307 ?_
  refine r_scr (j := i + 2) hx hb hK hX hbl hw nI_addn (by omega) hL dL_law_308 ?_
  refine lv_aload_n hx hb dL_law_309 rfl (lv_at hl 3 rfl) ?_
  refine lv_iload_n hx hb dL_law_310 rfl (lv_at hl 2 rfl) ?_
  refine lv_iconst (v := nI 3) hx hb dL_law_311 (by decide) ?_
  refine lv_iadd hx hb dL_law_312 ?_
  refine r_scr (j := i + 3) hx hb hK hX hbl hw nI_addn (by omega) hL dL_law_313 ?_
  refine lv_aload_n hx hb dL_law_314 rfl (lv_at hl 3 rfl) ?_
  refine lv_iload_n hx hb dL_law_315 rfl (lv_at hl 2 rfl) ?_
  refine lv_iconst (v := nI 4) hx hb dL_law_316 (by decide) ?_
  refine lv_iadd hx hb dL_law_317 ?_
  refine r_scr (j := i + 4) hx hb hK hX hbl hw nI_addn (by omega) hL dL_law_318 ?_
  refine lv_aload_n hx hb dL_law_319 rfl (lv_at hl 3 rfl) ?_
  refine lv_iload_n hx hb dL_law_320 rfl (lv_at hl 2 rfl) ?_
  refine lv_iconst (v := nI 5) hx hb dL_law_321 (by decide) ?_
  refine lv_iadd hx hb dL_law_322 ?_
  refine r_scr (j := i + 5) hx hb hK hX hbl hw nI_addn (by omega) hL dL_law_323 ?_
  refine d_V (As := [.int (xs (i + 1)), .int (xs (i + 2)), .int (xs (i + 3)), .int (xs (i + 4)), .int (xs (i + 5))]) (v0 := some (.int ro)) hG E hw hl (m_X2_feed l hG hM (A := Ao) (rs := (X, M)) h2) (qM0 hM) rfl (cwV 5 hts (lw_V q1487 q1488 q1489 q140 q1490) rfl rfl rfl ⟨rfl, kd_X2_feed⟩ ⟨Nat.le_of_ble_eq_true rfl, Nat.le_of_ble_eq_true rfl⟩) rfl (rest := [.int ro]) (st1 := [.int ro, .int ro]) rfl rfl rfl dL_law_324 ⟨(show cells ≤ 1200128 by omega), (show slots ≤ 5501098 by omega)⟩ (fun H locs hw => ?_)
  refine lv_icmp_eq (tgt := 1455) hx hb dL_law_327 (by decide) (fun _ => ?_) (fun c => absurd rfl c)
  exact next T Ti ta Ao Bo L X M hR2 hH (by omega) (by omega) hw hl
set_option maxHeartbeats 4000000 in
theorem lc_end {p : Program} {l : Launch} {e : Env} {s : State} {m : MethodId} {below : List Frame} {meth : Method} {c : Code} {K : QK} {G : State → Prop} {Q : State → Prop} {b Ls i : Nat} {xs : Nat → Int32} {T Ti : Int32 → Option QT} {ta : Int32 → Nat} {A B : QA} {L : QL} {X : QX} {M : QM} {H : Heap} {locs : List Loc} {ls : Array Slot} {cells slots : Nat} {Rel : (Int32 → Option QT) → (Int32 → Option QT) → QA → QA → QL → Prop} (hSim : S_end Rel) (hG : QG G) (hC : QCl K) (hM : QMl K) (hK : K.1 = s.heap) (hX : va_X b Ls xs s s.heap) (hbl : b < s.heap.size) (hL : Ls ≤ 384) (hi : i + 5 < Ls) (E : EV K G p s m #[Value.ref b] meth c code "VaneCourtLaw" 4) (hc6 : cells + 6600 ≤ 1200128) (hs6 : slots + 78100 ≤ 5501098) (hR : Rel T Ti A B L) (hH : HW K G X M T Ti ta)
    (next : ∀ (T Ti : Int32 → Option QT) (ta : Int32 → Nat) (A B : QA) (L : QL) (X : QX) (M : QM), Rel T Ti A B L → HW K G X M T Ti ta → ∀ {H : Heap} {locs : List Loc} {ls : Array Slot} {cells1 slots1 : Nat}, cells1 ≤ cells + 6600 → slots1 ≤ slots + 78100 → WP K (A, B, L, X, M) H locs → lv_has ls 4 [(1, .ref (K.2.1 0)), (2, .ref (K.2.1 1000)), (3, .int (nI i)), (0, .ref b)] → W p l e room_1 s m #[Value.ref b] below meth c H locs cells1 slots1 Q (F0 m 1455 ls [])) (hw : WP K (A, B, L, X, M) H locs) (hl : lv_has ls 4 [(1, .ref (K.2.1 0)), (2, .ref (K.2.1 1000)), (3, .int (nI i)), (0, .ref b)]) : W p l e room_1 s m #[Value.ref b] below meth c H locs cells slots Q (F0 m 332 ls []) := by
  have hx := E.1
  have hb := E.2.1
  have hown := E.2.2.1
  have hts := E.2.2.2.2.1
  refine lv_aload_n hx hb dL_law_332 rfl (lv_at hl 0 rfl) ?_
  refine lv_aload_n hx hb dL_law_333 rfl (lv_at hl 3 rfl) ?_
  refine lv_iload_n hx hb dL_law_334 rfl (lv_at hl 2 rfl) ?_
  refine lv_iconst (v := nI 1) hx hb dL_law_335 (by decide) ?_
  refine lv_iadd hx hb dL_law_336 ?_
  refine r_scr (j := i + 1) hx hb hK hX hbl hw nI_addn (by omega) hL dL_law_337 ?_
  obtain ⟨ro, Ao, Bo, h1, h2, hR2⟩ := hSim T Ti A B L (xs (i + 1))  hR
  refine d_V (As := [.int (xs (i + 1))]) (v0 := some (.int ro)) hG E hw hl (m_X0_end l hG hC (rs := (B, L, X, M)) h1) (qX0 hC) rfl (cwV 1 hts (lw_V q298 q299 q300 q137 q301) rfl rfl rfl ⟨rfl, kd_X0_end⟩ ⟨Nat.le_of_ble_eq_true rfl, Nat.le_of_ble_eq_true rfl⟩) rfl (rest := []) (st1 := [.int ro]) rfl rfl rfl dL_law_338 ⟨(show cells ≤ 1200128 by omega), (show slots ≤ 5501098 by omega)⟩ (fun H locs hw => ?_)
  refine lv_aload_n hx hb dL_law_341 rfl (lv_at hl 1 rfl) ?_
  refine lv_aload_n hx hb dL_law_342 rfl (lv_at hl 3 rfl) ?_
  refine lv_iload_n hx hb dL_law_343 rfl (lv_at hl 2 rfl) ?_
  refine lv_iconst (v := nI 1) hx hb dL_law_344 (by decide) ?_
  refine lv_iadd hx hb dL_law_345 ?_
  refine r_scr (j := i + 1) hx hb hK hX hbl hw nI_addn (by omega) hL dL_law_346 ?_
  refine d_V (As := [.int (xs (i + 1))]) (v0 := some (.int ro)) hG E hw hl (m_X2_end l hG hM (A := Ao) (rs := (X, M)) h2) (qM0 hM) rfl (cwV 1 hts (lw_V q1495 q1496 q1497 q140 q1498) rfl rfl rfl ⟨rfl, kd_X2_end⟩ ⟨Nat.le_of_ble_eq_true rfl, Nat.le_of_ble_eq_true rfl⟩) rfl (rest := [.int ro]) (st1 := [.int ro, .int ro]) rfl rfl rfl dL_law_347 ⟨(show cells ≤ 1200128 by omega), (show slots ≤ 5501098 by omega)⟩ (fun H locs hw => ?_)
  refine lv_icmp_eq (tgt := 1455) hx hb dL_law_350 (by decide) (fun _ => ?_) (fun c => absurd rfl c)
  exact next T Ti ta Ao Bo L X M hR2 hH (by omega) (by omega) hw hl
set_option maxHeartbeats 4000000 in
theorem lc_text {p : Program} {l : Launch} {e : Env} {s : State} {m : MethodId} {below : List Frame} {meth : Method} {c : Code} {K : QK} {G : State → Prop} {Q : State → Prop} {b Ls i : Nat} {xs : Nat → Int32} {T Ti : Int32 → Option QT} {ta : Int32 → Nat} {A B : QA} {L : QL} {X : QX} {M : QM} {H : Heap} {locs : List Loc} {ls : Array Slot} {cells slots : Nat} {Rel : (Int32 → Option QT) → (Int32 → Option QT) → QA → QA → QL → Prop} (hSim : S_text Rel) {y : QY} {ea mi ic : Nat} {ib : Nat → Nat} (hn13 : ¬ ql K 13) (hS : QSt K G y) (hWr : QWr K G) (hlst : l.stackTraces = false) (hLs : QLs K G ea mi) (hI : QIc K G ic ib) (hG : QG G) (hC : QCl K) (hM : QMl K) (hK : K.1 = s.heap) (hX : va_X b Ls xs s s.heap) (hbl : b < s.heap.size) (hL : Ls ≤ 384) (hi : i + 5 < Ls) (E : EV K G p s m #[Value.ref b] meth c code "VaneCourtLaw" 4) (hc6 : cells + 6600 ≤ 1200128) (hs6 : slots + 78100 ≤ 5501098) (hR : Rel T Ti A B L) (hH : HW K G X M T Ti ta)
    (next : ∀ (T Ti : Int32 → Option QT) (ta : Int32 → Nat) (A B : QA) (L : QL) (X : QX) (M : QM), Rel T Ti A B L → HW K G X M T Ti ta → ∀ {H : Heap} {locs : List Loc} {ls : Array Slot} {cells1 slots1 : Nat}, cells1 ≤ cells + 6600 → slots1 ≤ slots + 78100 → WP K (A, B, L, X, M) H locs → lv_has ls 4 [(1, .ref (K.2.1 0)), (2, .ref (K.2.1 1000)), (3, .int (nI i)), (0, .ref b)] → W p l e room_1 s m #[Value.ref b] below meth c H locs cells1 slots1 Q (F0 m 1455 ls [])) (hw : WP K (A, B, L, X, M) H locs) (hl : lv_has ls 4 [(1, .ref (K.2.1 0)), (2, .ref (K.2.1 1000)), (3, .int (nI i)), (0, .ref b)]) : W p l e room_1 s m #[Value.ref b] below meth c H locs cells slots Q (F0 m 355 ls []) := by
  have hx := E.1
  have hb := E.2.1
  have hown := E.2.2.1
  have hts := E.2.2.2.2.1
  refine lv_aload_n hx hb dL_law_355 rfl (lv_at hl 0 rfl) ?_
  rcases hSim T Ti A B L hR with ⟨h4, Bo, Lo, h2, hR2⟩ | ⟨n, k, r, hk, hk4, hnt, hn, hr, hpc, hTn, hcase⟩
  · refine c_VW (As := []) (rest := []) hG E hw (m_X0_text4 l (rs := (B, L, X, M)) hG hC h4) (qX0 hC) rfl (vq_cwVW 0 hts (lw_VW q302 q303 q304 q137 q305) rfl rfl rfl ⟨rfl, kd_X0_text⟩ ⟨Nat.le_of_ble_eq_true rfl, Nat.le_of_ble_eq_true rfl⟩) hl rfl rfl (Nat.le_of_ble_eq_true rfl) dL_law_356 ⟨(show cells + 0 ≤ 1200128 by omega), (show slots + 0 ≤ 5501098 by omega)⟩ (fun v w1 H locs hP hw => ?_)
    obtain ⟨rfl, rfl⟩ := hP
    refine W.eq (g2 := F0 m 359 ls [.int (-1)]) rfl ?_
    refine lv_aload_n hx hb dL_law_359 rfl (lv_at hl 1 rfl) ?_
    refine d_V (As := []) (v0 := some (.int (-1))) hG E hw hl (m_X2_text l hG hM (A := A) (rs := (X, M)) h2) (qM0 hM) rfl (cwV 0 hts (lw_V q1499 q1500 q1501 q140 q1502) rfl rfl rfl ⟨rfl, kd_X2_text⟩ ⟨Nat.le_of_ble_eq_true rfl, Nat.le_of_ble_eq_true rfl⟩) rfl (rest := [.int (-1)]) (st1 := [.int (-1), .int (-1)]) rfl rfl rfl dL_law_360 ⟨(show cells + 0 ≤ 1200128 by omega), (show slots + 0 ≤ 5501098 by omega)⟩ (fun H locs hw => ?_)
    refine lv_icmp_eq (tgt := 1455) hx hb dL_law_363 (by decide) (fun _ => ?_) (fun c => absurd rfl c)
    exact next T Ti ta A Bo Lo X M hR2 hH (by omega) (by omega) hw hl
  · refine c_VW (As := []) (rest := []) hG E hw (m_X0_text l (B := B) (L := L) (X := X) (M := M) hG hC hn13 hS hWr hlst hLs hI hk hk4 hnt hn hr) (qX0 hC) rfl (vq_cwVW 0 hts (lw_VW q302 q303 q304 q137 q305) rfl rfl rfl ⟨rfl, kd_X0_text⟩ ⟨Nat.le_of_ble_eq_true rfl, Nat.le_of_ble_eq_true rfl⟩) hl rfl rfl (Nat.le_of_ble_eq_true rfl) dL_law_356 ⟨(show cells + (pc_ r + 1) ≤ 1200128 by omega), (show slots + (12 * pc_ r + 8) ≤ 5501098 by omega)⟩ (fun v w1 H locs hP hw => ?_)
    rcases hcase with ⟨e9, Bo, Lo, rfl, h2, hR2⟩ | ⟨x, Bo, Lo, rfl, h2, hR2⟩
    · obtain ⟨rfl, M1, rfl, hx1⟩ := hP
      refine W.eq (g2 := F0 m 359 ls [.int (-1)]) rfl ?_
      refine lv_aload_n hx hb dL_law_359 rfl (lv_at hl 1 rfl) ?_
      refine d_V (As := []) (v0 := some (.int (-1))) hG E hw hl (m_X2_text l hG hM (A := (txA A e9.1 (nI e9.2.1))) (rs := (X, M1)) h2) (qM0 hM) rfl (cwV 0 hts (lw_V q1499 q1500 q1501 q140 q1502) rfl rfl rfl ⟨rfl, kd_X2_text⟩ ⟨Nat.le_of_ble_eq_true rfl, Nat.le_of_ble_eq_true rfl⟩) rfl (rest := [.int (-1)]) (st1 := [.int (-1), .int (-1)]) rfl rfl rfl dL_law_360 ⟨(show cells + (pc_ (Sum.inl e9 : PR QT) + 1) ≤ 1200128 by omega), (show slots + (12 * pc_ (Sum.inl e9 : PR QT) + 8) ≤ 5501098 by omega)⟩ (fun H locs hw => ?_)
      refine lv_icmp_eq (tgt := 1455) hx hb dL_law_363 (by decide) (fun _ => ?_) (fun c => absurd rfl c)
      exact next T Ti ta _ Bo Lo X M1 hR2 (hH.ext hx1) (by omega) (by omega) hw hl
    · obtain ⟨rfl, M1, a, fs, rfl, hx1, hT1, hf1⟩ := hP
      refine W.eq (g2 := F0 m 359 ls [.int (nI (k + 1) - 1)]) rfl ?_
      refine lv_aload_n hx hb dL_law_359 rfl (lv_at hl 1 rfl) ?_
      refine d_V (As := []) (v0 := some (.int (nI (k + 1) - 1))) hG E hw hl (m_X2_text l hG hM (A := (qu (txS A) 100 1 (nI (k + 1)))) (rs := ((qset X 107 (va_up (X 107) k (some a))), M1)) h2) (qM0 hM) rfl (cwV 0 hts (lw_V q1499 q1500 q1501 q140 q1502) rfl rfl rfl ⟨rfl, kd_X2_text⟩ ⟨Nat.le_of_ble_eq_true rfl, Nat.le_of_ble_eq_true rfl⟩) rfl (rest := [.int (nI (k + 1) - 1)]) (st1 := [.int (nI (k + 1) - 1), .int (nI (k + 1) - 1)]) rfl rfl rfl dL_law_360 ⟨(show cells + (pc_ (Sum.inr x : PR QT) + 1) ≤ 1200128 by omega), (show slots + (12 * pc_ (Sum.inr x : PR QT) + 8) ≤ 5501098 by omega)⟩ (fun H locs hw => ?_)
      refine lv_icmp_eq (tgt := 1455) hx hb dL_law_363 (by decide) (fun _ => ?_) (fun c => absurd rfl c)
      exact next _ Ti _ _ Bo Lo _ M1 hR2 (hH.text hk4 hTn hx1 hT1 hf1) (by omega) (by omega) hw hl
set_option maxHeartbeats 4000000 in
theorem lc_fault {p : Program} {l : Launch} {e : Env} {s : State} {m : MethodId} {below : List Frame} {meth : Method} {c : Code} {K : QK} {G : State → Prop} {Q : State → Prop} {b Ls i : Nat} {xs : Nat → Int32} {T Ti : Int32 → Option QT} {ta : Int32 → Nat} {A B : QA} {L : QL} {X : QX} {M : QM} {H : Heap} {locs : List Loc} {ls : Array Slot} {cells slots : Nat} {Rel : (Int32 → Option QT) → (Int32 → Option QT) → QA → QA → QL → Prop} (hSim : S_fault Rel) (hG : QG G) (hC : QCl K) (hM : QMl K) (hK : K.1 = s.heap) (hX : va_X b Ls xs s s.heap) (hbl : b < s.heap.size) (hL : Ls ≤ 384) (hi : i + 5 < Ls) (E : EV K G p s m #[Value.ref b] meth c code "VaneCourtLaw" 4) (hc6 : cells + 6600 ≤ 1200128) (hs6 : slots + 78100 ≤ 5501098) (hR : Rel T Ti A B L) (hH : HW K G X M T Ti ta)
    (next : ∀ (T Ti : Int32 → Option QT) (ta : Int32 → Nat) (A B : QA) (L : QL) (X : QX) (M : QM), Rel T Ti A B L → HW K G X M T Ti ta → ∀ {H : Heap} {locs : List Loc} {ls : Array Slot} {cells1 slots1 : Nat}, cells1 ≤ cells + 6600 → slots1 ≤ slots + 78100 → WP K (A, B, L, X, M) H locs → lv_has ls 4 [(1, .ref (K.2.1 0)), (2, .ref (K.2.1 1000)), (3, .int (nI i)), (0, .ref b)] → W p l e room_1 s m #[Value.ref b] below meth c H locs cells1 slots1 Q (F0 m 1455 ls [])) (hw : WP K (A, B, L, X, M) H locs) (hl : lv_has ls 4 [(1, .ref (K.2.1 0)), (2, .ref (K.2.1 1000)), (3, .int (nI i)), (0, .ref b)]) : W p l e room_1 s m #[Value.ref b] below meth c H locs cells slots Q (F0 m 368 ls []) := by
  have hx := E.1
  have hb := E.2.1
  have hown := E.2.2.1
  have hts := E.2.2.2.2.1
  refine lv_aload_n hx hb dL_law_368 rfl (lv_at hl 0 rfl) ?_
  refine lv_aload_n hx hb dL_law_369 rfl (lv_at hl 3 rfl) ?_
  refine lv_iload_n hx hb dL_law_370 rfl (lv_at hl 2 rfl) ?_
  refine lv_iconst (v := nI 1) hx hb dL_law_371 (by decide) ?_
  refine lv_iadd hx hb dL_law_372 ?_
  refine r_scr (j := i + 1) hx hb hK hX hbl hw nI_addn (by omega) hL dL_law_373 ?_
  obtain ⟨ro, h1, h2, hR2⟩ := hSim T Ti A B L (xs (i + 1))  hR
  refine d_V (As := [.int (xs (i + 1))]) (v0 := some (.int ro)) hG E hw hl (m_X0_fault l hG hC (rs := (B, L, X, M)) h1) (qX0 hC) rfl (cwV 1 hts (lw_V q875 q876 q877 q137 q878) rfl rfl rfl ⟨rfl, kd_X0_fault⟩ ⟨Nat.le_of_ble_eq_true rfl, Nat.le_of_ble_eq_true rfl⟩) rfl (rest := []) (st1 := [.int ro]) rfl rfl rfl dL_law_374 ⟨(show cells ≤ 1200128 by omega), (show slots ≤ 5501098 by omega)⟩ (fun H locs hw => ?_)
  refine lv_aload_n hx hb dL_law_377 rfl (lv_at hl 1 rfl) ?_
  refine lv_aload_n hx hb dL_law_378 rfl (lv_at hl 3 rfl) ?_
  refine lv_iload_n hx hb dL_law_379 rfl (lv_at hl 2 rfl) ?_
  refine lv_iconst (v := nI 1) hx hb dL_law_380 (by decide) ?_
  refine lv_iadd hx hb dL_law_381 ?_
  refine r_scr (j := i + 1) hx hb hK hX hbl hw nI_addn (by omega) hL dL_law_382 ?_
  refine d_V (As := [.int (xs (i + 1))]) (v0 := some (.int ro)) hG E hw hl (m_X2_fault l hG hM (A := A) (rs := (X, M)) h2) (qM0 hM) rfl (cwV 1 hts (lw_V q1671 q1672 q1673 q140 q1674) rfl rfl rfl ⟨rfl, kd_X2_fault⟩ ⟨Nat.le_of_ble_eq_true rfl, Nat.le_of_ble_eq_true rfl⟩) rfl (rest := [.int ro]) (st1 := [.int ro, .int ro]) rfl rfl rfl dL_law_383 ⟨(show cells ≤ 1200128 by omega), (show slots ≤ 5501098 by omega)⟩ (fun H locs hw => ?_)
  refine lv_icmp_eq (tgt := 1455) hx hb dL_law_386 (by decide) (fun _ => ?_) (fun c => absurd rfl c)
  exact next T Ti ta A B L X M hR2 hH (by omega) (by omega) hw hl
set_option maxHeartbeats 4000000 in
theorem lc_by {p : Program} {l : Launch} {e : Env} {s : State} {m : MethodId} {below : List Frame} {meth : Method} {c : Code} {K : QK} {G : State → Prop} {Q : State → Prop} {b Ls i : Nat} {xs : Nat → Int32} {T Ti : Int32 → Option QT} {ta : Int32 → Nat} {A B : QA} {L : QL} {X : QX} {M : QM} {H : Heap} {locs : List Loc} {ls : Array Slot} {cells slots : Nat} {Rel : (Int32 → Option QT) → (Int32 → Option QT) → QA → QA → QL → Prop} (hSim : S_by Rel) (hG : QG G) (hC : QCl K) (hM : QMl K) (hK : K.1 = s.heap) (hX : va_X b Ls xs s s.heap) (hbl : b < s.heap.size) (hL : Ls ≤ 384) (hi : i + 5 < Ls) (E : EV K G p s m #[Value.ref b] meth c code "VaneCourtLaw" 4) (hc6 : cells + 6600 ≤ 1200128) (hs6 : slots + 78100 ≤ 5501098) (hR : Rel T Ti A B L) (hH : HW K G X M T Ti ta)
    (next : ∀ (T Ti : Int32 → Option QT) (ta : Int32 → Nat) (A B : QA) (L : QL) (X : QX) (M : QM), Rel T Ti A B L → HW K G X M T Ti ta → ∀ {H : Heap} {locs : List Loc} {ls : Array Slot} {cells1 slots1 : Nat}, cells1 ≤ cells + 6600 → slots1 ≤ slots + 78100 → WP K (A, B, L, X, M) H locs → lv_has ls 4 [(1, .ref (K.2.1 0)), (2, .ref (K.2.1 1000)), (3, .int (nI i)), (0, .ref b)] → W p l e room_1 s m #[Value.ref b] below meth c H locs cells1 slots1 Q (F0 m 1455 ls [])) (hw : WP K (A, B, L, X, M) H locs) (hl : lv_has ls 4 [(1, .ref (K.2.1 0)), (2, .ref (K.2.1 1000)), (3, .int (nI i)), (0, .ref b)]) : W p l e room_1 s m #[Value.ref b] below meth c H locs cells slots Q (F0 m 391 ls []) := by
  have hx := E.1
  have hb := E.2.1
  have hown := E.2.2.1
  have hts := E.2.2.2.2.1
  refine lv_aload_n hx hb dL_law_391 rfl (lv_at hl 0 rfl) ?_
  refine lv_aload_n hx hb dL_law_392 rfl (lv_at hl 3 rfl) ?_
  refine lv_iload_n hx hb dL_law_393 rfl (lv_at hl 2 rfl) ?_
  refine lv_iconst (v := nI 1) hx hb dL_law_394 (by decide) ?_
  refine lv_iadd hx hb dL_law_395 ?_
  refine r_scr (j := i + 1) hx hb hK hX hbl hw nI_addn (by omega) hL dL_law_396 ?_
  obtain ⟨ro, Ao, Bo, h1, h2, hR2⟩ := hSim T Ti A B L (xs (i + 1))  hR
  refine d_V (As := [.int (xs (i + 1))]) (v0 := some (.int ro)) hG E hw hl (m_X0_by l hG hC (rs := (B, L, X, M)) h1) (qX0 hC) rfl (cwV 1 hts (lw_V q879 q880 q881 q137 q882) rfl rfl rfl ⟨rfl, kd_X0_by⟩ ⟨Nat.le_of_ble_eq_true rfl, Nat.le_of_ble_eq_true rfl⟩) rfl (rest := []) (st1 := [.int ro]) rfl rfl rfl dL_law_397 ⟨(show cells ≤ 1200128 by omega), (show slots ≤ 5501098 by omega)⟩ (fun H locs hw => ?_)
  refine lv_aload_n hx hb dL_law_400 rfl (lv_at hl 1 rfl) ?_
  refine lv_aload_n hx hb dL_law_401 rfl (lv_at hl 3 rfl) ?_
  refine lv_iload_n hx hb dL_law_402 rfl (lv_at hl 2 rfl) ?_
  refine lv_iconst (v := nI 1) hx hb dL_law_403 (by decide) ?_
  refine lv_iadd hx hb dL_law_404 ?_
  refine r_scr (j := i + 1) hx hb hK hX hbl hw nI_addn (by omega) hL dL_law_405 ?_
  refine d_V (As := [.int (xs (i + 1))]) (v0 := some (.int ro)) hG E hw hl (m_X2_by l hG hM (A := Ao) (rs := (X, M)) h2) (qM0 hM) rfl (cwV 1 hts (lw_V q1675 q1676 q1677 q140 q1678) rfl rfl rfl ⟨rfl, kd_X2_by⟩ ⟨Nat.le_of_ble_eq_true rfl, Nat.le_of_ble_eq_true rfl⟩) rfl (rest := [.int ro]) (st1 := [.int ro, .int ro]) rfl rfl rfl dL_law_406 ⟨(show cells ≤ 1200128 by omega), (show slots ≤ 5501098 by omega)⟩ (fun H locs hw => ?_)
  refine lv_icmp_eq (tgt := 1455) hx hb dL_law_409 (by decide) (fun _ => ?_) (fun c => absurd rfl c)
  exact next T Ti ta Ao Bo L X M hR2 hH (by omega) (by omega) hw hl
set_option maxHeartbeats 4000000 in
theorem lc_call {p : Program} {l : Launch} {e : Env} {s : State} {m : MethodId} {below : List Frame} {meth : Method} {c : Code} {K : QK} {G : State → Prop} {Q : State → Prop} {b Ls i : Nat} {xs : Nat → Int32} {T Ti : Int32 → Option QT} {ta : Int32 → Nat} {A B : QA} {L : QL} {X : QX} {M : QM} {H : Heap} {locs : List Loc} {ls : Array Slot} {cells slots : Nat} {Rel : (Int32 → Option QT) → (Int32 → Option QT) → QA → QA → QL → Prop} (hSim : S_call Rel) (hG : QG G) (hC : QCl K) (hM : QMl K) (hK : K.1 = s.heap) (hX : va_X b Ls xs s s.heap) (hbl : b < s.heap.size) (hL : Ls ≤ 384) (hi : i + 5 < Ls) (E : EV K G p s m #[Value.ref b] meth c code "VaneCourtLaw" 4) (hc6 : cells + 6600 ≤ 1200128) (hs6 : slots + 78100 ≤ 5501098) (hR : Rel T Ti A B L) (hH : HW K G X M T Ti ta)
    (next : ∀ (T Ti : Int32 → Option QT) (ta : Int32 → Nat) (A B : QA) (L : QL) (X : QX) (M : QM), Rel T Ti A B L → HW K G X M T Ti ta → ∀ {H : Heap} {locs : List Loc} {ls : Array Slot} {cells1 slots1 : Nat}, cells1 ≤ cells + 6600 → slots1 ≤ slots + 78100 → WP K (A, B, L, X, M) H locs → lv_has ls 4 [(1, .ref (K.2.1 0)), (2, .ref (K.2.1 1000)), (3, .int (nI i)), (0, .ref b)] → W p l e room_1 s m #[Value.ref b] below meth c H locs cells1 slots1 Q (F0 m 1455 ls [])) (hw : WP K (A, B, L, X, M) H locs) (hl : lv_has ls 4 [(1, .ref (K.2.1 0)), (2, .ref (K.2.1 1000)), (3, .int (nI i)), (0, .ref b)]) : W p l e room_1 s m #[Value.ref b] below meth c H locs cells slots Q (F0 m 414 ls []) := by
  have hx := E.1
  have hb := E.2.1
  have hown := E.2.2.1
  have hts := E.2.2.2.2.1
  refine lv_aload_n hx hb dL_law_414 rfl (lv_at hl 0 rfl) ?_
  refine lv_aload_n hx hb dL_law_415 rfl (lv_at hl 3 rfl) ?_
  refine lv_iload_n hx hb dL_law_416 rfl (lv_at hl 2 rfl) ?_
  refine lv_iconst (v := nI 1) hx hb dL_law_417 (by decide) ?_
  refine lv_iadd hx hb dL_law_418 ?_
  refine r_scr (j := i + 1) hx hb hK hX hbl hw nI_addn (by omega) hL dL_law_419 ?_
  obtain ⟨ro, Ao, Bo, h1, h2, hR2⟩ := hSim T Ti A B L (xs (i + 1))  hR
  refine d_V (As := [.int (xs (i + 1))]) (v0 := some (.int ro)) hG E hw hl (m_X0_call l hG hC (rs := (B, L, X, M)) h1) (qX0 hC) rfl (cwV 1 hts (lw_V q1065 q1066 q1067 q137 q1068) rfl rfl rfl ⟨rfl, kd_X0_call⟩ ⟨Nat.le_of_ble_eq_true rfl, Nat.le_of_ble_eq_true rfl⟩) rfl (rest := []) (st1 := [.int ro]) rfl rfl rfl dL_law_420 ⟨(show cells ≤ 1200128 by omega), (show slots ≤ 5501098 by omega)⟩ (fun H locs hw => ?_)
  refine lv_aload_n hx hb dL_law_423 rfl (lv_at hl 1 rfl) ?_
  refine lv_aload_n hx hb dL_law_424 rfl (lv_at hl 3 rfl) ?_
  refine lv_iload_n hx hb dL_law_425 rfl (lv_at hl 2 rfl) ?_
  refine lv_iconst (v := nI 1) hx hb dL_law_426 (by decide) ?_
  refine lv_iadd hx hb dL_law_427 ?_
  refine r_scr (j := i + 1) hx hb hK hX hbl hw nI_addn (by omega) hL dL_law_428 ?_
  refine d_V (As := [.int (xs (i + 1))]) (v0 := some (.int ro)) hG E hw hl (m_X2_call l hG hM (A := Ao) (rs := (X, M)) h2) (qM0 hM) rfl (cwV 1 hts (lw_V q1683 q1684 q1685 q140 q1686) rfl rfl rfl ⟨rfl, kd_X2_call⟩ ⟨Nat.le_of_ble_eq_true rfl, Nat.le_of_ble_eq_true rfl⟩) rfl (rest := [.int ro]) (st1 := [.int ro, .int ro]) rfl rfl rfl dL_law_429 ⟨(show cells ≤ 1200128 by omega), (show slots ≤ 5501098 by omega)⟩ (fun H locs hw => ?_)
  refine lv_icmp_eq (tgt := 1455) hx hb dL_law_432 (by decide) (fun _ => ?_) (fun c => absurd rfl c)
  exact next T Ti ta Ao Bo L X M hR2 hH (by omega) (by omega) hw hl
set_option maxHeartbeats 4000000 in
theorem lc_delay {p : Program} {l : Launch} {e : Env} {s : State} {m : MethodId} {below : List Frame} {meth : Method} {c : Code} {K : QK} {G : State → Prop} {Q : State → Prop} {b Ls i : Nat} {xs : Nat → Int32} {T Ti : Int32 → Option QT} {ta : Int32 → Nat} {A B : QA} {L : QL} {X : QX} {M : QM} {H : Heap} {locs : List Loc} {ls : Array Slot} {cells slots : Nat} {Rel : (Int32 → Option QT) → (Int32 → Option QT) → QA → QA → QL → Prop} (hSim : S_delay Rel) (hG : QG G) (hC : QCl K) (hM : QMl K) (hK : K.1 = s.heap) (hX : va_X b Ls xs s s.heap) (hbl : b < s.heap.size) (hL : Ls ≤ 384) (hi : i + 5 < Ls) (E : EV K G p s m #[Value.ref b] meth c code "VaneCourtLaw" 4) (hc6 : cells + 6600 ≤ 1200128) (hs6 : slots + 78100 ≤ 5501098) (hR : Rel T Ti A B L) (hH : HW K G X M T Ti ta)
    (next : ∀ (T Ti : Int32 → Option QT) (ta : Int32 → Nat) (A B : QA) (L : QL) (X : QX) (M : QM), Rel T Ti A B L → HW K G X M T Ti ta → ∀ {H : Heap} {locs : List Loc} {ls : Array Slot} {cells1 slots1 : Nat}, cells1 ≤ cells + 6600 → slots1 ≤ slots + 78100 → WP K (A, B, L, X, M) H locs → lv_has ls 4 [(1, .ref (K.2.1 0)), (2, .ref (K.2.1 1000)), (3, .int (nI i)), (0, .ref b)] → W p l e room_1 s m #[Value.ref b] below meth c H locs cells1 slots1 Q (F0 m 1455 ls [])) (hw : WP K (A, B, L, X, M) H locs) (hl : lv_has ls 4 [(1, .ref (K.2.1 0)), (2, .ref (K.2.1 1000)), (3, .int (nI i)), (0, .ref b)]) : W p l e room_1 s m #[Value.ref b] below meth c H locs cells slots Q (F0 m 437 ls []) := by
  have hx := E.1
  have hb := E.2.1
  have hown := E.2.2.1
  have hts := E.2.2.2.2.1
  refine lv_aload_n hx hb dL_law_437 rfl (lv_at hl 0 rfl) ?_
  obtain ⟨ro, Ao, Bo, h1, h2, hR2⟩ := hSim T Ti A B L   hR
  refine d_V (As := []) (v0 := some (.int ro)) hG E hw hl (m_X0_delay l hG hC (rs := (B, L, X, M)) h1) (qX0 hC) rfl (cwV 0 hts (lw_V q1084 q1085 q1086 q137 q1087) rfl rfl rfl ⟨rfl, kd_X0_delay⟩ ⟨Nat.le_of_ble_eq_true rfl, Nat.le_of_ble_eq_true rfl⟩) rfl (rest := []) (st1 := [.int ro]) rfl rfl rfl dL_law_438 ⟨(show cells ≤ 1200128 by omega), (show slots ≤ 5501098 by omega)⟩ (fun H locs hw => ?_)
  refine lv_aload_n hx hb dL_law_441 rfl (lv_at hl 1 rfl) ?_
  refine d_V (As := []) (v0 := some (.int ro)) hG E hw hl (m_X2_delay l hG hM (A := Ao) (rs := (X, M)) h2) (qM0 hM) rfl (cwV 0 hts (lw_V q1711 q1712 q1713 q140 q1714) rfl rfl rfl ⟨rfl, kd_X2_delay⟩ ⟨Nat.le_of_ble_eq_true rfl, Nat.le_of_ble_eq_true rfl⟩) rfl (rest := [.int ro]) (st1 := [.int ro, .int ro]) rfl rfl rfl dL_law_442 ⟨(show cells ≤ 1200128 by omega), (show slots ≤ 5501098 by omega)⟩ (fun H locs hw => ?_)
  refine lv_icmp_eq (tgt := 1455) hx hb dL_law_445 (by decide) (fun _ => ?_) (fun c => absurd rfl c)
  exact next T Ti ta Ao Bo L X M hR2 hH (by omega) (by omega) hw hl
set_option maxHeartbeats 4000000 in
theorem lc_appeal {p : Program} {l : Launch} {e : Env} {s : State} {m : MethodId} {below : List Frame} {meth : Method} {c : Code} {K : QK} {G : State → Prop} {Q : State → Prop} {b Ls i : Nat} {xs : Nat → Int32} {T Ti : Int32 → Option QT} {ta : Int32 → Nat} {A B : QA} {L : QL} {X : QX} {M : QM} {H : Heap} {locs : List Loc} {ls : Array Slot} {cells slots : Nat} {Rel : (Int32 → Option QT) → (Int32 → Option QT) → QA → QA → QL → Prop} (hSim : S_appeal Rel) (hG : QG G) (hC : QCl K) (hM : QMl K) (hK : K.1 = s.heap) (hX : va_X b Ls xs s s.heap) (hbl : b < s.heap.size) (hL : Ls ≤ 384) (hi : i + 5 < Ls) (E : EV K G p s m #[Value.ref b] meth c code "VaneCourtLaw" 4) (hc6 : cells + 6600 ≤ 1200128) (hs6 : slots + 78100 ≤ 5501098) (hR : Rel T Ti A B L) (hH : HW K G X M T Ti ta)
    (next : ∀ (T Ti : Int32 → Option QT) (ta : Int32 → Nat) (A B : QA) (L : QL) (X : QX) (M : QM), Rel T Ti A B L → HW K G X M T Ti ta → ∀ {H : Heap} {locs : List Loc} {ls : Array Slot} {cells1 slots1 : Nat}, cells1 ≤ cells + 6600 → slots1 ≤ slots + 78100 → WP K (A, B, L, X, M) H locs → lv_has ls 4 [(1, .ref (K.2.1 0)), (2, .ref (K.2.1 1000)), (3, .int (nI i)), (0, .ref b)] → W p l e room_1 s m #[Value.ref b] below meth c H locs cells1 slots1 Q (F0 m 1455 ls [])) (hw : WP K (A, B, L, X, M) H locs) (hl : lv_has ls 4 [(1, .ref (K.2.1 0)), (2, .ref (K.2.1 1000)), (3, .int (nI i)), (0, .ref b)]) : W p l e room_1 s m #[Value.ref b] below meth c H locs cells slots Q (F0 m 450 ls []) := by
  have hx := E.1
  have hb := E.2.1
  have hown := E.2.2.1
  have hts := E.2.2.2.2.1
  refine lv_aload_n hx hb dL_law_450 rfl (lv_at hl 0 rfl) ?_
  refine lv_aload_n hx hb dL_law_451 rfl (lv_at hl 3 rfl) ?_
  refine lv_iload_n hx hb dL_law_452 rfl (lv_at hl 2 rfl) ?_
  refine lv_iconst (v := nI 1) hx hb dL_law_453 (by decide) ?_
  refine lv_iadd hx hb dL_law_454 ?_
  refine r_scr (j := i + 1) hx hb hK hX hbl hw nI_addn (by omega) hL dL_law_455 ?_
  obtain ⟨ro, Ao, Bo, h1, h2, hR2⟩ := hSim T Ti A B L (xs (i + 1))  hR
  refine d_V (As := [.int (xs (i + 1))]) (v0 := some (.int ro)) hG E hw hl (m_X0_appeal l hG hC (rs := (B, L, X, M)) h1) (qX0 hC) rfl (cwV 1 hts (lw_V q1092 q1093 q1094 q137 q1095) rfl rfl rfl ⟨rfl, kd_X0_appeal⟩ ⟨Nat.le_of_ble_eq_true rfl, Nat.le_of_ble_eq_true rfl⟩) rfl (rest := []) (st1 := [.int ro]) rfl rfl rfl dL_law_456 ⟨(show cells ≤ 1200128 by omega), (show slots ≤ 5501098 by omega)⟩ (fun H locs hw => ?_)
  refine lv_aload_n hx hb dL_law_459 rfl (lv_at hl 1 rfl) ?_
  refine lv_aload_n hx hb dL_law_460 rfl (lv_at hl 3 rfl) ?_
  refine lv_iload_n hx hb dL_law_461 rfl (lv_at hl 2 rfl) ?_
  refine lv_iconst (v := nI 1) hx hb dL_law_462 (by decide) ?_
  refine lv_iadd hx hb dL_law_463 ?_
  refine r_scr (j := i + 1) hx hb hK hX hbl hw nI_addn (by omega) hL dL_law_464 ?_
  refine d_V (As := [.int (xs (i + 1))]) (v0 := some (.int ro)) hG E hw hl (m_X2_appeal l hG hM (A := Ao) (rs := (X, M)) h2) (qM0 hM) rfl (cwV 1 hts (lw_V q1719 q1720 q1721 q140 q1722) rfl rfl rfl ⟨rfl, kd_X2_appeal⟩ ⟨Nat.le_of_ble_eq_true rfl, Nat.le_of_ble_eq_true rfl⟩) rfl (rest := [.int ro]) (st1 := [.int ro, .int ro]) rfl rfl rfl dL_law_465 ⟨(show cells ≤ 1200128 by omega), (show slots ≤ 5501098 by omega)⟩ (fun H locs hw => ?_)
  refine lv_icmp_eq (tgt := 1455) hx hb dL_law_468 (by decide) (fun _ => ?_) (fun c => absurd rfl c)
  exact next T Ti ta Ao Bo L X M hR2 hH (by omega) (by omega) hw hl
set_option maxHeartbeats 4000000 in
theorem lc_gust {p : Program} {l : Launch} {e : Env} {s : State} {m : MethodId} {below : List Frame} {meth : Method} {c : Code} {K : QK} {G : State → Prop} {Q : State → Prop} {b Ls i : Nat} {xs : Nat → Int32} {T Ti : Int32 → Option QT} {ta : Int32 → Nat} {A B : QA} {L : QL} {X : QX} {M : QM} {H : Heap} {locs : List Loc} {ls : Array Slot} {cells slots : Nat} {Rel : (Int32 → Option QT) → (Int32 → Option QT) → QA → QA → QL → Prop} (hSim : S_gust Rel) (hG : QG G) (hC : QCl K) (hM : QMl K) (hK : K.1 = s.heap) (hX : va_X b Ls xs s s.heap) (hbl : b < s.heap.size) (hL : Ls ≤ 384) (hi : i + 5 < Ls) (E : EV K G p s m #[Value.ref b] meth c code "VaneCourtLaw" 4) (hc6 : cells + 6600 ≤ 1200128) (hs6 : slots + 78100 ≤ 5501098) (hR : Rel T Ti A B L) (hH : HW K G X M T Ti ta)
    (next : ∀ (T Ti : Int32 → Option QT) (ta : Int32 → Nat) (A B : QA) (L : QL) (X : QX) (M : QM), Rel T Ti A B L → HW K G X M T Ti ta → ∀ {H : Heap} {locs : List Loc} {ls : Array Slot} {cells1 slots1 : Nat}, cells1 ≤ cells + 6600 → slots1 ≤ slots + 78100 → WP K (A, B, L, X, M) H locs → lv_has ls 4 [(1, .ref (K.2.1 0)), (2, .ref (K.2.1 1000)), (3, .int (nI i)), (0, .ref b)] → W p l e room_1 s m #[Value.ref b] below meth c H locs cells1 slots1 Q (F0 m 1455 ls [])) (hw : WP K (A, B, L, X, M) H locs) (hl : lv_has ls 4 [(1, .ref (K.2.1 0)), (2, .ref (K.2.1 1000)), (3, .int (nI i)), (0, .ref b)]) : W p l e room_1 s m #[Value.ref b] below meth c H locs cells slots Q (F0 m 473 ls []) := by
  have hx := E.1
  have hb := E.2.1
  have hown := E.2.2.1
  have hts := E.2.2.2.2.1
  refine lv_aload_n hx hb dL_law_473 rfl (lv_at hl 0 rfl) ?_
  refine lv_aload_n hx hb dL_law_474 rfl (lv_at hl 3 rfl) ?_
  refine lv_iload_n hx hb dL_law_475 rfl (lv_at hl 2 rfl) ?_
  refine lv_iconst (v := nI 1) hx hb dL_law_476 (by decide) ?_
  refine lv_iadd hx hb dL_law_477 ?_
  refine r_scr (j := i + 1) hx hb hK hX hbl hw nI_addn (by omega) hL dL_law_478 ?_
  refine lv_aload_n hx hb dL_law_479 rfl (lv_at hl 3 rfl) ?_
  refine lv_iload_n hx hb dL_law_480 rfl (lv_at hl 2 rfl) ?_
  refine lv_iconst (v := nI 2) hx hb dL_law_481 (by decide) ?_
  refine lv_iadd hx hb dL_law_482 ?_
  refine r_scr (j := i + 2) hx hb hK hX hbl hw nI_addn (by omega) hL dL_law_483 ?_
  obtain ⟨ro, Ao, Bo, h1, h2, hR2⟩ := hSim T Ti A B L (xs (i + 1)) (xs (i + 2))  hR
  refine d_V (As := [.int (xs (i + 1)), .int (xs (i + 2))]) (v0 := some (.int ro)) hG E hw hl (m_X0_gust l hG hC (rs := (B, L, X, M)) h1) (qX0 hC) rfl (cwV 2 hts (lw_V q1104 q1105 q1106 q137 q1107) rfl rfl rfl ⟨rfl, kd_X0_gust⟩ ⟨Nat.le_of_ble_eq_true rfl, Nat.le_of_ble_eq_true rfl⟩) rfl (rest := []) (st1 := [.int ro]) rfl rfl rfl dL_law_484 ⟨(show cells ≤ 1200128 by omega), (show slots ≤ 5501098 by omega)⟩ (fun H locs hw => ?_)
  refine lv_aload_n hx hb dL_law_487 rfl (lv_at hl 1 rfl) ?_
  refine lv_aload_n hx hb dL_law_488 rfl (lv_at hl 3 rfl) ?_
  refine lv_iload_n hx hb dL_law_489 rfl (lv_at hl 2 rfl) ?_
  refine lv_iconst (v := nI 1) hx hb dL_law_490 (by decide) ?_
  refine lv_iadd hx hb dL_law_491 ?_
  refine r_scr (j := i + 1) hx hb hK hX hbl hw nI_addn (by omega) hL dL_law_492 ?_
  refine lv_aload_n hx hb dL_law_493 rfl (lv_at hl 3 rfl) ?_
  refine lv_iload_n hx hb dL_law_494 rfl (lv_at hl 2 rfl) ?_
  refine lv_iconst (v := nI 2) hx hb dL_law_495 (by decide) ?_
  refine lv_iadd hx hb dL_law_496 ?_
  refine r_scr (j := i + 2) hx hb hK hX hbl hw nI_addn (by omega) hL dL_law_497 ?_
  refine d_V (As := [.int (xs (i + 1)), .int (xs (i + 2))]) (v0 := some (.int ro)) hG E hw hl (m_X2_gust l hG hM (A := Ao) (rs := (X, M)) h2) (qM0 hM) rfl (cwV 2 hts (lw_V q1731 q1732 q1733 q140 q1734) rfl rfl rfl ⟨rfl, kd_X2_gust⟩ ⟨Nat.le_of_ble_eq_true rfl, Nat.le_of_ble_eq_true rfl⟩) rfl (rest := [.int ro]) (st1 := [.int ro, .int ro]) rfl rfl rfl dL_law_498 ⟨(show cells ≤ 1200128 by omega), (show slots ≤ 5501098 by omega)⟩ (fun H locs hw => ?_)
  refine lv_icmp_eq (tgt := 1455) hx hb dL_law_501 (by decide) (fun _ => ?_) (fun c => absurd rfl c)
  exact next T Ti ta Ao Bo L X M hR2 hH (by omega) (by omega) hw hl
set_option maxHeartbeats 4000000 in
theorem lc_withdraw {p : Program} {l : Launch} {e : Env} {s : State} {m : MethodId} {below : List Frame} {meth : Method} {c : Code} {K : QK} {G : State → Prop} {Q : State → Prop} {b Ls i : Nat} {xs : Nat → Int32} {T Ti : Int32 → Option QT} {ta : Int32 → Nat} {A B : QA} {L : QL} {X : QX} {M : QM} {H : Heap} {locs : List Loc} {ls : Array Slot} {cells slots : Nat} {Rel : (Int32 → Option QT) → (Int32 → Option QT) → QA → QA → QL → Prop} (hSim : S_withdraw Rel) (hG : QG G) (hC : QCl K) (hM : QMl K) (hK : K.1 = s.heap) (hX : va_X b Ls xs s s.heap) (hbl : b < s.heap.size) (hL : Ls ≤ 384) (hi : i + 5 < Ls) (E : EV K G p s m #[Value.ref b] meth c code "VaneCourtLaw" 4) (hc6 : cells + 6600 ≤ 1200128) (hs6 : slots + 78100 ≤ 5501098) (hR : Rel T Ti A B L) (hH : HW K G X M T Ti ta)
    (next : ∀ (T Ti : Int32 → Option QT) (ta : Int32 → Nat) (A B : QA) (L : QL) (X : QX) (M : QM), Rel T Ti A B L → HW K G X M T Ti ta → ∀ {H : Heap} {locs : List Loc} {ls : Array Slot} {cells1 slots1 : Nat}, cells1 ≤ cells + 6600 → slots1 ≤ slots + 78100 → WP K (A, B, L, X, M) H locs → lv_has ls 4 [(1, .ref (K.2.1 0)), (2, .ref (K.2.1 1000)), (3, .int (nI i)), (0, .ref b)] → W p l e room_1 s m #[Value.ref b] below meth c H locs cells1 slots1 Q (F0 m 1455 ls [])) (hw : WP K (A, B, L, X, M) H locs) (hl : lv_has ls 4 [(1, .ref (K.2.1 0)), (2, .ref (K.2.1 1000)), (3, .int (nI i)), (0, .ref b)]) : W p l e room_1 s m #[Value.ref b] below meth c H locs cells slots Q (F0 m 506 ls []) := by
  have hx := E.1
  have hb := E.2.1
  have hown := E.2.2.1
  have hts := E.2.2.2.2.1
  refine lv_aload_n hx hb dL_law_506 rfl (lv_at hl 0 rfl) ?_
  obtain ⟨ro, Ao, Bo, h1, h2, hR2⟩ := hSim T Ti A B L   hR
  refine d_V (As := []) (v0 := some (.int ro)) hG E hw hl (m_X0_withdraw l hG hC (rs := (B, L, X, M)) h1) (qX0 hC) rfl (cwV 0 hts (lw_V q1108 q1109 q1110 q137 q1111) rfl rfl rfl ⟨rfl, kd_X0_withdraw⟩ ⟨Nat.le_of_ble_eq_true rfl, Nat.le_of_ble_eq_true rfl⟩) rfl (rest := []) (st1 := [.int ro]) rfl rfl rfl dL_law_507 ⟨(show cells ≤ 1200128 by omega), (show slots ≤ 5501098 by omega)⟩ (fun H locs hw => ?_)
  refine lv_aload_n hx hb dL_law_510 rfl (lv_at hl 1 rfl) ?_
  refine d_V (As := []) (v0 := some (.int ro)) hG E hw hl (m_X2_withdraw l hG hM (A := Ao) (rs := (X, M)) h2) (qM0 hM) rfl (cwV 0 hts (lw_V q1735 q1736 q1737 q140 q1738) rfl rfl rfl ⟨rfl, kd_X2_withdraw⟩ ⟨Nat.le_of_ble_eq_true rfl, Nat.le_of_ble_eq_true rfl⟩) rfl (rest := [.int ro]) (st1 := [.int ro, .int ro]) rfl rfl rfl dL_law_511 ⟨(show cells ≤ 1200128 by omega), (show slots ≤ 5501098 by omega)⟩ (fun H locs hw => ?_)
  refine lv_icmp_eq (tgt := 1455) hx hb dL_law_514 (by decide) (fun _ => ?_) (fun c => absurd rfl c)
  exact next T Ti ta Ao Bo L X M hR2 hH (by omega) (by omega) hw hl
set_option maxHeartbeats 4000000 in
theorem lc_hour {p : Program} {l : Launch} {e : Env} {s : State} {m : MethodId} {below : List Frame} {meth : Method} {c : Code} {K : QK} {G : State → Prop} {Q : State → Prop} {b Ls i : Nat} {xs : Nat → Int32} {T Ti : Int32 → Option QT} {ta : Int32 → Nat} {A B : QA} {L : QL} {X : QX} {M : QM} {H : Heap} {locs : List Loc} {ls : Array Slot} {cells slots : Nat} {Rel : (Int32 → Option QT) → (Int32 → Option QT) → QA → QA → QL → Prop} (hSim : S_hour Rel) (hG : QG G) (hC : QCl K) (hM : QMl K) (hK : K.1 = s.heap) (hX : va_X b Ls xs s s.heap) (hbl : b < s.heap.size) (hL : Ls ≤ 384) (hi : i + 5 < Ls) (E : EV K G p s m #[Value.ref b] meth c code "VaneCourtLaw" 4) (hc6 : cells + 6600 ≤ 1200128) (hs6 : slots + 78100 ≤ 5501098) (hR : Rel T Ti A B L) (hH : HW K G X M T Ti ta)
    (next : ∀ (T Ti : Int32 → Option QT) (ta : Int32 → Nat) (A B : QA) (L : QL) (X : QX) (M : QM), Rel T Ti A B L → HW K G X M T Ti ta → ∀ {H : Heap} {locs : List Loc} {ls : Array Slot} {cells1 slots1 : Nat}, cells1 ≤ cells + 6600 → slots1 ≤ slots + 78100 → WP K (A, B, L, X, M) H locs → lv_has ls 4 [(1, .ref (K.2.1 0)), (2, .ref (K.2.1 1000)), (3, .int (nI i)), (0, .ref b)] → W p l e room_1 s m #[Value.ref b] below meth c H locs cells1 slots1 Q (F0 m 1455 ls [])) (hw : WP K (A, B, L, X, M) H locs) (hl : lv_has ls 4 [(1, .ref (K.2.1 0)), (2, .ref (K.2.1 1000)), (3, .int (nI i)), (0, .ref b)]) : W p l e room_1 s m #[Value.ref b] below meth c H locs cells slots Q (F0 m 519 ls []) := by
  have hx := E.1
  have hb := E.2.1
  have hown := E.2.2.1
  have hts := E.2.2.2.2.1
  refine lv_aload_n hx hb dL_law_519 rfl (lv_at hl 0 rfl) ?_
  refine lv_aload_n hx hb dL_law_520 rfl (lv_at hl 3 rfl) ?_
  refine lv_iload_n hx hb dL_law_521 rfl (lv_at hl 2 rfl) ?_
  refine lv_iconst (v := nI 1) hx hb dL_law_522 (by decide) ?_
  refine lv_iadd hx hb dL_law_523 ?_
  refine r_scr (j := i + 1) hx hb hK hX hbl hw nI_addn (by omega) hL dL_law_524 ?_
  obtain ⟨ro, Ao, Bo, Lo, h1, h2, hR2⟩ := hSim T Ti A B L (xs (i + 1))  hR
  refine d_V (As := [.int (xs (i + 1))]) (v0 := some (.int ro)) hG E hw hl (m_X0_hour l hG hC (rs := (B, L, X, M)) (show QTx K G (B, L, X, M).2.2.1 (B, L, X, M).2.2.2 T ta from hH.1) h1) (qX0 hC) rfl (cwV 1 hts (lw_V q887 q888 q889 q137 q890) rfl rfl rfl ⟨rfl, kd_X0_hour⟩ ⟨Nat.le_of_ble_eq_true rfl, Nat.le_of_ble_eq_true rfl⟩) rfl (rest := []) (st1 := [.int ro]) rfl rfl rfl dL_law_525 ⟨(show cells ≤ 1200128 by omega), (show slots ≤ 5501098 by omega)⟩ (fun H locs hw => ?_)
  refine lv_aload_n hx hb dL_law_528 rfl (lv_at hl 1 rfl) ?_
  refine lv_aload_n hx hb dL_law_529 rfl (lv_at hl 3 rfl) ?_
  refine lv_iload_n hx hb dL_law_530 rfl (lv_at hl 2 rfl) ?_
  refine lv_iconst (v := nI 1) hx hb dL_law_531 (by decide) ?_
  refine lv_iadd hx hb dL_law_532 ?_
  refine r_scr (j := i + 1) hx hb hK hX hbl hw nI_addn (by omega) hL dL_law_533 ?_
  refine d_V (As := [.int (xs (i + 1))]) (v0 := some (.int ro)) hG E hw hl (m_X2_hour l hG hM (A := Ao) (rs := (X, M)) h2) (qM0 hM) rfl (cwV 1 hts (lw_V q1743 q1744 q1745 q140 q1746) rfl rfl rfl ⟨rfl, kd_X2_hour⟩ ⟨Nat.le_of_ble_eq_true rfl, Nat.le_of_ble_eq_true rfl⟩) rfl (rest := [.int ro]) (st1 := [.int ro, .int ro]) rfl rfl rfl dL_law_534 ⟨(show cells ≤ 1200128 by omega), (show slots ≤ 5501098 by omega)⟩ (fun H locs hw => ?_)
  refine lv_icmp_eq (tgt := 1455) hx hb dL_law_537 (by decide) (fun _ => ?_) (fun c => absurd rfl c)
  exact next T Ti ta Ao Bo Lo X M hR2 hH (by omega) (by omega) hw hl
set_option maxHeartbeats 4000000 in
theorem lc_played {p : Program} {l : Launch} {e : Env} {s : State} {m : MethodId} {below : List Frame} {meth : Method} {c : Code} {K : QK} {G : State → Prop} {Q : State → Prop} {b Ls i : Nat} {xs : Nat → Int32} {T Ti : Int32 → Option QT} {ta : Int32 → Nat} {A B : QA} {L : QL} {X : QX} {M : QM} {H : Heap} {locs : List Loc} {ls : Array Slot} {cells slots : Nat} {Rel : (Int32 → Option QT) → (Int32 → Option QT) → QA → QA → QL → Prop} (hSim : S_played Rel) (hG : QG G) (hC : QCl K) (hM : QMl K) (hK : K.1 = s.heap) (hX : va_X b Ls xs s s.heap) (hbl : b < s.heap.size) (hL : Ls ≤ 384) (hi : i + 5 < Ls) (E : EV K G p s m #[Value.ref b] meth c code "VaneCourtLaw" 4) (hc6 : cells + 6600 ≤ 1200128) (hs6 : slots + 78100 ≤ 5501098) (hR : Rel T Ti A B L) (hH : HW K G X M T Ti ta)
    (next : ∀ (T Ti : Int32 → Option QT) (ta : Int32 → Nat) (A B : QA) (L : QL) (X : QX) (M : QM), Rel T Ti A B L → HW K G X M T Ti ta → ∀ {H : Heap} {locs : List Loc} {ls : Array Slot} {cells1 slots1 : Nat}, cells1 ≤ cells + 6600 → slots1 ≤ slots + 78100 → WP K (A, B, L, X, M) H locs → lv_has ls 4 [(1, .ref (K.2.1 0)), (2, .ref (K.2.1 1000)), (3, .int (nI i)), (0, .ref b)] → W p l e room_1 s m #[Value.ref b] below meth c H locs cells1 slots1 Q (F0 m 1455 ls [])) (hw : WP K (A, B, L, X, M) H locs) (hl : lv_has ls 4 [(1, .ref (K.2.1 0)), (2, .ref (K.2.1 1000)), (3, .int (nI i)), (0, .ref b)]) : W p l e room_1 s m #[Value.ref b] below meth c H locs cells slots Q (F0 m 542 ls []) := by
  have hx := E.1
  have hb := E.2.1
  have hown := E.2.2.1
  have hts := E.2.2.2.2.1
  refine lv_aload_n hx hb dL_law_542 rfl (lv_at hl 0 rfl) ?_
  refine lv_aload_n hx hb dL_law_543 rfl (lv_at hl 3 rfl) ?_
  refine lv_iload_n hx hb dL_law_544 rfl (lv_at hl 2 rfl) ?_
  refine lv_iconst (v := nI 1) hx hb dL_law_545 (by decide) ?_
  refine lv_iadd hx hb dL_law_546 ?_
  refine r_scr (j := i + 1) hx hb hK hX hbl hw nI_addn (by omega) hL dL_law_547 ?_
  obtain ⟨ro, Ao, Bo, Lo, h1, h2, hR2⟩ := hSim T Ti A B L (xs (i + 1))  hR
  refine c_V (As := [.int (xs (i + 1))]) (rest := []) hG E hw (m_X0_played l hG hC hH.1 h1) (qX0 hC) rfl (cwV 1 hts (lw_V q1115 q1116 q1117 q137 q1118) rfl rfl rfl ⟨rfl, kd_X0_played⟩ ⟨Nat.le_of_ble_eq_true rfl, Nat.le_of_ble_eq_true rfl⟩) hl rfl rfl (Nat.le_of_ble_eq_true rfl) dL_law_548 ⟨(show cells + 24 ≤ 1200128 by omega), (show slots + 96 ≤ 5501098 by omega)⟩ (fun v w1 H locs hP hw => ?_)
  obtain ⟨rfl, M1, rfl, hx1⟩ := hP
  refine W.eq (g2 := F0 m 551 ls [.int ro]) rfl ?_
  refine lv_aload_n hx hb dL_law_551 rfl (lv_at hl 1 rfl) ?_
  refine lv_aload_n hx hb dL_law_552 rfl (lv_at hl 3 rfl) ?_
  refine lv_iload_n hx hb dL_law_553 rfl (lv_at hl 2 rfl) ?_
  refine lv_iconst (v := nI 1) hx hb dL_law_554 (by decide) ?_
  refine lv_iadd hx hb dL_law_555 ?_
  refine r_scr (j := i + 1) hx hb hK hX hbl hw nI_addn (by omega) hL dL_law_556 ?_
  refine d_V (As := [.int (xs (i + 1))]) (v0 := some (.int ro)) hG E hw hl (m_X2_played l hG hM (A := Ao) (rs := (X, M1)) h2) (qM0 hM) rfl (cwV 1 hts (lw_V q1831 q1832 q1833 q140 q1834) rfl rfl rfl ⟨rfl, kd_X2_played⟩ ⟨Nat.le_of_ble_eq_true rfl, Nat.le_of_ble_eq_true rfl⟩) rfl (rest := [.int ro]) (st1 := [.int ro, .int ro]) rfl rfl rfl dL_law_557 ⟨(show cells + 24 ≤ 1200128 by omega), (show slots + 96 ≤ 5501098 by omega)⟩ (fun H locs hw => ?_)
  refine lv_icmp_eq (tgt := 1455) hx hb dL_law_560 (by decide) (fun _ => ?_) (fun c => absurd rfl c)
  exact next T Ti ta Ao Bo Lo X M1 hR2 (hH.ext hx1) (by omega) (by omega) hw hl
set_option maxHeartbeats 4000000 in
theorem lc_decades {p : Program} {l : Launch} {e : Env} {s : State} {m : MethodId} {below : List Frame} {meth : Method} {c : Code} {K : QK} {G : State → Prop} {Q : State → Prop} {b Ls i : Nat} {xs : Nat → Int32} {T Ti : Int32 → Option QT} {ta : Int32 → Nat} {A B : QA} {L : QL} {X : QX} {M : QM} {H : Heap} {locs : List Loc} {ls : Array Slot} {cells slots : Nat} {Rel : (Int32 → Option QT) → (Int32 → Option QT) → QA → QA → QL → Prop} (hSim : S_decades Rel) (hG : QG G) (hC : QCl K) (hM : QMl K) (hK : K.1 = s.heap) (hX : va_X b Ls xs s s.heap) (hbl : b < s.heap.size) (hL : Ls ≤ 384) (hi : i + 5 < Ls) (E : EV K G p s m #[Value.ref b] meth c code "VaneCourtLaw" 4) (hc6 : cells + 6600 ≤ 1200128) (hs6 : slots + 78100 ≤ 5501098) (hR : Rel T Ti A B L) (hH : HW K G X M T Ti ta)
    (next : ∀ (T Ti : Int32 → Option QT) (ta : Int32 → Nat) (A B : QA) (L : QL) (X : QX) (M : QM), Rel T Ti A B L → HW K G X M T Ti ta → ∀ {H : Heap} {locs : List Loc} {ls : Array Slot} {cells1 slots1 : Nat}, cells1 ≤ cells + 6600 → slots1 ≤ slots + 78100 → WP K (A, B, L, X, M) H locs → lv_has ls 4 [(1, .ref (K.2.1 0)), (2, .ref (K.2.1 1000)), (3, .int (nI i)), (0, .ref b)] → W p l e room_1 s m #[Value.ref b] below meth c H locs cells1 slots1 Q (F0 m 1455 ls [])) (hw : WP K (A, B, L, X, M) H locs) (hl : lv_has ls 4 [(1, .ref (K.2.1 0)), (2, .ref (K.2.1 1000)), (3, .int (nI i)), (0, .ref b)]) : W p l e room_1 s m #[Value.ref b] below meth c H locs cells slots Q (F0 m 565 ls []) := by
  have hx := E.1
  have hb := E.2.1
  have hown := E.2.2.1
  have hts := E.2.2.2.2.1
  refine lv_aload_n hx hb dL_law_565 rfl (lv_at hl 0 rfl) ?_
  refine lv_aload_n hx hb dL_law_566 rfl (lv_at hl 3 rfl) ?_
  refine lv_iload_n hx hb dL_law_567 rfl (lv_at hl 2 rfl) ?_
  refine lv_iconst (v := nI 1) hx hb dL_law_568 (by decide) ?_
  refine lv_iadd hx hb dL_law_569 ?_
  refine r_scr (j := i + 1) hx hb hK hX hbl hw nI_addn (by omega) hL dL_law_570 ?_
  refine lv_aload_n hx hb dL_law_571 rfl (lv_at hl 3 rfl) ?_
  refine lv_iload_n hx hb dL_law_572 rfl (lv_at hl 2 rfl) ?_
  refine lv_iconst (v := nI 2) hx hb dL_law_573 (by decide) ?_
  refine lv_iadd hx hb dL_law_574 ?_
  refine r_scr (j := i + 2) hx hb hK hX hbl hw nI_addn (by omega) hL dL_law_575 ?_
  obtain ⟨ro, Ao, Bo, Lo, h1, h2, hR2⟩ := hSim T Ti A B L (xs (i + 1)) (xs (i + 2))  hR
  refine d_V (As := [.int (xs (i + 1)), .int (xs (i + 2))]) (v0 := some (.int ro)) hG E hw hl (m_X0_decades l hG hC (rs := (B, L, X, M)) (show QTx K G (B, L, X, M).2.2.1 (B, L, X, M).2.2.2 T ta from hH.1) h1) (qX0 hC) rfl (cwV 2 hts (lw_V q1157 q1158 q1159 q137 q1160) rfl rfl rfl ⟨rfl, kd_X0_decades⟩ ⟨Nat.le_of_ble_eq_true rfl, Nat.le_of_ble_eq_true rfl⟩) rfl (rest := []) (st1 := [.int ro]) rfl rfl rfl dL_law_576 ⟨(show cells ≤ 1200128 by omega), (show slots ≤ 5501098 by omega)⟩ (fun H locs hw => ?_)
  refine lv_aload_n hx hb dL_law_579 rfl (lv_at hl 1 rfl) ?_
  refine lv_aload_n hx hb dL_law_580 rfl (lv_at hl 3 rfl) ?_
  refine lv_iload_n hx hb dL_law_581 rfl (lv_at hl 2 rfl) ?_
  refine lv_iconst (v := nI 1) hx hb dL_law_582 (by decide) ?_
  refine lv_iadd hx hb dL_law_583 ?_
  refine r_scr (j := i + 1) hx hb hK hX hbl hw nI_addn (by omega) hL dL_law_584 ?_
  refine lv_aload_n hx hb dL_law_585 rfl (lv_at hl 3 rfl) ?_
  refine lv_iload_n hx hb dL_law_586 rfl (lv_at hl 2 rfl) ?_
  refine lv_iconst (v := nI 2) hx hb dL_law_587 (by decide) ?_
  refine lv_iadd hx hb dL_law_588 ?_
  refine r_scr (j := i + 2) hx hb hK hX hbl hw nI_addn (by omega) hL dL_law_589 ?_
  refine d_V (As := [.int (xs (i + 1)), .int (xs (i + 2))]) (v0 := some (.int ro)) hG E hw hl (m_X2_decades l hG hM (A := Ao) (rs := (X, M)) h2) (qM0 hM) rfl (cwV 2 hts (lw_V q1845 q1846 q1847 q140 q1848) rfl rfl rfl ⟨rfl, kd_X2_decades⟩ ⟨Nat.le_of_ble_eq_true rfl, Nat.le_of_ble_eq_true rfl⟩) rfl (rest := [.int ro]) (st1 := [.int ro, .int ro]) rfl rfl rfl dL_law_590 ⟨(show cells ≤ 1200128 by omega), (show slots ≤ 5501098 by omega)⟩ (fun H locs hw => ?_)
  refine lv_icmp_eq (tgt := 1455) hx hb dL_law_593 (by decide) (fun _ => ?_) (fun c => absurd rfl c)
  exact next T Ti ta Ao Bo Lo X M hR2 hH (by omega) (by omega) hw hl
set_option maxHeartbeats 4000000 in
theorem lc_undo {p : Program} {l : Launch} {e : Env} {s : State} {m : MethodId} {below : List Frame} {meth : Method} {c : Code} {K : QK} {G : State → Prop} {Q : State → Prop} {b Ls i : Nat} {xs : Nat → Int32} {T Ti : Int32 → Option QT} {ta : Int32 → Nat} {A B : QA} {L : QL} {X : QX} {M : QM} {H : Heap} {locs : List Loc} {ls : Array Slot} {cells slots : Nat} {Rel : (Int32 → Option QT) → (Int32 → Option QT) → QA → QA → QL → Prop} (hSim : S_undo Rel) (hG : QG G) (hC : QCl K) (hM : QMl K) (hK : K.1 = s.heap) (hX : va_X b Ls xs s s.heap) (hbl : b < s.heap.size) (hL : Ls ≤ 384) (hi : i + 5 < Ls) (E : EV K G p s m #[Value.ref b] meth c code "VaneCourtLaw" 4) (hc6 : cells + 6600 ≤ 1200128) (hs6 : slots + 78100 ≤ 5501098) (hR : Rel T Ti A B L) (hH : HW K G X M T Ti ta)
    (next : ∀ (T Ti : Int32 → Option QT) (ta : Int32 → Nat) (A B : QA) (L : QL) (X : QX) (M : QM), Rel T Ti A B L → HW K G X M T Ti ta → ∀ {H : Heap} {locs : List Loc} {ls : Array Slot} {cells1 slots1 : Nat}, cells1 ≤ cells + 6600 → slots1 ≤ slots + 78100 → WP K (A, B, L, X, M) H locs → lv_has ls 4 [(1, .ref (K.2.1 0)), (2, .ref (K.2.1 1000)), (3, .int (nI i)), (0, .ref b)] → W p l e room_1 s m #[Value.ref b] below meth c H locs cells1 slots1 Q (F0 m 1455 ls [])) (hw : WP K (A, B, L, X, M) H locs) (hl : lv_has ls 4 [(1, .ref (K.2.1 0)), (2, .ref (K.2.1 1000)), (3, .int (nI i)), (0, .ref b)]) : W p l e room_1 s m #[Value.ref b] below meth c H locs cells slots Q (F0 m 598 ls []) := by
  have hx := E.1
  have hb := E.2.1
  have hown := E.2.2.1
  have hts := E.2.2.2.2.1
  refine lv_aload_n hx hb dL_law_598 rfl (lv_at hl 0 rfl) ?_
  obtain ⟨ro, Ao, Bo, h1, h2, hR2⟩ := hSim T Ti A B L   hR
  refine d_V (As := []) (v0 := some (.int ro)) hG E hw hl (m_X0_undo l hG hC (rs := (B, L, X, M)) h1) (qX0 hC) rfl (cwV 0 hts (lw_V q1165 q1166 q1167 q137 q1168) rfl rfl rfl ⟨rfl, kd_X0_undo⟩ ⟨Nat.le_of_ble_eq_true rfl, Nat.le_of_ble_eq_true rfl⟩) rfl (rest := []) (st1 := [.int ro]) rfl rfl rfl dL_law_599 ⟨(show cells ≤ 1200128 by omega), (show slots ≤ 5501098 by omega)⟩ (fun H locs hw => ?_)
  refine lv_aload_n hx hb dL_law_602 rfl (lv_at hl 1 rfl) ?_
  refine d_V (As := []) (v0 := some (.int ro)) hG E hw hl (m_X2_undo l hG hM (A := Ao) (rs := (X, M)) h2) (qM0 hM) rfl (cwV 0 hts (lw_V q1679 q1680 q1681 q140 q1682) rfl rfl rfl ⟨rfl, kd_X2_undo⟩ ⟨Nat.le_of_ble_eq_true rfl, Nat.le_of_ble_eq_true rfl⟩) rfl (rest := [.int ro]) (st1 := [.int ro, .int ro]) rfl rfl rfl dL_law_603 ⟨(show cells ≤ 1200128 by omega), (show slots ≤ 5501098 by omega)⟩ (fun H locs hw => ?_)
  refine lv_icmp_eq (tgt := 1455) hx hb dL_law_606 (by decide) (fun _ => ?_) (fun c => absurd rfl c)
  exact next T Ti ta Ao Bo L X M hR2 hH (by omega) (by omega) hw hl
set_option maxHeartbeats 4000000 in
theorem lc_ofCase {p : Program} {l : Launch} {e : Env} {s : State} {m : MethodId} {below : List Frame} {meth : Method} {c : Code} {K : QK} {G : State → Prop} {Q : State → Prop} {b Ls i : Nat} {xs : Nat → Int32} {T Ti : Int32 → Option QT} {ta : Int32 → Nat} {A B : QA} {L : QL} {X : QX} {M : QM} {H : Heap} {locs : List Loc} {ls : Array Slot} {cells slots : Nat} {Rel : (Int32 → Option QT) → (Int32 → Option QT) → QA → QA → QL → Prop} (hSim : S_ofCase Rel) (hG : QG G) (hC : QCl K) (hM : QMl K) (hK : K.1 = s.heap) (hX : va_X b Ls xs s s.heap) (hbl : b < s.heap.size) (hL : Ls ≤ 384) (hi : i + 5 < Ls) (E : EV K G p s m #[Value.ref b] meth c code "VaneCourtLaw" 4) (hc6 : cells + 6600 ≤ 1200128) (hs6 : slots + 78100 ≤ 5501098) (hR : Rel T Ti A B L) (hH : HW K G X M T Ti ta)
    (next : ∀ (T Ti : Int32 → Option QT) (ta : Int32 → Nat) (A B : QA) (L : QL) (X : QX) (M : QM), Rel T Ti A B L → HW K G X M T Ti ta → ∀ {H : Heap} {locs : List Loc} {ls : Array Slot} {cells1 slots1 : Nat}, cells1 ≤ cells + 6600 → slots1 ≤ slots + 78100 → WP K (A, B, L, X, M) H locs → lv_has ls 4 [(1, .ref (K.2.1 0)), (2, .ref (K.2.1 1000)), (3, .int (nI i)), (0, .ref b)] → W p l e room_1 s m #[Value.ref b] below meth c H locs cells1 slots1 Q (F0 m 1455 ls [])) (hw : WP K (A, B, L, X, M) H locs) (hl : lv_has ls 4 [(1, .ref (K.2.1 0)), (2, .ref (K.2.1 1000)), (3, .int (nI i)), (0, .ref b)]) : W p l e room_1 s m #[Value.ref b] below meth c H locs cells slots Q (F0 m 611 ls []) := by
  have hx := E.1
  have hb := E.2.1
  have hown := E.2.2.1
  have hts := E.2.2.2.2.1
  refine lv_aload_n hx hb dL_law_611 rfl (lv_at hl 0 rfl) ?_
  refine lv_aload_n hx hb dL_law_612 rfl (lv_at hl 3 rfl) ?_
  refine lv_iload_n hx hb dL_law_613 rfl (lv_at hl 2 rfl) ?_
  refine lv_iconst (v := nI 1) hx hb dL_law_614 (by decide) ?_
  refine lv_iadd hx hb dL_law_615 ?_
  refine r_scr (j := i + 1) hx hb hK hX hbl hw nI_addn (by omega) hL dL_law_616 ?_
  refine lv_aload_n hx hb dL_law_617 rfl (lv_at hl 3 rfl) ?_
  refine lv_iload_n hx hb dL_law_618 rfl (lv_at hl 2 rfl) ?_
  refine lv_iconst (v := nI 2) hx hb dL_law_619 (by decide) ?_
  refine lv_iadd hx hb dL_law_620 ?_
  refine r_scr (j := i + 2) hx hb hK hX hbl hw nI_addn (by omega) hL dL_law_621 ?_
  obtain ⟨ro, h1, h2, hR2⟩ := hSim T Ti A B L (xs (i + 1)) (xs (i + 2))  hR
  refine d_V (As := [.int (xs (i + 1)), .int (xs (i + 2))]) (v0 := some (.int ro)) hG E hw hl (m_X0_ofCase l hG hC (rs := (B, L, X, M)) h1) (qX0 hC) rfl (cwV 2 hts (lw_V q1170 q1171 q1172 q137 q1173) rfl rfl rfl ⟨rfl, kd_X0_ofCase⟩ ⟨Nat.le_of_ble_eq_true rfl, Nat.le_of_ble_eq_true rfl⟩) rfl (rest := []) (st1 := [.int ro]) rfl rfl rfl dL_law_622 ⟨(show cells ≤ 1200128 by omega), (show slots ≤ 5501098 by omega)⟩ (fun H locs hw => ?_)
  refine lv_aload_n hx hb dL_law_625 rfl (lv_at hl 1 rfl) ?_
  refine lv_aload_n hx hb dL_law_626 rfl (lv_at hl 3 rfl) ?_
  refine lv_iload_n hx hb dL_law_627 rfl (lv_at hl 2 rfl) ?_
  refine lv_iconst (v := nI 1) hx hb dL_law_628 (by decide) ?_
  refine lv_iadd hx hb dL_law_629 ?_
  refine r_scr (j := i + 1) hx hb hK hX hbl hw nI_addn (by omega) hL dL_law_630 ?_
  refine lv_aload_n hx hb dL_law_631 rfl (lv_at hl 3 rfl) ?_
  refine lv_iload_n hx hb dL_law_632 rfl (lv_at hl 2 rfl) ?_
  refine lv_iconst (v := nI 2) hx hb dL_law_633 (by decide) ?_
  refine lv_iadd hx hb dL_law_634 ?_
  refine r_scr (j := i + 2) hx hb hK hX hbl hw nI_addn (by omega) hL dL_law_635 ?_
  refine d_V (As := [.int (xs (i + 1)), .int (xs (i + 2))]) (v0 := some (.int ro)) hG E hw hl (m_X2_ofCase l hG hM (A := A) (rs := (X, M)) h2) (qM0 hM) rfl (cwV 2 hts (lw_V q1853 q1854 q1855 q140 q1856) rfl rfl rfl ⟨rfl, kd_X2_ofCase⟩ ⟨Nat.le_of_ble_eq_true rfl, Nat.le_of_ble_eq_true rfl⟩) rfl (rest := [.int ro]) (st1 := [.int ro, .int ro]) rfl rfl rfl dL_law_636 ⟨(show cells ≤ 1200128 by omega), (show slots ≤ 5501098 by omega)⟩ (fun H locs hw => ?_)
  refine lv_icmp_eq (tgt := 1455) hx hb dL_law_639 (by decide) (fun _ => ?_) (fun c => absurd rfl c)
  exact next T Ti ta A B L X M hR2 hH (by omega) (by omega) hw hl
set_option maxHeartbeats 4000000 in
theorem lc_is {p : Program} {l : Launch} {e : Env} {s : State} {m : MethodId} {below : List Frame} {meth : Method} {c : Code} {K : QK} {G : State → Prop} {Q : State → Prop} {b Ls i : Nat} {xs : Nat → Int32} {T Ti : Int32 → Option QT} {ta : Int32 → Nat} {A B : QA} {L : QL} {X : QX} {M : QM} {H : Heap} {locs : List Loc} {ls : Array Slot} {cells slots : Nat} {Rel : (Int32 → Option QT) → (Int32 → Option QT) → QA → QA → QL → Prop} (hSim : S_is Rel) (hG : QG G) (hC : QCl K) (hM : QMl K) (hK : K.1 = s.heap) (hX : va_X b Ls xs s s.heap) (hbl : b < s.heap.size) (hL : Ls ≤ 384) (hi : i + 5 < Ls) (E : EV K G p s m #[Value.ref b] meth c code "VaneCourtLaw" 4) (hc6 : cells + 6600 ≤ 1200128) (hs6 : slots + 78100 ≤ 5501098) (hR : Rel T Ti A B L) (hH : HW K G X M T Ti ta)
    (next : ∀ (T Ti : Int32 → Option QT) (ta : Int32 → Nat) (A B : QA) (L : QL) (X : QX) (M : QM), Rel T Ti A B L → HW K G X M T Ti ta → ∀ {H : Heap} {locs : List Loc} {ls : Array Slot} {cells1 slots1 : Nat}, cells1 ≤ cells + 6600 → slots1 ≤ slots + 78100 → WP K (A, B, L, X, M) H locs → lv_has ls 4 [(1, .ref (K.2.1 0)), (2, .ref (K.2.1 1000)), (3, .int (nI i)), (0, .ref b)] → W p l e room_1 s m #[Value.ref b] below meth c H locs cells1 slots1 Q (F0 m 1455 ls [])) (hw : WP K (A, B, L, X, M) H locs) (hl : lv_has ls 4 [(1, .ref (K.2.1 0)), (2, .ref (K.2.1 1000)), (3, .int (nI i)), (0, .ref b)]) : W p l e room_1 s m #[Value.ref b] below meth c H locs cells slots Q (F0 m 644 ls []) := by
  have hx := E.1
  have hb := E.2.1
  have hown := E.2.2.1
  have hts := E.2.2.2.2.1
  refine lv_aload_n hx hb dL_law_644 rfl (lv_at hl 0 rfl) ?_
  refine lv_aload_n hx hb dL_law_645 rfl (lv_at hl 3 rfl) ?_
  refine lv_iload_n hx hb dL_law_646 rfl (lv_at hl 2 rfl) ?_
  refine lv_iconst (v := nI 1) hx hb dL_law_647 (by decide) ?_
  refine lv_iadd hx hb dL_law_648 ?_
  refine r_scr (j := i + 1) hx hb hK hX hbl hw nI_addn (by omega) hL dL_law_649 ?_
  obtain ⟨ro, h1, h2, hR2⟩ := hSim T Ti A B L (xs (i + 1))  hR
  refine d_V (As := [.int (xs (i + 1))]) (v0 := some (.int ro)) hG E hw hl (m_X0_is l hG hC (rs := (B, L, X, M)) h1) (qX0 hC) rfl (cwV 1 hts (lw_V q1174 q1175 q1176 q137 q1177) rfl rfl rfl ⟨rfl, kd_X0_is⟩ ⟨Nat.le_of_ble_eq_true rfl, Nat.le_of_ble_eq_true rfl⟩) rfl (rest := []) (st1 := [.int ro]) rfl rfl rfl dL_law_650 ⟨(show cells ≤ 1200128 by omega), (show slots ≤ 5501098 by omega)⟩ (fun H locs hw => ?_)
  refine lv_aload_n hx hb dL_law_653 rfl (lv_at hl 1 rfl) ?_
  refine lv_aload_n hx hb dL_law_654 rfl (lv_at hl 3 rfl) ?_
  refine lv_iload_n hx hb dL_law_655 rfl (lv_at hl 2 rfl) ?_
  refine lv_iconst (v := nI 1) hx hb dL_law_656 (by decide) ?_
  refine lv_iadd hx hb dL_law_657 ?_
  refine r_scr (j := i + 1) hx hb hK hX hbl hw nI_addn (by omega) hL dL_law_658 ?_
  refine d_V (As := [.int (xs (i + 1))]) (v0 := some (.int ro)) hG E hw hl (m_X2_is l hG hM (A := A) (rs := (X, M)) h2) (qM0 hM) rfl (cwV 1 hts (lw_V q1857 q1858 q1859 q140 q1860) rfl rfl rfl ⟨rfl, kd_X2_is⟩ ⟨Nat.le_of_ble_eq_true rfl, Nat.le_of_ble_eq_true rfl⟩) rfl (rest := [.int ro]) (st1 := [.int ro, .int ro]) rfl rfl rfl dL_law_659 ⟨(show cells ≤ 1200128 by omega), (show slots ≤ 5501098 by omega)⟩ (fun H locs hw => ?_)
  refine lv_icmp_eq (tgt := 1455) hx hb dL_law_662 (by decide) (fun _ => ?_) (fun c => absurd rfl c)
  exact next T Ti ta A B L X M hR2 hH (by omega) (by omega) hw hl
set_option maxHeartbeats 4000000 in
theorem lc_book {p : Program} {l : Launch} {e : Env} {s : State} {m : MethodId} {below : List Frame} {meth : Method} {c : Code} {K : QK} {G : State → Prop} {Q : State → Prop} {b Ls i : Nat} {xs : Nat → Int32} {T Ti : Int32 → Option QT} {ta : Int32 → Nat} {A B : QA} {L : QL} {X : QX} {M : QM} {H : Heap} {locs : List Loc} {ls : Array Slot} {cells slots : Nat} {Rel : (Int32 → Option QT) → (Int32 → Option QT) → QA → QA → QL → Prop} (hSim : S_book Rel) (hG : QG G) (hC : QCl K) (hM : QMl K) (hK : K.1 = s.heap) (hX : va_X b Ls xs s s.heap) (hbl : b < s.heap.size) (hL : Ls ≤ 384) (hi : i + 5 < Ls) (E : EV K G p s m #[Value.ref b] meth c code "VaneCourtLaw" 4) (hc6 : cells + 6600 ≤ 1200128) (hs6 : slots + 78100 ≤ 5501098) (hR : Rel T Ti A B L) (hH : HW K G X M T Ti ta)
    (next : ∀ (T Ti : Int32 → Option QT) (ta : Int32 → Nat) (A B : QA) (L : QL) (X : QX) (M : QM), Rel T Ti A B L → HW K G X M T Ti ta → ∀ {H : Heap} {locs : List Loc} {ls : Array Slot} {cells1 slots1 : Nat}, cells1 ≤ cells + 6600 → slots1 ≤ slots + 78100 → WP K (A, B, L, X, M) H locs → lv_has ls 4 [(1, .ref (K.2.1 0)), (2, .ref (K.2.1 1000)), (3, .int (nI i)), (0, .ref b)] → W p l e room_1 s m #[Value.ref b] below meth c H locs cells1 slots1 Q (F0 m 1455 ls [])) (hw : WP K (A, B, L, X, M) H locs) (hl : lv_has ls 4 [(1, .ref (K.2.1 0)), (2, .ref (K.2.1 1000)), (3, .int (nI i)), (0, .ref b)]) : W p l e room_1 s m #[Value.ref b] below meth c H locs cells slots Q (F0 m 667 ls []) := by
  have hx := E.1
  have hb := E.2.1
  have hown := E.2.2.1
  have hts := E.2.2.2.2.1
  refine lv_aload_n hx hb dL_law_667 rfl (lv_at hl 0 rfl) ?_
  refine lv_aload_n hx hb dL_law_668 rfl (lv_at hl 3 rfl) ?_
  refine lv_iload_n hx hb dL_law_669 rfl (lv_at hl 2 rfl) ?_
  refine lv_iconst (v := nI 1) hx hb dL_law_670 (by decide) ?_
  refine lv_iadd hx hb dL_law_671 ?_
  refine r_scr (j := i + 1) hx hb hK hX hbl hw nI_addn (by omega) hL dL_law_672 ?_
  refine lv_aload_n hx hb dL_law_673 rfl (lv_at hl 3 rfl) ?_
  refine lv_iload_n hx hb dL_law_674 rfl (lv_at hl 2 rfl) ?_
  refine lv_iconst (v := nI 2) hx hb dL_law_675 (by decide) ?_
  refine lv_iadd hx hb dL_law_676 ?_
  refine r_scr (j := i + 2) hx hb hK hX hbl hw nI_addn (by omega) hL dL_law_677 ?_
  obtain ⟨ro, h1, h2, hR2⟩ := hSim T Ti A B L (xs (i + 1)) (xs (i + 2))  hR
  refine d_V (As := [.int (xs (i + 1)), .int (xs (i + 2))]) (v0 := some (.int ro)) hG E hw hl (m_X0_book l hG hC (rs := (B, L, X, M)) h1) (qX0 hC) rfl (cwV 2 hts (lw_V q1178 q1179 q1180 q137 q1181) rfl rfl rfl ⟨rfl, kd_X0_book⟩ ⟨Nat.le_of_ble_eq_true rfl, Nat.le_of_ble_eq_true rfl⟩) rfl (rest := []) (st1 := [.int ro]) rfl rfl rfl dL_law_678 ⟨(show cells ≤ 1200128 by omega), (show slots ≤ 5501098 by omega)⟩ (fun H locs hw => ?_)
  refine lv_aload_n hx hb dL_law_681 rfl (lv_at hl 1 rfl) ?_
  refine lv_aload_n hx hb dL_law_682 rfl (lv_at hl 3 rfl) ?_
  refine lv_iload_n hx hb dL_law_683 rfl (lv_at hl 2 rfl) ?_
  refine lv_iconst (v := nI 1) hx hb dL_law_684 (by decide) ?_
  refine lv_iadd hx hb dL_law_685 ?_
  refine r_scr (j := i + 1) hx hb hK hX hbl hw nI_addn (by omega) hL dL_law_686 ?_
  refine lv_aload_n hx hb dL_law_687 rfl (lv_at hl 3 rfl) ?_
  refine lv_iload_n hx hb dL_law_688 rfl (lv_at hl 2 rfl) ?_
  refine lv_iconst (v := nI 2) hx hb dL_law_689 (by decide) ?_
  refine lv_iadd hx hb dL_law_690 ?_
  refine r_scr (j := i + 2) hx hb hK hX hbl hw nI_addn (by omega) hL dL_law_691 ?_
  refine d_V (As := [.int (xs (i + 1)), .int (xs (i + 2))]) (v0 := some (.int ro)) hG E hw hl (m_X2_book l hG hM (A := A) (rs := (X, M)) h2) (qM0 hM) rfl (cwV 2 hts (lw_V q1861 q1862 q1863 q140 q1864) rfl rfl rfl ⟨rfl, kd_X2_book⟩ ⟨Nat.le_of_ble_eq_true rfl, Nat.le_of_ble_eq_true rfl⟩) rfl (rest := [.int ro]) (st1 := [.int ro, .int ro]) rfl rfl rfl dL_law_692 ⟨(show cells ≤ 1200128 by omega), (show slots ≤ 5501098 by omega)⟩ (fun H locs hw => ?_)
  refine lv_icmp_eq (tgt := 1455) hx hb dL_law_695 (by decide) (fun _ => ?_) (fun c => absurd rfl c)
  exact next T Ti ta A B L X M hR2 hH (by omega) (by omega) hw hl
set_option maxHeartbeats 4000000 in
theorem lc_foretold {p : Program} {l : Launch} {e : Env} {s : State} {m : MethodId} {below : List Frame} {meth : Method} {c : Code} {K : QK} {G : State → Prop} {Q : State → Prop} {b Ls i : Nat} {xs : Nat → Int32} {T Ti : Int32 → Option QT} {ta : Int32 → Nat} {A B : QA} {L : QL} {X : QX} {M : QM} {H : Heap} {locs : List Loc} {ls : Array Slot} {cells slots : Nat} {Rel : (Int32 → Option QT) → (Int32 → Option QT) → QA → QA → QL → Prop} (hSim : S_foretold Rel) (hG : QG G) (hC : QCl K) (hM : QMl K) (hK : K.1 = s.heap) (hX : va_X b Ls xs s s.heap) (hbl : b < s.heap.size) (hL : Ls ≤ 384) (hi : i + 5 < Ls) (E : EV K G p s m #[Value.ref b] meth c code "VaneCourtLaw" 4) (hc6 : cells + 6600 ≤ 1200128) (hs6 : slots + 78100 ≤ 5501098) (hR : Rel T Ti A B L) (hH : HW K G X M T Ti ta)
    (next : ∀ (T Ti : Int32 → Option QT) (ta : Int32 → Nat) (A B : QA) (L : QL) (X : QX) (M : QM), Rel T Ti A B L → HW K G X M T Ti ta → ∀ {H : Heap} {locs : List Loc} {ls : Array Slot} {cells1 slots1 : Nat}, cells1 ≤ cells + 6600 → slots1 ≤ slots + 78100 → WP K (A, B, L, X, M) H locs → lv_has ls 4 [(1, .ref (K.2.1 0)), (2, .ref (K.2.1 1000)), (3, .int (nI i)), (0, .ref b)] → W p l e room_1 s m #[Value.ref b] below meth c H locs cells1 slots1 Q (F0 m 1455 ls [])) (hw : WP K (A, B, L, X, M) H locs) (hl : lv_has ls 4 [(1, .ref (K.2.1 0)), (2, .ref (K.2.1 1000)), (3, .int (nI i)), (0, .ref b)]) : W p l e room_1 s m #[Value.ref b] below meth c H locs cells slots Q (F0 m 700 ls []) := by
  have hx := E.1
  have hb := E.2.1
  have hown := E.2.2.1
  have hts := E.2.2.2.2.1
  refine lv_aload_n hx hb dL_law_700 rfl (lv_at hl 0 rfl) ?_
  refine lv_aload_n hx hb dL_law_701 rfl (lv_at hl 3 rfl) ?_
  refine lv_iload_n hx hb dL_law_702 rfl (lv_at hl 2 rfl) ?_
  refine lv_iconst (v := nI 1) hx hb dL_law_703 (by decide) ?_
  refine lv_iadd hx hb dL_law_704 ?_
  refine r_scr (j := i + 1) hx hb hK hX hbl hw nI_addn (by omega) hL dL_law_705 ?_
  refine lv_aload_n hx hb dL_law_706 rfl (lv_at hl 3 rfl) ?_
  refine lv_iload_n hx hb dL_law_707 rfl (lv_at hl 2 rfl) ?_
  refine lv_iconst (v := nI 2) hx hb dL_law_708 (by decide) ?_
  refine lv_iadd hx hb dL_law_709 ?_
  refine r_scr (j := i + 2) hx hb hK hX hbl hw nI_addn (by omega) hL dL_law_710 ?_
  obtain ⟨ro, Ao, Bo, Lo, h1, h2, hR2⟩ := hSim T Ti A B L (xs (i + 1)) (xs (i + 2))  hR
  refine d_V (As := [.int (xs (i + 1)), .int (xs (i + 2))]) (v0 := some (.int ro)) hG E hw hl (m_X0_foretold l hG hC (rs := (B, L, X, M)) (show QTx K G (B, L, X, M).2.2.1 (B, L, X, M).2.2.2 T ta from hH.1) h1) (qX0 hC) rfl (cwV 2 hts (lw_V q1182 q1183 q1184 q137 q1185) rfl rfl rfl ⟨rfl, kd_X0_foretold⟩ ⟨Nat.le_of_ble_eq_true rfl, Nat.le_of_ble_eq_true rfl⟩) rfl (rest := []) (st1 := [.int ro]) rfl rfl rfl dL_law_711 ⟨(show cells ≤ 1200128 by omega), (show slots ≤ 5501098 by omega)⟩ (fun H locs hw => ?_)
  refine lv_aload_n hx hb dL_law_714 rfl (lv_at hl 1 rfl) ?_
  refine lv_aload_n hx hb dL_law_715 rfl (lv_at hl 3 rfl) ?_
  refine lv_iload_n hx hb dL_law_716 rfl (lv_at hl 2 rfl) ?_
  refine lv_iconst (v := nI 1) hx hb dL_law_717 (by decide) ?_
  refine lv_iadd hx hb dL_law_718 ?_
  refine r_scr (j := i + 1) hx hb hK hX hbl hw nI_addn (by omega) hL dL_law_719 ?_
  refine lv_aload_n hx hb dL_law_720 rfl (lv_at hl 3 rfl) ?_
  refine lv_iload_n hx hb dL_law_721 rfl (lv_at hl 2 rfl) ?_
  refine lv_iconst (v := nI 2) hx hb dL_law_722 (by decide) ?_
  refine lv_iadd hx hb dL_law_723 ?_
  refine r_scr (j := i + 2) hx hb hK hX hbl hw nI_addn (by omega) hL dL_law_724 ?_
  refine d_V (As := [.int (xs (i + 1)), .int (xs (i + 2))]) (v0 := some (.int ro)) hG E hw hl (m_X2_foretold l hG hM (A := Ao) (rs := (X, M)) h2) (qM0 hM) rfl (cwV 2 hts (lw_V q1869 q1870 q1871 q140 q1872) rfl rfl rfl ⟨rfl, kd_X2_foretold⟩ ⟨Nat.le_of_ble_eq_true rfl, Nat.le_of_ble_eq_true rfl⟩) rfl (rest := [.int ro]) (st1 := [.int ro, .int ro]) rfl rfl rfl dL_law_725 ⟨(show cells ≤ 1200128 by omega), (show slots ≤ 5501098 by omega)⟩ (fun H locs hw => ?_)
  refine lv_icmp_eq (tgt := 1455) hx hb dL_law_728 (by decide) (fun _ => ?_) (fun c => absurd rfl c)
  exact next T Ti ta Ao Bo Lo X M hR2 hH (by omega) (by omega) hw hl
set_option maxHeartbeats 4000000 in
theorem lc_ends {p : Program} {l : Launch} {e : Env} {s : State} {m : MethodId} {below : List Frame} {meth : Method} {c : Code} {K : QK} {G : State → Prop} {Q : State → Prop} {b Ls i : Nat} {xs : Nat → Int32} {T Ti : Int32 → Option QT} {ta : Int32 → Nat} {A B : QA} {L : QL} {X : QX} {M : QM} {H : Heap} {locs : List Loc} {ls : Array Slot} {cells slots : Nat} {Rel : (Int32 → Option QT) → (Int32 → Option QT) → QA → QA → QL → Prop} (hSim : S_ends Rel) (hG : QG G) (hC : QCl K) (hM : QMl K) (hK : K.1 = s.heap) (hX : va_X b Ls xs s s.heap) (hbl : b < s.heap.size) (hL : Ls ≤ 384) (hi : i + 5 < Ls) (E : EV K G p s m #[Value.ref b] meth c code "VaneCourtLaw" 4) (hc6 : cells + 6600 ≤ 1200128) (hs6 : slots + 78100 ≤ 5501098) (hR : Rel T Ti A B L) (hH : HW K G X M T Ti ta)
    (next : ∀ (T Ti : Int32 → Option QT) (ta : Int32 → Nat) (A B : QA) (L : QL) (X : QX) (M : QM), Rel T Ti A B L → HW K G X M T Ti ta → ∀ {H : Heap} {locs : List Loc} {ls : Array Slot} {cells1 slots1 : Nat}, cells1 ≤ cells + 6600 → slots1 ≤ slots + 78100 → WP K (A, B, L, X, M) H locs → lv_has ls 4 [(1, .ref (K.2.1 0)), (2, .ref (K.2.1 1000)), (3, .int (nI i)), (0, .ref b)] → W p l e room_1 s m #[Value.ref b] below meth c H locs cells1 slots1 Q (F0 m 1455 ls [])) (hw : WP K (A, B, L, X, M) H locs) (hl : lv_has ls 4 [(1, .ref (K.2.1 0)), (2, .ref (K.2.1 1000)), (3, .int (nI i)), (0, .ref b)]) : W p l e room_1 s m #[Value.ref b] below meth c H locs cells slots Q (F0 m 733 ls []) := by
  have hx := E.1
  have hb := E.2.1
  have hown := E.2.2.1
  have hts := E.2.2.2.2.1
  refine lv_aload_n hx hb dL_law_733 rfl (lv_at hl 0 rfl) ?_
  refine lv_aload_n hx hb dL_law_734 rfl (lv_at hl 3 rfl) ?_
  refine lv_iload_n hx hb dL_law_735 rfl (lv_at hl 2 rfl) ?_
  refine lv_iconst (v := nI 1) hx hb dL_law_736 (by decide) ?_
  refine lv_iadd hx hb dL_law_737 ?_
  refine r_scr (j := i + 1) hx hb hK hX hbl hw nI_addn (by omega) hL dL_law_738 ?_
  refine lv_aload_n hx hb dL_law_739 rfl (lv_at hl 3 rfl) ?_
  refine lv_iload_n hx hb dL_law_740 rfl (lv_at hl 2 rfl) ?_
  refine lv_iconst (v := nI 2) hx hb dL_law_741 (by decide) ?_
  refine lv_iadd hx hb dL_law_742 ?_
  refine r_scr (j := i + 2) hx hb hK hX hbl hw nI_addn (by omega) hL dL_law_743 ?_
  refine lv_aload_n hx hb dL_law_744 rfl (lv_at hl 3 rfl) ?_
  refine lv_iload_n hx hb dL_law_745 rfl (lv_at hl 2 rfl) ?_
  refine lv_iconst (v := nI 3) hx hb dL_law_746 (by decide) ?_
  refine lv_iadd hx hb dL_law_747 ?_
  refine r_scr (j := i + 3) hx hb hK hX hbl hw nI_addn (by omega) hL dL_law_748 ?_
  refine lv_aload_n hx hb dL_law_749 rfl (lv_at hl 3 rfl) ?_
  refine lv_iload_n hx hb dL_law_750 rfl (lv_at hl 2 rfl) ?_
  refine lv_iconst (v := nI 4) hx hb dL_law_751 (by decide) ?_
  refine lv_iadd hx hb dL_law_752 ?_
  refine r_scr (j := i + 4) hx hb hK hX hbl hw nI_addn (by omega) hL dL_law_753 ?_
  obtain ⟨ro, Ao, Bo, Lo, h1, h2, hR2⟩ := hSim T Ti A B L (xs (i + 1)) (xs (i + 2)) (xs (i + 3)) (xs (i + 4))  hR
  refine d_V (As := [.int (xs (i + 1)), .int (xs (i + 2)), .int (xs (i + 3)), .int (xs (i + 4))]) (v0 := some (.int ro)) hG E hw hl (m_X0_ends l hG hC (rs := (B, L, X, M)) (show QTx K G (B, L, X, M).2.2.1 (B, L, X, M).2.2.2 T ta from hH.1) h1) (qX0 hC) rfl (cwV 4 hts (lw_V q1190 q1191 q1192 q137 q1193) rfl rfl rfl ⟨rfl, kd_X0_ends⟩ ⟨Nat.le_of_ble_eq_true rfl, Nat.le_of_ble_eq_true rfl⟩) rfl (rest := []) (st1 := [.int ro]) rfl rfl rfl dL_law_754 ⟨(show cells ≤ 1200128 by omega), (show slots ≤ 5501098 by omega)⟩ (fun H locs hw => ?_)
  refine lv_aload_n hx hb dL_law_757 rfl (lv_at hl 1 rfl) ?_
  refine lv_aload_n hx hb dL_law_758 rfl (lv_at hl 3 rfl) ?_
  refine lv_iload_n hx hb dL_law_759 rfl (lv_at hl 2 rfl) ?_
  refine lv_iconst (v := nI 1) hx hb dL_law_760 (by decide) ?_
  refine lv_iadd hx hb dL_law_761 ?_
  refine r_scr (j := i + 1) hx hb hK hX hbl hw nI_addn (by omega) hL dL_law_762 ?_
  refine lv_aload_n hx hb dL_law_763 rfl (lv_at hl 3 rfl) ?_
  refine lv_iload_n hx hb dL_law_764 rfl (lv_at hl 2 rfl) ?_
  refine lv_iconst (v := nI 2) hx hb dL_law_765 (by decide) ?_
  refine lv_iadd hx hb dL_law_766 ?_
  refine r_scr (j := i + 2) hx hb hK hX hbl hw nI_addn (by omega) hL dL_law_767 ?_
  refine lv_aload_n hx hb dL_law_768 rfl (lv_at hl 3 rfl) ?_
  refine lv_iload_n hx hb dL_law_769 rfl (lv_at hl 2 rfl) ?_
  refine lv_iconst (v := nI 3) hx hb dL_law_770 (by decide) ?_
  refine lv_iadd hx hb dL_law_771 ?_
  refine r_scr (j := i + 3) hx hb hK hX hbl hw nI_addn (by omega) hL dL_law_772 ?_
  refine lv_aload_n hx hb dL_law_773 rfl (lv_at hl 3 rfl) ?_
  refine lv_iload_n hx hb dL_law_774 rfl (lv_at hl 2 rfl) ?_
  refine lv_iconst (v := nI 4) hx hb dL_law_775 (by decide) ?_
  refine lv_iadd hx hb dL_law_776 ?_
  refine r_scr (j := i + 4) hx hb hK hX hbl hw nI_addn (by omega) hL dL_law_777 ?_
  refine d_V (As := [.int (xs (i + 1)), .int (xs (i + 2)), .int (xs (i + 3)), .int (xs (i + 4))]) (v0 := some (.int ro)) hG E hw hl (m_X2_ends l hG hM (A := Ao) (rs := (X, M)) h2) (qM0 hM) rfl (cwV 4 hts (lw_V q1885 q1886 q1887 q140 q1888) rfl rfl rfl ⟨rfl, kd_X2_ends⟩ ⟨Nat.le_of_ble_eq_true rfl, Nat.le_of_ble_eq_true rfl⟩) rfl (rest := [.int ro]) (st1 := [.int ro, .int ro]) rfl rfl rfl dL_law_778 ⟨(show cells ≤ 1200128 by omega), (show slots ≤ 5501098 by omega)⟩ (fun H locs hw => ?_)
  refine lv_icmp_eq (tgt := 1455) hx hb dL_law_781 (by decide) (fun _ => ?_) (fun c => absurd rfl c)
  exact next T Ti ta Ao Bo Lo X M hR2 hH (by omega) (by omega) hw hl
set_option maxHeartbeats 4000000 in
theorem lc_best {p : Program} {l : Launch} {e : Env} {s : State} {m : MethodId} {below : List Frame} {meth : Method} {c : Code} {K : QK} {G : State → Prop} {Q : State → Prop} {b Ls i : Nat} {xs : Nat → Int32} {T Ti : Int32 → Option QT} {ta : Int32 → Nat} {A B : QA} {L : QL} {X : QX} {M : QM} {H : Heap} {locs : List Loc} {ls : Array Slot} {cells slots : Nat} {Rel : (Int32 → Option QT) → (Int32 → Option QT) → QA → QA → QL → Prop} (hSim : S_best Rel) (hG : QG G) (hC : QCl K) (hM : QMl K) (hK : K.1 = s.heap) (hX : va_X b Ls xs s s.heap) (hbl : b < s.heap.size) (hL : Ls ≤ 384) (hi : i + 5 < Ls) (E : EV K G p s m #[Value.ref b] meth c code "VaneCourtLaw" 4) (hc6 : cells + 6600 ≤ 1200128) (hs6 : slots + 78100 ≤ 5501098) (hR : Rel T Ti A B L) (hH : HW K G X M T Ti ta)
    (next : ∀ (T Ti : Int32 → Option QT) (ta : Int32 → Nat) (A B : QA) (L : QL) (X : QX) (M : QM), Rel T Ti A B L → HW K G X M T Ti ta → ∀ {H : Heap} {locs : List Loc} {ls : Array Slot} {cells1 slots1 : Nat}, cells1 ≤ cells + 6600 → slots1 ≤ slots + 78100 → WP K (A, B, L, X, M) H locs → lv_has ls 4 [(1, .ref (K.2.1 0)), (2, .ref (K.2.1 1000)), (3, .int (nI i)), (0, .ref b)] → W p l e room_1 s m #[Value.ref b] below meth c H locs cells1 slots1 Q (F0 m 1455 ls [])) (hw : WP K (A, B, L, X, M) H locs) (hl : lv_has ls 4 [(1, .ref (K.2.1 0)), (2, .ref (K.2.1 1000)), (3, .int (nI i)), (0, .ref b)]) : W p l e room_1 s m #[Value.ref b] below meth c H locs cells slots Q (F0 m 786 ls []) := by
  have hx := E.1
  have hb := E.2.1
  have hown := E.2.2.1
  have hts := E.2.2.2.2.1
  refine lv_aload_n hx hb dL_law_786 rfl (lv_at hl 0 rfl) ?_
  refine lv_aload_n hx hb dL_law_787 rfl (lv_at hl 3 rfl) ?_
  refine lv_iload_n hx hb dL_law_788 rfl (lv_at hl 2 rfl) ?_
  refine lv_iconst (v := nI 1) hx hb dL_law_789 (by decide) ?_
  refine lv_iadd hx hb dL_law_790 ?_
  refine r_scr (j := i + 1) hx hb hK hX hbl hw nI_addn (by omega) hL dL_law_791 ?_
  refine lv_aload_n hx hb dL_law_792 rfl (lv_at hl 3 rfl) ?_
  refine lv_iload_n hx hb dL_law_793 rfl (lv_at hl 2 rfl) ?_
  refine lv_iconst (v := nI 2) hx hb dL_law_794 (by decide) ?_
  refine lv_iadd hx hb dL_law_795 ?_
  refine r_scr (j := i + 2) hx hb hK hX hbl hw nI_addn (by omega) hL dL_law_796 ?_
  refine r_nz (t1 := 804) (t2 := 805) hx hb dL_law_797 dL_law_800 dL_law_801 (by decide) dL_law_804 (by decide) rfl ?_
  refine lv_aload_n hx hb dL_law_805 rfl (lv_at hl 3 rfl) ?_
  refine lv_iload_n hx hb dL_law_806 rfl (lv_at hl 2 rfl) ?_
  refine lv_iconst (v := nI 3) hx hb dL_law_807 (by decide) ?_
  refine lv_iadd hx hb dL_law_808 ?_
  refine r_scr (j := i + 3) hx hb hK hX hbl hw nI_addn (by omega) hL dL_law_809 ?_
  obtain ⟨ro, Ao, Bo, Lo, h1, h2, hR2⟩ := hSim T Ti A B L (xs (i + 1)) (bz (xs (i + 2))) (xs (i + 3)) (bz_01 _) hR
  refine d_V (As := [.int (xs (i + 1)), .int (bz (xs (i + 2))), .int (xs (i + 3))]) (v0 := some (.int ro)) hG E hw hl (m_X0_best l hG hC (rs := (B, L, X, M)) (show QTx K G (B, L, X, M).2.2.1 (B, L, X, M).2.2.2 T ta from hH.1) h1) (qX0 hC) rfl (cwV 3 hts (lw_V q1202 q1203 q1204 q137 q1205) rfl rfl rfl ⟨rfl, kd_X0_best⟩ ⟨Nat.le_of_ble_eq_true rfl, Nat.le_of_ble_eq_true rfl⟩) rfl (rest := []) (st1 := [.int ro]) rfl rfl rfl dL_law_810 ⟨(show cells ≤ 1200128 by omega), (show slots ≤ 5501098 by omega)⟩ (fun H locs hw => ?_)
  refine lv_aload_n hx hb dL_law_813 rfl (lv_at hl 1 rfl) ?_
  refine lv_aload_n hx hb dL_law_814 rfl (lv_at hl 3 rfl) ?_
  refine lv_iload_n hx hb dL_law_815 rfl (lv_at hl 2 rfl) ?_
  refine lv_iconst (v := nI 1) hx hb dL_law_816 (by decide) ?_
  refine lv_iadd hx hb dL_law_817 ?_
  refine r_scr (j := i + 1) hx hb hK hX hbl hw nI_addn (by omega) hL dL_law_818 ?_
  refine lv_aload_n hx hb dL_law_819 rfl (lv_at hl 3 rfl) ?_
  refine lv_iload_n hx hb dL_law_820 rfl (lv_at hl 2 rfl) ?_
  refine lv_iconst (v := nI 2) hx hb dL_law_821 (by decide) ?_
  refine lv_iadd hx hb dL_law_822 ?_
  refine r_scr (j := i + 2) hx hb hK hX hbl hw nI_addn (by omega) hL dL_law_823 ?_
  refine r_nz (t1 := 831) (t2 := 832) hx hb dL_law_824 dL_law_827 dL_law_828 (by decide) dL_law_831 (by decide) rfl ?_
  refine lv_aload_n hx hb dL_law_832 rfl (lv_at hl 3 rfl) ?_
  refine lv_iload_n hx hb dL_law_833 rfl (lv_at hl 2 rfl) ?_
  refine lv_iconst (v := nI 3) hx hb dL_law_834 (by decide) ?_
  refine lv_iadd hx hb dL_law_835 ?_
  refine r_scr (j := i + 3) hx hb hK hX hbl hw nI_addn (by omega) hL dL_law_836 ?_
  refine d_V (As := [.int (xs (i + 1)), .int (bz (xs (i + 2))), .int (xs (i + 3))]) (v0 := some (.int ro)) hG E hw hl (m_X2_best l hG hM (A := Ao) (rs := (X, M)) h2) (qM0 hM) rfl (cwV 3 hts (lw_V q1893 q1894 q1895 q140 q1896) rfl rfl rfl ⟨rfl, kd_X2_best⟩ ⟨Nat.le_of_ble_eq_true rfl, Nat.le_of_ble_eq_true rfl⟩) rfl (rest := [.int ro]) (st1 := [.int ro, .int ro]) rfl rfl rfl dL_law_837 ⟨(show cells ≤ 1200128 by omega), (show slots ≤ 5501098 by omega)⟩ (fun H locs hw => ?_)
  refine lv_icmp_eq (tgt := 1455) hx hb dL_law_840 (by decide) (fun _ => ?_) (fun c => absurd rfl c)
  exact next T Ti ta Ao Bo Lo X M hR2 hH (by omega) (by omega) hw hl
set_option maxHeartbeats 4000000 in
theorem lc_harshest {p : Program} {l : Launch} {e : Env} {s : State} {m : MethodId} {below : List Frame} {meth : Method} {c : Code} {K : QK} {G : State → Prop} {Q : State → Prop} {b Ls i : Nat} {xs : Nat → Int32} {T Ti : Int32 → Option QT} {ta : Int32 → Nat} {A B : QA} {L : QL} {X : QX} {M : QM} {H : Heap} {locs : List Loc} {ls : Array Slot} {cells slots : Nat} {Rel : (Int32 → Option QT) → (Int32 → Option QT) → QA → QA → QL → Prop} (hSim : S_harshest Rel) (hG : QG G) (hC : QCl K) (hM : QMl K) (hK : K.1 = s.heap) (hX : va_X b Ls xs s s.heap) (hbl : b < s.heap.size) (hL : Ls ≤ 384) (hi : i + 5 < Ls) (E : EV K G p s m #[Value.ref b] meth c code "VaneCourtLaw" 4) (hc6 : cells + 6600 ≤ 1200128) (hs6 : slots + 78100 ≤ 5501098) (hR : Rel T Ti A B L) (hH : HW K G X M T Ti ta)
    (next : ∀ (T Ti : Int32 → Option QT) (ta : Int32 → Nat) (A B : QA) (L : QL) (X : QX) (M : QM), Rel T Ti A B L → HW K G X M T Ti ta → ∀ {H : Heap} {locs : List Loc} {ls : Array Slot} {cells1 slots1 : Nat}, cells1 ≤ cells + 6600 → slots1 ≤ slots + 78100 → WP K (A, B, L, X, M) H locs → lv_has ls 4 [(1, .ref (K.2.1 0)), (2, .ref (K.2.1 1000)), (3, .int (nI i)), (0, .ref b)] → W p l e room_1 s m #[Value.ref b] below meth c H locs cells1 slots1 Q (F0 m 1455 ls [])) (hw : WP K (A, B, L, X, M) H locs) (hl : lv_has ls 4 [(1, .ref (K.2.1 0)), (2, .ref (K.2.1 1000)), (3, .int (nI i)), (0, .ref b)]) : W p l e room_1 s m #[Value.ref b] below meth c H locs cells slots Q (F0 m 845 ls []) := by
  have hx := E.1
  have hb := E.2.1
  have hown := E.2.2.1
  have hts := E.2.2.2.2.1
  refine lv_aload_n hx hb dL_law_845 rfl (lv_at hl 0 rfl) ?_
  refine lv_aload_n hx hb dL_law_846 rfl (lv_at hl 3 rfl) ?_
  refine lv_iload_n hx hb dL_law_847 rfl (lv_at hl 2 rfl) ?_
  refine lv_iconst (v := nI 1) hx hb dL_law_848 (by decide) ?_
  refine lv_iadd hx hb dL_law_849 ?_
  refine r_scr (j := i + 1) hx hb hK hX hbl hw nI_addn (by omega) hL dL_law_850 ?_
  obtain ⟨ro, Ao, Bo, Lo, h1, h2, hR2⟩ := hSim T Ti A B L (xs (i + 1))  hR
  refine d_V (As := [.int (xs (i + 1))]) (v0 := some (.int ro)) hG E hw hl (m_X0_harshest l hG hC (rs := (B, L, X, M)) (show QTx K G (B, L, X, M).2.2.1 (B, L, X, M).2.2.2 T ta from hH.1) h1) (qX0 hC) rfl (cwV 1 hts (lw_V q1206 q1207 q1208 q137 q1209) rfl rfl rfl ⟨rfl, kd_X0_harshest⟩ ⟨Nat.le_of_ble_eq_true rfl, Nat.le_of_ble_eq_true rfl⟩) rfl (rest := []) (st1 := [.int ro]) rfl rfl rfl dL_law_851 ⟨(show cells ≤ 1200128 by omega), (show slots ≤ 5501098 by omega)⟩ (fun H locs hw => ?_)
  refine lv_aload_n hx hb dL_law_854 rfl (lv_at hl 1 rfl) ?_
  refine lv_aload_n hx hb dL_law_855 rfl (lv_at hl 3 rfl) ?_
  refine lv_iload_n hx hb dL_law_856 rfl (lv_at hl 2 rfl) ?_
  refine lv_iconst (v := nI 1) hx hb dL_law_857 (by decide) ?_
  refine lv_iadd hx hb dL_law_858 ?_
  refine r_scr (j := i + 1) hx hb hK hX hbl hw nI_addn (by omega) hL dL_law_859 ?_
  refine d_V (As := [.int (xs (i + 1))]) (v0 := some (.int ro)) hG E hw hl (m_X2_harshest l hG hM (A := Ao) (rs := (X, M)) h2) (qM0 hM) rfl (cwV 1 hts (lw_V q1897 q1898 q1899 q140 q1900) rfl rfl rfl ⟨rfl, kd_X2_harshest⟩ ⟨Nat.le_of_ble_eq_true rfl, Nat.le_of_ble_eq_true rfl⟩) rfl (rest := [.int ro]) (st1 := [.int ro, .int ro]) rfl rfl rfl dL_law_860 ⟨(show cells ≤ 1200128 by omega), (show slots ≤ 5501098 by omega)⟩ (fun H locs hw => ?_)
  refine lv_icmp_eq (tgt := 1455) hx hb dL_law_863 (by decide) (fun _ => ?_) (fun c => absurd rfl c)
  exact next T Ti ta Ao Bo Lo X M hR2 hH (by omega) (by omega) hw hl
set_option maxHeartbeats 4000000 in
theorem lc_odds {p : Program} {l : Launch} {e : Env} {s : State} {m : MethodId} {below : List Frame} {meth : Method} {c : Code} {K : QK} {G : State → Prop} {Q : State → Prop} {b Ls i : Nat} {xs : Nat → Int32} {T Ti : Int32 → Option QT} {ta : Int32 → Nat} {A B : QA} {L : QL} {X : QX} {M : QM} {H : Heap} {locs : List Loc} {ls : Array Slot} {cells slots : Nat} {Rel : (Int32 → Option QT) → (Int32 → Option QT) → QA → QA → QL → Prop} (hSim : S_odds Rel) (hG : QG G) (hC : QCl K) (hM : QMl K) (hK : K.1 = s.heap) (hX : va_X b Ls xs s s.heap) (hbl : b < s.heap.size) (hL : Ls ≤ 384) (hi : i + 5 < Ls) (E : EV K G p s m #[Value.ref b] meth c code "VaneCourtLaw" 4) (hc6 : cells + 6600 ≤ 1200128) (hs6 : slots + 78100 ≤ 5501098) (hR : Rel T Ti A B L) (hH : HW K G X M T Ti ta)
    (next : ∀ (T Ti : Int32 → Option QT) (ta : Int32 → Nat) (A B : QA) (L : QL) (X : QX) (M : QM), Rel T Ti A B L → HW K G X M T Ti ta → ∀ {H : Heap} {locs : List Loc} {ls : Array Slot} {cells1 slots1 : Nat}, cells1 ≤ cells + 6600 → slots1 ≤ slots + 78100 → WP K (A, B, L, X, M) H locs → lv_has ls 4 [(1, .ref (K.2.1 0)), (2, .ref (K.2.1 1000)), (3, .int (nI i)), (0, .ref b)] → W p l e room_1 s m #[Value.ref b] below meth c H locs cells1 slots1 Q (F0 m 1455 ls [])) (hw : WP K (A, B, L, X, M) H locs) (hl : lv_has ls 4 [(1, .ref (K.2.1 0)), (2, .ref (K.2.1 1000)), (3, .int (nI i)), (0, .ref b)]) : W p l e room_1 s m #[Value.ref b] below meth c H locs cells slots Q (F0 m 868 ls []) := by
  have hx := E.1
  have hb := E.2.1
  have hown := E.2.2.1
  have hts := E.2.2.2.2.1
  refine lv_aload_n hx hb dL_law_868 rfl (lv_at hl 0 rfl) ?_
  refine lv_aload_n hx hb dL_law_869 rfl (lv_at hl 3 rfl) ?_
  refine lv_iload_n hx hb dL_law_870 rfl (lv_at hl 2 rfl) ?_
  refine lv_iconst (v := nI 1) hx hb dL_law_871 (by decide) ?_
  refine lv_iadd hx hb dL_law_872 ?_
  refine r_scr (j := i + 1) hx hb hK hX hbl hw nI_addn (by omega) hL dL_law_873 ?_
  refine r_nz (t1 := 881) (t2 := 882) hx hb dL_law_874 dL_law_877 dL_law_878 (by decide) dL_law_881 (by decide) rfl ?_
  obtain ⟨ro, Ao, Bo, Lo, h1, h2, hR2⟩ := hSim T Ti A B L (bz (xs (i + 1))) (bz_01 _) hR
  refine d_V (As := [.int (bz (xs (i + 1)))]) (v0 := some (.long ro)) hG E hw hl (m_X0_odds l hG hC (rs := (B, L, X, M)) (show QTx K G (B, L, X, M).2.2.1 (B, L, X, M).2.2.2 T ta from hH.1) h1) (qX0 hC) rfl (cwV 1 hts (lw_V q1211 q1212 q1213 q137 q1214) rfl rfl rfl ⟨rfl, kd_X0_odds⟩ ⟨Nat.le_of_ble_eq_true rfl, Nat.le_of_ble_eq_true rfl⟩) rfl (rest := []) (st1 := [.long ro]) rfl rfl rfl dL_law_882 ⟨(show cells ≤ 1200128 by omega), (show slots ≤ 5501098 by omega)⟩ (fun H locs hw => ?_)
  refine lv_aload_n hx hb dL_law_885 rfl (lv_at hl 1 rfl) ?_
  refine lv_aload_n hx hb dL_law_886 rfl (lv_at hl 3 rfl) ?_
  refine lv_iload_n hx hb dL_law_887 rfl (lv_at hl 2 rfl) ?_
  refine lv_iconst (v := nI 1) hx hb dL_law_888 (by decide) ?_
  refine lv_iadd hx hb dL_law_889 ?_
  refine r_scr (j := i + 1) hx hb hK hX hbl hw nI_addn (by omega) hL dL_law_890 ?_
  refine r_nz (t1 := 898) (t2 := 899) hx hb dL_law_891 dL_law_894 dL_law_895 (by decide) dL_law_898 (by decide) rfl ?_
  refine d_V (As := [.int (bz (xs (i + 1)))]) (v0 := some (.long ro)) hG E hw hl (m_X2_odds l hG hM (A := Ao) (rs := (X, M)) h2) (qM0 hM) rfl (cwV 1 hts (lw_V q1901 q1902 q1903 q140 q1904) rfl rfl rfl ⟨rfl, kd_X2_odds⟩ ⟨Nat.le_of_ble_eq_true rfl, Nat.le_of_ble_eq_true rfl⟩) rfl (rest := [.long ro]) (st1 := [.long ro, .long ro]) rfl rfl rfl dL_law_899 ⟨(show cells ≤ 1200128 by omega), (show slots ≤ 5501098 by omega)⟩ (fun H locs hw => ?_)
  refine W.lcmp hx hb dL_law_902 ?_
  refine lv_if_eq (tgt := 1455) hx hb dL_law_903 (by decide) (fun _ => ?_) (fun c => absurd ((lg_cmp_eq _ _).mpr rfl) c)
  exact next T Ti ta Ao Bo Lo X M hR2 hH (by omega) (by omega) hw hl
set_option maxHeartbeats 4000000 in
theorem lc_clash {p : Program} {l : Launch} {e : Env} {s : State} {m : MethodId} {below : List Frame} {meth : Method} {c : Code} {K : QK} {G : State → Prop} {Q : State → Prop} {b Ls i : Nat} {xs : Nat → Int32} {T Ti : Int32 → Option QT} {ta : Int32 → Nat} {A B : QA} {L : QL} {X : QX} {M : QM} {H : Heap} {locs : List Loc} {ls : Array Slot} {cells slots : Nat} {Rel : (Int32 → Option QT) → (Int32 → Option QT) → QA → QA → QL → Prop} (hSim : S_clash Rel) (hG : QG G) (hC : QCl K) (hM : QMl K) (hK : K.1 = s.heap) (hX : va_X b Ls xs s s.heap) (hbl : b < s.heap.size) (hL : Ls ≤ 384) (hi : i + 5 < Ls) (E : EV K G p s m #[Value.ref b] meth c code "VaneCourtLaw" 4) (hc6 : cells + 6600 ≤ 1200128) (hs6 : slots + 78100 ≤ 5501098) (hR : Rel T Ti A B L) (hH : HW K G X M T Ti ta)
    (next : ∀ (T Ti : Int32 → Option QT) (ta : Int32 → Nat) (A B : QA) (L : QL) (X : QX) (M : QM), Rel T Ti A B L → HW K G X M T Ti ta → ∀ {H : Heap} {locs : List Loc} {ls : Array Slot} {cells1 slots1 : Nat}, cells1 ≤ cells + 6600 → slots1 ≤ slots + 78100 → WP K (A, B, L, X, M) H locs → lv_has ls 4 [(1, .ref (K.2.1 0)), (2, .ref (K.2.1 1000)), (3, .int (nI i)), (0, .ref b)] → W p l e room_1 s m #[Value.ref b] below meth c H locs cells1 slots1 Q (F0 m 1455 ls [])) (hw : WP K (A, B, L, X, M) H locs) (hl : lv_has ls 4 [(1, .ref (K.2.1 0)), (2, .ref (K.2.1 1000)), (3, .int (nI i)), (0, .ref b)]) : W p l e room_1 s m #[Value.ref b] below meth c H locs cells slots Q (F0 m 908 ls []) := by
  have hx := E.1
  have hb := E.2.1
  have hown := E.2.2.1
  have hts := E.2.2.2.2.1
  refine lv_aload_n hx hb dL_law_908 rfl (lv_at hl 0 rfl) ?_
  refine lv_aload_n hx hb dL_law_909 rfl (lv_at hl 3 rfl) ?_
  refine lv_iload_n hx hb dL_law_910 rfl (lv_at hl 2 rfl) ?_
  refine lv_iconst (v := nI 1) hx hb dL_law_911 (by decide) ?_
  refine lv_iadd hx hb dL_law_912 ?_
  refine r_scr (j := i + 1) hx hb hK hX hbl hw nI_addn (by omega) hL dL_law_913 ?_
  obtain ⟨ro, Ao, Bo, Lo, h1, h2, hR2⟩ := hSim T Ti A B L (xs (i + 1))  hR
  refine d_V (As := [.int (xs (i + 1))]) (v0 := some (.int ro)) hG E hw hl (m_X0_clash l hG hC (rs := (B, L, X, M)) (show QTx K G (B, L, X, M).2.2.1 (B, L, X, M).2.2.2 T ta from hH.1) h1) (qX0 hC) rfl (cwV 1 hts (lw_V q1226 q1227 q1228 q137 q1229) rfl rfl rfl ⟨rfl, kd_X0_clash⟩ ⟨Nat.le_of_ble_eq_true rfl, Nat.le_of_ble_eq_true rfl⟩) rfl (rest := []) (st1 := [.int ro]) rfl rfl rfl dL_law_914 ⟨(show cells ≤ 1200128 by omega), (show slots ≤ 5501098 by omega)⟩ (fun H locs hw => ?_)
  refine lv_aload_n hx hb dL_law_917 rfl (lv_at hl 1 rfl) ?_
  refine lv_aload_n hx hb dL_law_918 rfl (lv_at hl 3 rfl) ?_
  refine lv_iload_n hx hb dL_law_919 rfl (lv_at hl 2 rfl) ?_
  refine lv_iconst (v := nI 1) hx hb dL_law_920 (by decide) ?_
  refine lv_iadd hx hb dL_law_921 ?_
  refine r_scr (j := i + 1) hx hb hK hX hbl hw nI_addn (by omega) hL dL_law_922 ?_
  refine d_V (As := [.int (xs (i + 1))]) (v0 := some (.int ro)) hG E hw hl (m_X2_clash l hG hM (A := Ao) (rs := (X, M)) h2) (qM0 hM) rfl (cwV 1 hts (lw_V q1913 q1914 q1915 q140 q1916) rfl rfl rfl ⟨rfl, kd_X2_clash⟩ ⟨Nat.le_of_ble_eq_true rfl, Nat.le_of_ble_eq_true rfl⟩) rfl (rest := [.int ro]) (st1 := [.int ro, .int ro]) rfl rfl rfl dL_law_923 ⟨(show cells ≤ 1200128 by omega), (show slots ≤ 5501098 by omega)⟩ (fun H locs hw => ?_)
  refine lv_icmp_eq (tgt := 1455) hx hb dL_law_926 (by decide) (fun _ => ?_) (fun c => absurd rfl c)
  exact next T Ti ta Ao Bo Lo X M hR2 hH (by omega) (by omega) hw hl
set_option maxHeartbeats 4000000 in
theorem lc_leastFacts {p : Program} {l : Launch} {e : Env} {s : State} {m : MethodId} {below : List Frame} {meth : Method} {c : Code} {K : QK} {G : State → Prop} {Q : State → Prop} {b Ls i : Nat} {xs : Nat → Int32} {T Ti : Int32 → Option QT} {ta : Int32 → Nat} {A B : QA} {L : QL} {X : QX} {M : QM} {H : Heap} {locs : List Loc} {ls : Array Slot} {cells slots : Nat} {Rel : (Int32 → Option QT) → (Int32 → Option QT) → QA → QA → QL → Prop} (hSim : S_leastFacts Rel) (hG : QG G) (hC : QCl K) (hM : QMl K) (hK : K.1 = s.heap) (hX : va_X b Ls xs s s.heap) (hbl : b < s.heap.size) (hL : Ls ≤ 384) (hi : i + 5 < Ls) (E : EV K G p s m #[Value.ref b] meth c code "VaneCourtLaw" 4) (hc6 : cells + 6600 ≤ 1200128) (hs6 : slots + 78100 ≤ 5501098) (hR : Rel T Ti A B L) (hH : HW K G X M T Ti ta)
    (next : ∀ (T Ti : Int32 → Option QT) (ta : Int32 → Nat) (A B : QA) (L : QL) (X : QX) (M : QM), Rel T Ti A B L → HW K G X M T Ti ta → ∀ {H : Heap} {locs : List Loc} {ls : Array Slot} {cells1 slots1 : Nat}, cells1 ≤ cells + 6600 → slots1 ≤ slots + 78100 → WP K (A, B, L, X, M) H locs → lv_has ls 4 [(1, .ref (K.2.1 0)), (2, .ref (K.2.1 1000)), (3, .int (nI i)), (0, .ref b)] → W p l e room_1 s m #[Value.ref b] below meth c H locs cells1 slots1 Q (F0 m 1455 ls [])) (hw : WP K (A, B, L, X, M) H locs) (hl : lv_has ls 4 [(1, .ref (K.2.1 0)), (2, .ref (K.2.1 1000)), (3, .int (nI i)), (0, .ref b)]) : W p l e room_1 s m #[Value.ref b] below meth c H locs cells slots Q (F0 m 931 ls []) := by
  have hx := E.1
  have hb := E.2.1
  have hown := E.2.2.1
  have hts := E.2.2.2.2.1
  refine lv_aload_n hx hb dL_law_931 rfl (lv_at hl 0 rfl) ?_
  refine lv_aload_n hx hb dL_law_932 rfl (lv_at hl 3 rfl) ?_
  refine lv_iload_n hx hb dL_law_933 rfl (lv_at hl 2 rfl) ?_
  refine lv_iconst (v := nI 1) hx hb dL_law_934 (by decide) ?_
  refine lv_iadd hx hb dL_law_935 ?_
  refine r_scr (j := i + 1) hx hb hK hX hbl hw nI_addn (by omega) hL dL_law_936 ?_
  obtain ⟨ro, Ao, Bo, Lo, h1, h2, hR2⟩ := hSim T Ti A B L (xs (i + 1))  hR
  refine d_V (As := [.int (xs (i + 1))]) (v0 := some (.int ro)) hG E hw hl (m_X0_leastFacts l hG hC (rs := (B, L, X, M)) (show QTx K G (B, L, X, M).2.2.1 (B, L, X, M).2.2.2 T ta from hH.1) h1) (qX0 hC) rfl (cwV 1 hts (lw_V q1234 q1235 q1236 q137 q1237) rfl rfl rfl ⟨rfl, kd_X0_leastFacts⟩ ⟨Nat.le_of_ble_eq_true rfl, Nat.le_of_ble_eq_true rfl⟩) rfl (rest := []) (st1 := [.int ro]) rfl rfl rfl dL_law_937 ⟨(show cells ≤ 1200128 by omega), (show slots ≤ 5501098 by omega)⟩ (fun H locs hw => ?_)
  refine lv_aload_n hx hb dL_law_940 rfl (lv_at hl 1 rfl) ?_
  refine lv_aload_n hx hb dL_law_941 rfl (lv_at hl 3 rfl) ?_
  refine lv_iload_n hx hb dL_law_942 rfl (lv_at hl 2 rfl) ?_
  refine lv_iconst (v := nI 1) hx hb dL_law_943 (by decide) ?_
  refine lv_iadd hx hb dL_law_944 ?_
  refine r_scr (j := i + 1) hx hb hK hX hbl hw nI_addn (by omega) hL dL_law_945 ?_
  refine d_V (As := [.int (xs (i + 1))]) (v0 := some (.int ro)) hG E hw hl (m_X2_leastFacts l hG hM (A := Ao) (rs := (X, M)) h2) (qM0 hM) rfl (cwV 1 hts (lw_V q1921 q1922 q1923 q140 q1924) rfl rfl rfl ⟨rfl, kd_X2_leastFacts⟩ ⟨Nat.le_of_ble_eq_true rfl, Nat.le_of_ble_eq_true rfl⟩) rfl (rest := [.int ro]) (st1 := [.int ro, .int ro]) rfl rfl rfl dL_law_946 ⟨(show cells ≤ 1200128 by omega), (show slots ≤ 5501098 by omega)⟩ (fun H locs hw => ?_)
  refine lv_icmp_eq (tgt := 1455) hx hb dL_law_949 (by decide) (fun _ => ?_) (fun c => absurd rfl c)
  exact next T Ti ta Ao Bo Lo X M hR2 hH (by omega) (by omega) hw hl
set_option maxHeartbeats 4000000 in
theorem lc_game {p : Program} {l : Launch} {e : Env} {s : State} {m : MethodId} {below : List Frame} {meth : Method} {c : Code} {K : QK} {G : State → Prop} {Q : State → Prop} {b Ls i : Nat} {xs : Nat → Int32} {T Ti : Int32 → Option QT} {ta : Int32 → Nat} {A B : QA} {L : QL} {X : QX} {M : QM} {H : Heap} {locs : List Loc} {ls : Array Slot} {cells slots : Nat} {Rel : (Int32 → Option QT) → (Int32 → Option QT) → QA → QA → QL → Prop} (hSim : S_game Rel) (hG : QG G) (hC : QCl K) (hM : QMl K) (hK : K.1 = s.heap) (hX : va_X b Ls xs s s.heap) (hbl : b < s.heap.size) (hL : Ls ≤ 384) (hi : i + 5 < Ls) (E : EV K G p s m #[Value.ref b] meth c code "VaneCourtLaw" 4) (hc6 : cells + 6600 ≤ 1200128) (hs6 : slots + 78100 ≤ 5501098) (hR : Rel T Ti A B L) (hH : HW K G X M T Ti ta)
    (next : ∀ (T Ti : Int32 → Option QT) (ta : Int32 → Nat) (A B : QA) (L : QL) (X : QX) (M : QM), Rel T Ti A B L → HW K G X M T Ti ta → ∀ {H : Heap} {locs : List Loc} {ls : Array Slot} {cells1 slots1 : Nat}, cells1 ≤ cells + 6600 → slots1 ≤ slots + 78100 → WP K (A, B, L, X, M) H locs → lv_has ls 4 [(1, .ref (K.2.1 0)), (2, .ref (K.2.1 1000)), (3, .int (nI i)), (0, .ref b)] → W p l e room_1 s m #[Value.ref b] below meth c H locs cells1 slots1 Q (F0 m 1455 ls [])) (hw : WP K (A, B, L, X, M) H locs) (hl : lv_has ls 4 [(1, .ref (K.2.1 0)), (2, .ref (K.2.1 1000)), (3, .int (nI i)), (0, .ref b)]) : W p l e room_1 s m #[Value.ref b] below meth c H locs cells slots Q (F0 m 954 ls []) := by
  have hx := E.1
  have hb := E.2.1
  have hown := E.2.2.1
  have hts := E.2.2.2.2.1
  refine lv_aload_n hx hb dL_law_954 rfl (lv_at hl 0 rfl) ?_
  refine lv_aload_n hx hb dL_law_955 rfl (lv_at hl 3 rfl) ?_
  refine lv_iload_n hx hb dL_law_956 rfl (lv_at hl 2 rfl) ?_
  refine lv_iconst (v := nI 1) hx hb dL_law_957 (by decide) ?_
  refine lv_iadd hx hb dL_law_958 ?_
  refine r_scr (j := i + 1) hx hb hK hX hbl hw nI_addn (by omega) hL dL_law_959 ?_
  refine lv_aload_n hx hb dL_law_960 rfl (lv_at hl 3 rfl) ?_
  refine lv_iload_n hx hb dL_law_961 rfl (lv_at hl 2 rfl) ?_
  refine lv_iconst (v := nI 2) hx hb dL_law_962 (by decide) ?_
  refine lv_iadd hx hb dL_law_963 ?_
  refine r_scr (j := i + 2) hx hb hK hX hbl hw nI_addn (by omega) hL dL_law_964 ?_
  refine r_nz (t1 := 972) (t2 := 973) hx hb dL_law_965 dL_law_968 dL_law_969 (by decide) dL_law_972 (by decide) rfl ?_
  refine lv_aload_n hx hb dL_law_973 rfl (lv_at hl 3 rfl) ?_
  refine lv_iload_n hx hb dL_law_974 rfl (lv_at hl 2 rfl) ?_
  refine lv_iconst (v := nI 3) hx hb dL_law_975 (by decide) ?_
  refine lv_iadd hx hb dL_law_976 ?_
  refine r_scr (j := i + 3) hx hb hK hX hbl hw nI_addn (by omega) hL dL_law_977 ?_
  refine r_nz (t1 := 985) (t2 := 986) hx hb dL_law_978 dL_law_981 dL_law_982 (by decide) dL_law_985 (by decide) rfl ?_
  obtain ⟨ro, Ao, Bo, Lo, h1, h2, hR2⟩ := hSim T Ti A B L (xs (i + 1)) (bz (xs (i + 2))) (bz (xs (i + 3))) (bz_01 _) (bz_01 _) hR
  refine d_V (As := [.int (xs (i + 1)), .int (bz (xs (i + 2))), .int (bz (xs (i + 3)))]) (v0 := some (.int ro)) hG E hw hl (m_X0_game l hG hC (rs := (B, L, X, M)) (show QTx K G (B, L, X, M).2.2.1 (B, L, X, M).2.2.2 T ta from hH.1) h1) (qX0 hC) rfl (cwV 3 hts (lw_V q1238 q1239 q1240 q137 q1241) rfl rfl rfl ⟨rfl, kd_X0_game⟩ ⟨Nat.le_of_ble_eq_true rfl, Nat.le_of_ble_eq_true rfl⟩) rfl (rest := []) (st1 := [.int ro]) rfl rfl rfl dL_law_986 ⟨(show cells ≤ 1200128 by omega), (show slots ≤ 5501098 by omega)⟩ (fun H locs hw => ?_)
  refine lv_aload_n hx hb dL_law_989 rfl (lv_at hl 1 rfl) ?_
  refine lv_aload_n hx hb dL_law_990 rfl (lv_at hl 3 rfl) ?_
  refine lv_iload_n hx hb dL_law_991 rfl (lv_at hl 2 rfl) ?_
  refine lv_iconst (v := nI 1) hx hb dL_law_992 (by decide) ?_
  refine lv_iadd hx hb dL_law_993 ?_
  refine r_scr (j := i + 1) hx hb hK hX hbl hw nI_addn (by omega) hL dL_law_994 ?_
  refine lv_aload_n hx hb dL_law_995 rfl (lv_at hl 3 rfl) ?_
  refine lv_iload_n hx hb dL_law_996 rfl (lv_at hl 2 rfl) ?_
  refine lv_iconst (v := nI 2) hx hb dL_law_997 (by decide) ?_
  refine lv_iadd hx hb dL_law_998 ?_
  refine r_scr (j := i + 2) hx hb hK hX hbl hw nI_addn (by omega) hL dL_law_999 ?_
  refine r_nz (t1 := 1007) (t2 := 1008) hx hb dL_law_1000 dL_law_1003 dL_law_1004 (by decide) dL_law_1007 (by decide) rfl ?_
  refine lv_aload_n hx hb dL_law_1008 rfl (lv_at hl 3 rfl) ?_
  refine lv_iload_n hx hb dL_law_1009 rfl (lv_at hl 2 rfl) ?_
  refine lv_iconst (v := nI 3) hx hb dL_law_1010 (by decide) ?_
  refine lv_iadd hx hb dL_law_1011 ?_
  refine r_scr (j := i + 3) hx hb hK hX hbl hw nI_addn (by omega) hL dL_law_1012 ?_
  refine r_nz (t1 := 1020) (t2 := 1021) hx hb dL_law_1013 dL_law_1016 dL_law_1017 (by decide) dL_law_1020 (by decide) rfl ?_
  refine d_V (As := [.int (xs (i + 1)), .int (bz (xs (i + 2))), .int (bz (xs (i + 3)))]) (v0 := some (.int ro)) hG E hw hl (m_X2_game l hG hM (A := Ao) (rs := (X, M)) h2) (qM0 hM) rfl (cwV 3 hts (lw_V q1925 q1926 q1927 q140 q1928) rfl rfl rfl ⟨rfl, kd_X2_game⟩ ⟨Nat.le_of_ble_eq_true rfl, Nat.le_of_ble_eq_true rfl⟩) rfl (rest := [.int ro]) (st1 := [.int ro, .int ro]) rfl rfl rfl dL_law_1021 ⟨(show cells ≤ 1200128 by omega), (show slots ≤ 5501098 by omega)⟩ (fun H locs hw => ?_)
  refine lv_icmp_eq (tgt := 1455) hx hb dL_law_1024 (by decide) (fun _ => ?_) (fun c => absurd rfl c)
  exact next T Ti ta Ao Bo Lo X M hR2 hH (by omega) (by omega) hw hl
set_option maxHeartbeats 4000000 in
theorem lc_session {p : Program} {l : Launch} {e : Env} {s : State} {m : MethodId} {below : List Frame} {meth : Method} {c : Code} {K : QK} {G : State → Prop} {Q : State → Prop} {b Ls i : Nat} {xs : Nat → Int32} {T Ti : Int32 → Option QT} {ta : Int32 → Nat} {A B : QA} {L : QL} {X : QX} {M : QM} {H : Heap} {locs : List Loc} {ls : Array Slot} {cells slots : Nat} {Rel : (Int32 → Option QT) → (Int32 → Option QT) → QA → QA → QL → Prop} (hSim : S_session Rel) (hG : QG G) (hC : QCl K) (hM : QMl K) (hK : K.1 = s.heap) (hX : va_X b Ls xs s s.heap) (hbl : b < s.heap.size) (hL : Ls ≤ 384) (hi : i + 5 < Ls) (E : EV K G p s m #[Value.ref b] meth c code "VaneCourtLaw" 4) (hc6 : cells + 6600 ≤ 1200128) (hs6 : slots + 78100 ≤ 5501098) (hR : Rel T Ti A B L) (hH : HW K G X M T Ti ta)
    (next : ∀ (T Ti : Int32 → Option QT) (ta : Int32 → Nat) (A B : QA) (L : QL) (X : QX) (M : QM), Rel T Ti A B L → HW K G X M T Ti ta → ∀ {H : Heap} {locs : List Loc} {ls : Array Slot} {cells1 slots1 : Nat}, cells1 ≤ cells + 6600 → slots1 ≤ slots + 78100 → WP K (A, B, L, X, M) H locs → lv_has ls 4 [(1, .ref (K.2.1 0)), (2, .ref (K.2.1 1000)), (3, .int (nI i)), (0, .ref b)] → W p l e room_1 s m #[Value.ref b] below meth c H locs cells1 slots1 Q (F0 m 1455 ls [])) (hw : WP K (A, B, L, X, M) H locs) (hl : lv_has ls 4 [(1, .ref (K.2.1 0)), (2, .ref (K.2.1 1000)), (3, .int (nI i)), (0, .ref b)]) : W p l e room_1 s m #[Value.ref b] below meth c H locs cells slots Q (F0 m 1029 ls []) := by
  have hx := E.1
  have hb := E.2.1
  have hown := E.2.2.1
  have hts := E.2.2.2.2.1
  refine lv_aload_n hx hb dL_law_1029 rfl (lv_at hl 0 rfl) ?_
  refine lv_aload_n hx hb dL_law_1030 rfl (lv_at hl 3 rfl) ?_
  refine lv_iload_n hx hb dL_law_1031 rfl (lv_at hl 2 rfl) ?_
  refine lv_iconst (v := nI 1) hx hb dL_law_1032 (by decide) ?_
  refine lv_iadd hx hb dL_law_1033 ?_
  refine r_scr (j := i + 1) hx hb hK hX hbl hw nI_addn (by omega) hL dL_law_1034 ?_
  refine lv_aload_n hx hb dL_law_1035 rfl (lv_at hl 3 rfl) ?_
  refine lv_iload_n hx hb dL_law_1036 rfl (lv_at hl 2 rfl) ?_
  refine lv_iconst (v := nI 2) hx hb dL_law_1037 (by decide) ?_
  refine lv_iadd hx hb dL_law_1038 ?_
  refine r_scr (j := i + 2) hx hb hK hX hbl hw nI_addn (by omega) hL dL_law_1039 ?_
  obtain ⟨ro, Ao, Bo, Lo, h1, h2, hR2⟩ := hSim T Ti A B L (xs (i + 1)) (xs (i + 2))  hR
  refine d_V (As := [.int (xs (i + 1)), .int (xs (i + 2))]) (v0 := some (.int ro)) hG E hw hl (m_X0_session l hG hC (rs := (B, L, X, M)) (show QTx K G (B, L, X, M).2.2.1 (B, L, X, M).2.2.2 T ta from hH.1) h1) (qX0 hC) rfl (cwV 2 hts (lw_V q1248 q1249 q1250 q137 q1251) rfl rfl rfl ⟨rfl, kd_X0_session⟩ ⟨Nat.le_of_ble_eq_true rfl, Nat.le_of_ble_eq_true rfl⟩) rfl (rest := []) (st1 := [.int ro]) rfl rfl rfl dL_law_1040 ⟨(show cells ≤ 1200128 by omega), (show slots ≤ 5501098 by omega)⟩ (fun H locs hw => ?_)
  refine lv_aload_n hx hb dL_law_1043 rfl (lv_at hl 1 rfl) ?_
  refine lv_aload_n hx hb dL_law_1044 rfl (lv_at hl 3 rfl) ?_
  refine lv_iload_n hx hb dL_law_1045 rfl (lv_at hl 2 rfl) ?_
  refine lv_iconst (v := nI 1) hx hb dL_law_1046 (by decide) ?_
  refine lv_iadd hx hb dL_law_1047 ?_
  refine r_scr (j := i + 1) hx hb hK hX hbl hw nI_addn (by omega) hL dL_law_1048 ?_
  refine lv_aload_n hx hb dL_law_1049 rfl (lv_at hl 3 rfl) ?_
  refine lv_iload_n hx hb dL_law_1050 rfl (lv_at hl 2 rfl) ?_
  refine lv_iconst (v := nI 2) hx hb dL_law_1051 (by decide) ?_
  refine lv_iadd hx hb dL_law_1052 ?_
  refine r_scr (j := i + 2) hx hb hK hX hbl hw nI_addn (by omega) hL dL_law_1053 ?_
  refine d_V (As := [.int (xs (i + 1)), .int (xs (i + 2))]) (v0 := some (.int ro)) hG E hw hl (m_X2_session l hG hM (A := Ao) (rs := (X, M)) h2) (qM0 hM) rfl (cwV 2 hts (lw_V q1930 q1931 q1932 q140 q1933) rfl rfl rfl ⟨rfl, kd_X2_session⟩ ⟨Nat.le_of_ble_eq_true rfl, Nat.le_of_ble_eq_true rfl⟩) rfl (rest := [.int ro]) (st1 := [.int ro, .int ro]) rfl rfl rfl dL_law_1054 ⟨(show cells ≤ 1200128 by omega), (show slots ≤ 5501098 by omega)⟩ (fun H locs hw => ?_)
  refine lv_icmp_eq (tgt := 1455) hx hb dL_law_1057 (by decide) (fun _ => ?_) (fun c => absurd rfl c)
  exact next T Ti ta Ao Bo Lo X M hR2 hH (by omega) (by omega) hw hl
set_option maxHeartbeats 4000000 in
theorem lc_record {p : Program} {l : Launch} {e : Env} {s : State} {m : MethodId} {below : List Frame} {meth : Method} {c : Code} {K : QK} {G : State → Prop} {Q : State → Prop} {b Ls i : Nat} {xs : Nat → Int32} {T Ti : Int32 → Option QT} {ta : Int32 → Nat} {A B : QA} {L : QL} {X : QX} {M : QM} {H : Heap} {locs : List Loc} {ls : Array Slot} {cells slots : Nat} {Rel : (Int32 → Option QT) → (Int32 → Option QT) → QA → QA → QL → Prop} (hSim : S_record Rel) (hG : QG G) (hC : QCl K) (hM : QMl K) (hK : K.1 = s.heap) (hX : va_X b Ls xs s s.heap) (hbl : b < s.heap.size) (hL : Ls ≤ 384) (hi : i + 5 < Ls) (E : EV K G p s m #[Value.ref b] meth c code "VaneCourtLaw" 4) (hc6 : cells + 6600 ≤ 1200128) (hs6 : slots + 78100 ≤ 5501098) (hR : Rel T Ti A B L) (hH : HW K G X M T Ti ta)
    (next : ∀ (T Ti : Int32 → Option QT) (ta : Int32 → Nat) (A B : QA) (L : QL) (X : QX) (M : QM), Rel T Ti A B L → HW K G X M T Ti ta → ∀ {H : Heap} {locs : List Loc} {ls : Array Slot} {cells1 slots1 : Nat}, cells1 ≤ cells + 6600 → slots1 ≤ slots + 78100 → WP K (A, B, L, X, M) H locs → lv_has ls 4 [(1, .ref (K.2.1 0)), (2, .ref (K.2.1 1000)), (3, .int (nI i)), (0, .ref b)] → W p l e room_1 s m #[Value.ref b] below meth c H locs cells1 slots1 Q (F0 m 1455 ls [])) (hw : WP K (A, B, L, X, M) H locs) (hl : lv_has ls 4 [(1, .ref (K.2.1 0)), (2, .ref (K.2.1 1000)), (3, .int (nI i)), (0, .ref b)]) : W p l e room_1 s m #[Value.ref b] below meth c H locs cells slots Q (F0 m 1062 ls []) := by
  have hx := E.1
  have hb := E.2.1
  have hown := E.2.2.1
  have hts := E.2.2.2.2.1
  refine lv_aload_n hx hb dL_law_1062 rfl (lv_at hl 0 rfl) ?_
  refine lv_aload_n hx hb dL_law_1063 rfl (lv_at hl 3 rfl) ?_
  refine lv_iload_n hx hb dL_law_1064 rfl (lv_at hl 2 rfl) ?_
  refine lv_iconst (v := nI 1) hx hb dL_law_1065 (by decide) ?_
  refine lv_iadd hx hb dL_law_1066 ?_
  refine r_scr (j := i + 1) hx hb hK hX hbl hw nI_addn (by omega) hL dL_law_1067 ?_
  refine lv_aload_n hx hb dL_law_1068 rfl (lv_at hl 3 rfl) ?_
  refine lv_iload_n hx hb dL_law_1069 rfl (lv_at hl 2 rfl) ?_
  refine lv_iconst (v := nI 2) hx hb dL_law_1070 (by decide) ?_
  refine lv_iadd hx hb dL_law_1071 ?_
  refine r_scr (j := i + 2) hx hb hK hX hbl hw nI_addn (by omega) hL dL_law_1072 ?_
  refine lv_aload_n hx hb dL_law_1073 rfl (lv_at hl 3 rfl) ?_
  refine lv_iload_n hx hb dL_law_1074 rfl (lv_at hl 2 rfl) ?_
  refine lv_iconst (v := nI 3) hx hb dL_law_1075 (by decide) ?_
  refine lv_iadd hx hb dL_law_1076 ?_
  refine r_scr (j := i + 3) hx hb hK hX hbl hw nI_addn (by omega) hL dL_law_1077 ?_
  refine r_nz (t1 := 1085) (t2 := 1086) hx hb dL_law_1078 dL_law_1081 dL_law_1082 (by decide) dL_law_1085 (by decide) rfl ?_
  obtain ⟨ro, Ao, Bo, h1, h2, hR2⟩ := hSim T Ti A B L (xs (i + 1)) (xs (i + 2)) (bz (xs (i + 3))) (bz_01 _) hR
  refine c_V (As := [.int (xs (i + 1)), .int (xs (i + 2)), .int (bz (xs (i + 3)))]) (rest := []) hG E hw (m_X0_record l hG hC h1) (qX0 hC) rfl (cwV 3 hts (lw_V q1260 q1261 q1262 q137 q1263) rfl rfl rfl ⟨rfl, kd_X0_record⟩ ⟨Nat.le_of_ble_eq_true rfl, Nat.le_of_ble_eq_true rfl⟩) hl rfl rfl (Nat.le_of_ble_eq_true rfl) dL_law_1086 ⟨(show cells + 1 ≤ 1200128 by omega), (show slots + 3 ≤ 5501098 by omega)⟩ (fun v w1 H locs hP hw => ?_)
  obtain ⟨rfl, M1, rfl, hx1⟩ := hP
  refine W.eq (g2 := F0 m 1089 ls [.int ro]) rfl ?_
  refine lv_aload_n hx hb dL_law_1089 rfl (lv_at hl 1 rfl) ?_
  refine lv_aload_n hx hb dL_law_1090 rfl (lv_at hl 3 rfl) ?_
  refine lv_iload_n hx hb dL_law_1091 rfl (lv_at hl 2 rfl) ?_
  refine lv_iconst (v := nI 1) hx hb dL_law_1092 (by decide) ?_
  refine lv_iadd hx hb dL_law_1093 ?_
  refine r_scr (j := i + 1) hx hb hK hX hbl hw nI_addn (by omega) hL dL_law_1094 ?_
  refine lv_aload_n hx hb dL_law_1095 rfl (lv_at hl 3 rfl) ?_
  refine lv_iload_n hx hb dL_law_1096 rfl (lv_at hl 2 rfl) ?_
  refine lv_iconst (v := nI 2) hx hb dL_law_1097 (by decide) ?_
  refine lv_iadd hx hb dL_law_1098 ?_
  refine r_scr (j := i + 2) hx hb hK hX hbl hw nI_addn (by omega) hL dL_law_1099 ?_
  refine lv_aload_n hx hb dL_law_1100 rfl (lv_at hl 3 rfl) ?_
  refine lv_iload_n hx hb dL_law_1101 rfl (lv_at hl 2 rfl) ?_
  refine lv_iconst (v := nI 3) hx hb dL_law_1102 (by decide) ?_
  refine lv_iadd hx hb dL_law_1103 ?_
  refine r_scr (j := i + 3) hx hb hK hX hbl hw nI_addn (by omega) hL dL_law_1104 ?_
  refine r_nz (t1 := 1112) (t2 := 1113) hx hb dL_law_1105 dL_law_1108 dL_law_1109 (by decide) dL_law_1112 (by decide) rfl ?_
  refine d_V (As := [.int (xs (i + 1)), .int (xs (i + 2)), .int (bz (xs (i + 3)))]) (v0 := some (.int ro)) hG E hw hl (m_X2_record l hG hM (A := Ao) (rs := (X, M1)) h2) (qM0 hM) rfl (cwV 3 hts (lw_V q1942 q1943 q1944 q140 q1945) rfl rfl rfl ⟨rfl, kd_X2_record⟩ ⟨Nat.le_of_ble_eq_true rfl, Nat.le_of_ble_eq_true rfl⟩) rfl (rest := [.int ro]) (st1 := [.int ro, .int ro]) rfl rfl rfl dL_law_1113 ⟨(show cells + 1 ≤ 1200128 by omega), (show slots + 3 ≤ 5501098 by omega)⟩ (fun H locs hw => ?_)
  refine lv_icmp_eq (tgt := 1455) hx hb dL_law_1116 (by decide) (fun _ => ?_) (fun c => absurd rfl c)
  exact next T Ti ta Ao Bo L X M1 hR2 (hH.ext hx1) (by omega) (by omega) hw hl
set_option maxHeartbeats 4000000 in
theorem lc_turned {p : Program} {l : Launch} {e : Env} {s : State} {m : MethodId} {below : List Frame} {meth : Method} {c : Code} {K : QK} {G : State → Prop} {Q : State → Prop} {b Ls i : Nat} {xs : Nat → Int32} {T Ti : Int32 → Option QT} {ta : Int32 → Nat} {A B : QA} {L : QL} {X : QX} {M : QM} {H : Heap} {locs : List Loc} {ls : Array Slot} {cells slots : Nat} {Rel : (Int32 → Option QT) → (Int32 → Option QT) → QA → QA → QL → Prop} (hSim : S_turned Rel) (hG : QG G) (hC : QCl K) (hM : QMl K) (hK : K.1 = s.heap) (hX : va_X b Ls xs s s.heap) (hbl : b < s.heap.size) (hL : Ls ≤ 384) (hi : i + 5 < Ls) (E : EV K G p s m #[Value.ref b] meth c code "VaneCourtLaw" 4) (hc6 : cells + 6600 ≤ 1200128) (hs6 : slots + 78100 ≤ 5501098) (hR : Rel T Ti A B L) (hH : HW K G X M T Ti ta)
    (next : ∀ (T Ti : Int32 → Option QT) (ta : Int32 → Nat) (A B : QA) (L : QL) (X : QX) (M : QM), Rel T Ti A B L → HW K G X M T Ti ta → ∀ {H : Heap} {locs : List Loc} {ls : Array Slot} {cells1 slots1 : Nat}, cells1 ≤ cells + 6600 → slots1 ≤ slots + 78100 → WP K (A, B, L, X, M) H locs → lv_has ls 4 [(1, .ref (K.2.1 0)), (2, .ref (K.2.1 1000)), (3, .int (nI i)), (0, .ref b)] → W p l e room_1 s m #[Value.ref b] below meth c H locs cells1 slots1 Q (F0 m 1455 ls [])) (hw : WP K (A, B, L, X, M) H locs) (hl : lv_has ls 4 [(1, .ref (K.2.1 0)), (2, .ref (K.2.1 1000)), (3, .int (nI i)), (0, .ref b)]) : W p l e room_1 s m #[Value.ref b] below meth c H locs cells slots Q (F0 m 1121 ls []) := by
  have hx := E.1
  have hb := E.2.1
  have hown := E.2.2.1
  have hts := E.2.2.2.2.1
  refine lv_aload_n hx hb dL_law_1121 rfl (lv_at hl 0 rfl) ?_
  obtain ⟨ro, Ao, Bo, Lo, h1, h2, hR2⟩ := hSim T Ti A B L   hR
  refine d_V (As := []) (v0 := some (.int ro)) hG E hw hl (m_X0_turned l hG hC (rs := (B, L, X, M)) (show QTx K G (B, L, X, M).2.2.1 (B, L, X, M).2.2.2 T ta from hH.1) h1) (qX0 hC) rfl (cwV 0 hts (lw_V q1264 q1265 q1266 q137 q1267) rfl rfl rfl ⟨rfl, kd_X0_turned⟩ ⟨Nat.le_of_ble_eq_true rfl, Nat.le_of_ble_eq_true rfl⟩) rfl (rest := []) (st1 := [.int ro]) rfl rfl rfl dL_law_1122 ⟨(show cells ≤ 1200128 by omega), (show slots ≤ 5501098 by omega)⟩ (fun H locs hw => ?_)
  refine lv_aload_n hx hb dL_law_1125 rfl (lv_at hl 1 rfl) ?_
  refine d_V (As := []) (v0 := some (.int ro)) hG E hw hl (m_X2_turned l hG hM (A := Ao) (rs := (X, M)) h2) (qM0 hM) rfl (cwV 0 hts (lw_V q1946 q1947 q1948 q140 q1949) rfl rfl rfl ⟨rfl, kd_X2_turned⟩ ⟨Nat.le_of_ble_eq_true rfl, Nat.le_of_ble_eq_true rfl⟩) rfl (rest := [.int ro]) (st1 := [.int ro, .int ro]) rfl rfl rfl dL_law_1126 ⟨(show cells ≤ 1200128 by omega), (show slots ≤ 5501098 by omega)⟩ (fun H locs hw => ?_)
  refine lv_icmp_eq (tgt := 1455) hx hb dL_law_1129 (by decide) (fun _ => ?_) (fun c => absurd rfl c)
  exact next T Ti ta Ao Bo Lo X M hR2 hH (by omega) (by omega) hw hl
set_option maxHeartbeats 4000000 in
theorem lc_fewestWrong {p : Program} {l : Launch} {e : Env} {s : State} {m : MethodId} {below : List Frame} {meth : Method} {c : Code} {K : QK} {G : State → Prop} {Q : State → Prop} {b Ls i : Nat} {xs : Nat → Int32} {T Ti : Int32 → Option QT} {ta : Int32 → Nat} {A B : QA} {L : QL} {X : QX} {M : QM} {H : Heap} {locs : List Loc} {ls : Array Slot} {cells slots : Nat} {Rel : (Int32 → Option QT) → (Int32 → Option QT) → QA → QA → QL → Prop} (hSim : S_fewestWrong Rel) (hG : QG G) (hC : QCl K) (hM : QMl K) (hK : K.1 = s.heap) (hX : va_X b Ls xs s s.heap) (hbl : b < s.heap.size) (hL : Ls ≤ 384) (hi : i + 5 < Ls) (E : EV K G p s m #[Value.ref b] meth c code "VaneCourtLaw" 4) (hc6 : cells + 6600 ≤ 1200128) (hs6 : slots + 78100 ≤ 5501098) (hR : Rel T Ti A B L) (hH : HW K G X M T Ti ta)
    (next : ∀ (T Ti : Int32 → Option QT) (ta : Int32 → Nat) (A B : QA) (L : QL) (X : QX) (M : QM), Rel T Ti A B L → HW K G X M T Ti ta → ∀ {H : Heap} {locs : List Loc} {ls : Array Slot} {cells1 slots1 : Nat}, cells1 ≤ cells + 6600 → slots1 ≤ slots + 78100 → WP K (A, B, L, X, M) H locs → lv_has ls 4 [(1, .ref (K.2.1 0)), (2, .ref (K.2.1 1000)), (3, .int (nI i)), (0, .ref b)] → W p l e room_1 s m #[Value.ref b] below meth c H locs cells1 slots1 Q (F0 m 1455 ls [])) (hw : WP K (A, B, L, X, M) H locs) (hl : lv_has ls 4 [(1, .ref (K.2.1 0)), (2, .ref (K.2.1 1000)), (3, .int (nI i)), (0, .ref b)]) : W p l e room_1 s m #[Value.ref b] below meth c H locs cells slots Q (F0 m 1134 ls []) := by
  have hx := E.1
  have hb := E.2.1
  have hown := E.2.2.1
  have hts := E.2.2.2.2.1
  refine lv_aload_n hx hb dL_law_1134 rfl (lv_at hl 0 rfl) ?_
  obtain ⟨ro, Ao, Bo, Lo, h1, h2, hR2⟩ := hSim T Ti A B L   hR
  refine d_V (As := []) (v0 := some (.int ro)) hG E hw hl (m_X0_fewestWrong l hG hC (rs := (B, L, X, M)) (show QTx K G (B, L, X, M).2.2.1 (B, L, X, M).2.2.2 T ta from hH.1) h1) (qX0 hC) rfl (cwV 0 hts (lw_V q1272 q1273 q1274 q137 q1275) rfl rfl rfl ⟨rfl, kd_X0_fewestWrong⟩ ⟨Nat.le_of_ble_eq_true rfl, Nat.le_of_ble_eq_true rfl⟩) rfl (rest := []) (st1 := [.int ro]) rfl rfl rfl dL_law_1135 ⟨(show cells ≤ 1200128 by omega), (show slots ≤ 5501098 by omega)⟩ (fun H locs hw => ?_)
  refine lv_aload_n hx hb dL_law_1138 rfl (lv_at hl 1 rfl) ?_
  refine d_V (As := []) (v0 := some (.int ro)) hG E hw hl (m_X2_fewestWrong l hG hM (A := Ao) (rs := (X, M)) h2) (qM0 hM) rfl (cwV 0 hts (lw_V q1954 q1955 q1956 q140 q1957) rfl rfl rfl ⟨rfl, kd_X2_fewestWrong⟩ ⟨Nat.le_of_ble_eq_true rfl, Nat.le_of_ble_eq_true rfl⟩) rfl (rest := [.int ro]) (st1 := [.int ro, .int ro]) rfl rfl rfl dL_law_1139 ⟨(show cells ≤ 1200128 by omega), (show slots ≤ 5501098 by omega)⟩ (fun H locs hw => ?_)
  refine lv_icmp_eq (tgt := 1455) hx hb dL_law_1142 (by decide) (fun _ => ?_) (fun c => absurd rfl c)
  exact next T Ti ta Ao Bo Lo X M hR2 hH (by omega) (by omega) hw hl
set_option maxHeartbeats 4000000 in
theorem lc_whose {p : Program} {l : Launch} {e : Env} {s : State} {m : MethodId} {below : List Frame} {meth : Method} {c : Code} {K : QK} {G : State → Prop} {Q : State → Prop} {b Ls i : Nat} {xs : Nat → Int32} {T Ti : Int32 → Option QT} {ta : Int32 → Nat} {A B : QA} {L : QL} {X : QX} {M : QM} {H : Heap} {locs : List Loc} {ls : Array Slot} {cells slots : Nat} {Rel : (Int32 → Option QT) → (Int32 → Option QT) → QA → QA → QL → Prop} (hSim : S_whose Rel) (hG : QG G) (hC : QCl K) (hM : QMl K) (hK : K.1 = s.heap) (hX : va_X b Ls xs s s.heap) (hbl : b < s.heap.size) (hL : Ls ≤ 384) (hi : i + 5 < Ls) (E : EV K G p s m #[Value.ref b] meth c code "VaneCourtLaw" 4) (hc6 : cells + 6600 ≤ 1200128) (hs6 : slots + 78100 ≤ 5501098) (hR : Rel T Ti A B L) (hH : HW K G X M T Ti ta)
    (next : ∀ (T Ti : Int32 → Option QT) (ta : Int32 → Nat) (A B : QA) (L : QL) (X : QX) (M : QM), Rel T Ti A B L → HW K G X M T Ti ta → ∀ {H : Heap} {locs : List Loc} {ls : Array Slot} {cells1 slots1 : Nat}, cells1 ≤ cells + 6600 → slots1 ≤ slots + 78100 → WP K (A, B, L, X, M) H locs → lv_has ls 4 [(1, .ref (K.2.1 0)), (2, .ref (K.2.1 1000)), (3, .int (nI i)), (0, .ref b)] → W p l e room_1 s m #[Value.ref b] below meth c H locs cells1 slots1 Q (F0 m 1455 ls [])) (hw : WP K (A, B, L, X, M) H locs) (hl : lv_has ls 4 [(1, .ref (K.2.1 0)), (2, .ref (K.2.1 1000)), (3, .int (nI i)), (0, .ref b)]) : W p l e room_1 s m #[Value.ref b] below meth c H locs cells slots Q (F0 m 1147 ls []) := by
  have hx := E.1
  have hb := E.2.1
  have hown := E.2.2.1
  have hts := E.2.2.2.2.1
  refine lv_aload_n hx hb dL_law_1147 rfl (lv_at hl 0 rfl) ?_
  obtain ⟨ro, Ao, Bo, Lo, h1, h2, hR2⟩ := hSim T Ti A B L   hR
  refine d_V (As := []) (v0 := some (.int ro)) hG E hw hl (m_X0_whose l hG hC (rs := (B, L, X, M)) (show QTx K G (B, L, X, M).2.2.1 (B, L, X, M).2.2.2 T ta from hH.1) h1) (qX0 hC) rfl (cwV 0 hts (lw_V q1276 q1277 q1278 q137 q1279) rfl rfl rfl ⟨rfl, kd_X0_whose⟩ ⟨Nat.le_of_ble_eq_true rfl, Nat.le_of_ble_eq_true rfl⟩) rfl (rest := []) (st1 := [.int ro]) rfl rfl rfl dL_law_1148 ⟨(show cells ≤ 1200128 by omega), (show slots ≤ 5501098 by omega)⟩ (fun H locs hw => ?_)
  refine lv_aload_n hx hb dL_law_1151 rfl (lv_at hl 1 rfl) ?_
  refine d_V (As := []) (v0 := some (.int ro)) hG E hw hl (m_X2_whose l hG hM (A := Ao) (rs := (X, M)) h2) (qM0 hM) rfl (cwV 0 hts (lw_V q1959 q1960 q1961 q140 q1962) rfl rfl rfl ⟨rfl, kd_X2_whose⟩ ⟨Nat.le_of_ble_eq_true rfl, Nat.le_of_ble_eq_true rfl⟩) rfl (rest := [.int ro]) (st1 := [.int ro, .int ro]) rfl rfl rfl dL_law_1152 ⟨(show cells ≤ 1200128 by omega), (show slots ≤ 5501098 by omega)⟩ (fun H locs hw => ?_)
  refine lv_icmp_eq (tgt := 1455) hx hb dL_law_1155 (by decide) (fun _ => ?_) (fun c => absurd rfl c)
  exact next T Ti ta Ao Bo Lo X M hR2 hH (by omega) (by omega) hw hl
set_option maxHeartbeats 4000000 in
theorem lc_learn {p : Program} {l : Launch} {e : Env} {s : State} {m : MethodId} {below : List Frame} {meth : Method} {c : Code} {K : QK} {G : State → Prop} {Q : State → Prop} {b Ls i : Nat} {xs : Nat → Int32} {T Ti : Int32 → Option QT} {ta : Int32 → Nat} {A B : QA} {L : QL} {X : QX} {M : QM} {H : Heap} {locs : List Loc} {ls : Array Slot} {cells slots : Nat} {Rel : (Int32 → Option QT) → (Int32 → Option QT) → QA → QA → QL → Prop} (hSim : S_learn Rel) (hG : QG G) (hC : QCl K) (hM : QMl K) (hK : K.1 = s.heap) (hX : va_X b Ls xs s s.heap) (hbl : b < s.heap.size) (hL : Ls ≤ 384) (hi : i + 5 < Ls) (E : EV K G p s m #[Value.ref b] meth c code "VaneCourtLaw" 4) (hc6 : cells + 6600 ≤ 1200128) (hs6 : slots + 78100 ≤ 5501098) (hR : Rel T Ti A B L) (hH : HW K G X M T Ti ta)
    (next : ∀ (T Ti : Int32 → Option QT) (ta : Int32 → Nat) (A B : QA) (L : QL) (X : QX) (M : QM), Rel T Ti A B L → HW K G X M T Ti ta → ∀ {H : Heap} {locs : List Loc} {ls : Array Slot} {cells1 slots1 : Nat}, cells1 ≤ cells + 6600 → slots1 ≤ slots + 78100 → WP K (A, B, L, X, M) H locs → lv_has ls 4 [(1, .ref (K.2.1 0)), (2, .ref (K.2.1 1000)), (3, .int (nI i)), (0, .ref b)] → W p l e room_1 s m #[Value.ref b] below meth c H locs cells1 slots1 Q (F0 m 1455 ls [])) (hw : WP K (A, B, L, X, M) H locs) (hl : lv_has ls 4 [(1, .ref (K.2.1 0)), (2, .ref (K.2.1 1000)), (3, .int (nI i)), (0, .ref b)]) : W p l e room_1 s m #[Value.ref b] below meth c H locs cells slots Q (F0 m 1160 ls []) := by
  have hx := E.1
  have hb := E.2.1
  have hown := E.2.2.1
  have hts := E.2.2.2.2.1
  refine lv_aload_n hx hb dL_law_1160 rfl (lv_at hl 0 rfl) ?_
  refine lv_aload_n hx hb dL_law_1161 rfl (lv_at hl 3 rfl) ?_
  refine lv_iload_n hx hb dL_law_1162 rfl (lv_at hl 2 rfl) ?_
  refine lv_iconst (v := nI 1) hx hb dL_law_1163 (by decide) ?_
  refine lv_iadd hx hb dL_law_1164 ?_
  refine r_scr (j := i + 1) hx hb hK hX hbl hw nI_addn (by omega) hL dL_law_1165 ?_
  refine lv_aload_n hx hb dL_law_1166 rfl (lv_at hl 3 rfl) ?_
  refine lv_iload_n hx hb dL_law_1167 rfl (lv_at hl 2 rfl) ?_
  refine lv_iconst (v := nI 2) hx hb dL_law_1168 (by decide) ?_
  refine lv_iadd hx hb dL_law_1169 ?_
  refine r_scr (j := i + 2) hx hb hK hX hbl hw nI_addn (by omega) hL dL_law_1170 ?_
  refine r_nz (t1 := 1178) (t2 := 1179) hx hb dL_law_1171 dL_law_1174 dL_law_1175 (by decide) dL_law_1178 (by decide) rfl ?_
  obtain ⟨ro, Ao, Bo, h1, h2, hR2⟩ := hSim T Ti A B L (xs (i + 1)) (bz (xs (i + 2))) (bz_01 _) hR
  refine c_V (As := [.int (xs (i + 1)), .int (bz (xs (i + 2)))]) (rest := []) hG E hw (m_X0_learn l hG hC h1) (qX0 hC) rfl (cwV 2 hts (lw_V q1280 q1281 q1282 q137 q1283) rfl rfl rfl ⟨rfl, kd_X0_learn⟩ ⟨Nat.le_of_ble_eq_true rfl, Nat.le_of_ble_eq_true rfl⟩) hl rfl rfl (Nat.le_of_ble_eq_true rfl) dL_law_1179 ⟨(show cells + 1 ≤ 1200128 by omega), (show slots + 2 ≤ 5501098 by omega)⟩ (fun v w1 H locs hP hw => ?_)
  obtain ⟨rfl, M1, rfl, hx1⟩ := hP
  refine W.eq (g2 := F0 m 1182 ls [.int ro]) rfl ?_
  refine lv_aload_n hx hb dL_law_1182 rfl (lv_at hl 1 rfl) ?_
  refine lv_aload_n hx hb dL_law_1183 rfl (lv_at hl 3 rfl) ?_
  refine lv_iload_n hx hb dL_law_1184 rfl (lv_at hl 2 rfl) ?_
  refine lv_iconst (v := nI 1) hx hb dL_law_1185 (by decide) ?_
  refine lv_iadd hx hb dL_law_1186 ?_
  refine r_scr (j := i + 1) hx hb hK hX hbl hw nI_addn (by omega) hL dL_law_1187 ?_
  refine lv_aload_n hx hb dL_law_1188 rfl (lv_at hl 3 rfl) ?_
  refine lv_iload_n hx hb dL_law_1189 rfl (lv_at hl 2 rfl) ?_
  refine lv_iconst (v := nI 2) hx hb dL_law_1190 (by decide) ?_
  refine lv_iadd hx hb dL_law_1191 ?_
  refine r_scr (j := i + 2) hx hb hK hX hbl hw nI_addn (by omega) hL dL_law_1192 ?_
  refine r_nz (t1 := 1200) (t2 := 1201) hx hb dL_law_1193 dL_law_1196 dL_law_1197 (by decide) dL_law_1200 (by decide) rfl ?_
  refine d_V (As := [.int (xs (i + 1)), .int (bz (xs (i + 2)))]) (v0 := some (.int ro)) hG E hw hl (m_X2_learn l hG hM (A := Ao) (rs := (X, M1)) h2) (qM0 hM) rfl (cwV 2 hts (lw_V q1963 q1964 q1965 q140 q1966) rfl rfl rfl ⟨rfl, kd_X2_learn⟩ ⟨Nat.le_of_ble_eq_true rfl, Nat.le_of_ble_eq_true rfl⟩) rfl (rest := [.int ro]) (st1 := [.int ro, .int ro]) rfl rfl rfl dL_law_1201 ⟨(show cells + 1 ≤ 1200128 by omega), (show slots + 2 ≤ 5501098 by omega)⟩ (fun H locs hw => ?_)
  refine lv_icmp_eq (tgt := 1455) hx hb dL_law_1204 (by decide) (fun _ => ?_) (fun c => absurd rfl c)
  exact next T Ti ta Ao Bo L X M1 hR2 (hH.ext hx1) (by omega) (by omega) hw hl
set_option maxHeartbeats 4000000 in
theorem lc_codes {p : Program} {l : Launch} {e : Env} {s : State} {m : MethodId} {below : List Frame} {meth : Method} {c : Code} {K : QK} {G : State → Prop} {Q : State → Prop} {b Ls i : Nat} {xs : Nat → Int32} {T Ti : Int32 → Option QT} {ta : Int32 → Nat} {A B : QA} {L : QL} {X : QX} {M : QM} {H : Heap} {locs : List Loc} {ls : Array Slot} {cells slots : Nat} {Rel : (Int32 → Option QT) → (Int32 → Option QT) → QA → QA → QL → Prop} (hSim : S_codes Rel) (hG : QG G) (hC : QCl K) (hM : QMl K) (hK : K.1 = s.heap) (hX : va_X b Ls xs s s.heap) (hbl : b < s.heap.size) (hL : Ls ≤ 384) (hi : i + 5 < Ls) (E : EV K G p s m #[Value.ref b] meth c code "VaneCourtLaw" 4) (hc6 : cells + 6600 ≤ 1200128) (hs6 : slots + 78100 ≤ 5501098) (hR : Rel T Ti A B L) (hH : HW K G X M T Ti ta)
    (next : ∀ (T Ti : Int32 → Option QT) (ta : Int32 → Nat) (A B : QA) (L : QL) (X : QX) (M : QM), Rel T Ti A B L → HW K G X M T Ti ta → ∀ {H : Heap} {locs : List Loc} {ls : Array Slot} {cells1 slots1 : Nat}, cells1 ≤ cells + 6600 → slots1 ≤ slots + 78100 → WP K (A, B, L, X, M) H locs → lv_has ls 4 [(1, .ref (K.2.1 0)), (2, .ref (K.2.1 1000)), (3, .int (nI i)), (0, .ref b)] → W p l e room_1 s m #[Value.ref b] below meth c H locs cells1 slots1 Q (F0 m 1455 ls [])) (hw : WP K (A, B, L, X, M) H locs) (hl : lv_has ls 4 [(1, .ref (K.2.1 0)), (2, .ref (K.2.1 1000)), (3, .int (nI i)), (0, .ref b)]) : W p l e room_1 s m #[Value.ref b] below meth c H locs cells slots Q (F0 m 1209 ls []) := by
  have hx := E.1
  have hb := E.2.1
  have hown := E.2.2.1
  have hts := E.2.2.2.2.1
  refine lv_aload_n hx hb dL_law_1209 rfl (lv_at hl 0 rfl) ?_
  refine lv_aload_n hx hb dL_law_1210 rfl (lv_at hl 3 rfl) ?_
  refine lv_iload_n hx hb dL_law_1211 rfl (lv_at hl 2 rfl) ?_
  refine lv_iconst (v := nI 1) hx hb dL_law_1212 (by decide) ?_
  refine lv_iadd hx hb dL_law_1213 ?_
  refine r_scr (j := i + 1) hx hb hK hX hbl hw nI_addn (by omega) hL dL_law_1214 ?_
  obtain ⟨ro, h1, h2, hR2⟩ := hSim T Ti A B L (xs (i + 1))  hR
  refine d_V (As := [.int (xs (i + 1))]) (v0 := some (.int ro)) hG E hw hl (m_X0_codes l hG hC (rs := (B, L, X, M)) h1) (qX0 hC) rfl (cwV 1 hts (lw_V q1284 q1285 q1286 q137 q1287) rfl rfl rfl ⟨rfl, kd_X0_codes⟩ ⟨Nat.le_of_ble_eq_true rfl, Nat.le_of_ble_eq_true rfl⟩) rfl (rest := []) (st1 := [.int ro]) rfl rfl rfl dL_law_1215 ⟨(show cells ≤ 1200128 by omega), (show slots ≤ 5501098 by omega)⟩ (fun H locs hw => ?_)
  refine lv_aload_n hx hb dL_law_1218 rfl (lv_at hl 1 rfl) ?_
  refine lv_aload_n hx hb dL_law_1219 rfl (lv_at hl 3 rfl) ?_
  refine lv_iload_n hx hb dL_law_1220 rfl (lv_at hl 2 rfl) ?_
  refine lv_iconst (v := nI 1) hx hb dL_law_1221 (by decide) ?_
  refine lv_iadd hx hb dL_law_1222 ?_
  refine r_scr (j := i + 1) hx hb hK hX hbl hw nI_addn (by omega) hL dL_law_1223 ?_
  refine d_V (As := [.int (xs (i + 1))]) (v0 := some (.int ro)) hG E hw hl (m_X2_codes l hG hM (A := A) (rs := (X, M)) h2) (qM0 hM) rfl (cwV 1 hts (lw_V q1967 q1968 q1969 q140 q1970) rfl rfl rfl ⟨rfl, kd_X2_codes⟩ ⟨Nat.le_of_ble_eq_true rfl, Nat.le_of_ble_eq_true rfl⟩) rfl (rest := [.int ro]) (st1 := [.int ro, .int ro]) rfl rfl rfl dL_law_1224 ⟨(show cells ≤ 1200128 by omega), (show slots ≤ 5501098 by omega)⟩ (fun H locs hw => ?_)
  refine lv_icmp_eq (tgt := 1455) hx hb dL_law_1227 (by decide) (fun _ => ?_) (fun c => absurd rfl c)
  exact next T Ti ta A B L X M hR2 hH (by omega) (by omega) hw hl
set_option maxHeartbeats 4000000 in
theorem lc_sure {p : Program} {l : Launch} {e : Env} {s : State} {m : MethodId} {below : List Frame} {meth : Method} {c : Code} {K : QK} {G : State → Prop} {Q : State → Prop} {b Ls i : Nat} {xs : Nat → Int32} {T Ti : Int32 → Option QT} {ta : Int32 → Nat} {A B : QA} {L : QL} {X : QX} {M : QM} {H : Heap} {locs : List Loc} {ls : Array Slot} {cells slots : Nat} {Rel : (Int32 → Option QT) → (Int32 → Option QT) → QA → QA → QL → Prop} (hSim : S_sure Rel) (hG : QG G) (hC : QCl K) (hM : QMl K) (hK : K.1 = s.heap) (hX : va_X b Ls xs s s.heap) (hbl : b < s.heap.size) (hL : Ls ≤ 384) (hi : i + 5 < Ls) (E : EV K G p s m #[Value.ref b] meth c code "VaneCourtLaw" 4) (hc6 : cells + 6600 ≤ 1200128) (hs6 : slots + 78100 ≤ 5501098) (hR : Rel T Ti A B L) (hH : HW K G X M T Ti ta)
    (next : ∀ (T Ti : Int32 → Option QT) (ta : Int32 → Nat) (A B : QA) (L : QL) (X : QX) (M : QM), Rel T Ti A B L → HW K G X M T Ti ta → ∀ {H : Heap} {locs : List Loc} {ls : Array Slot} {cells1 slots1 : Nat}, cells1 ≤ cells + 6600 → slots1 ≤ slots + 78100 → WP K (A, B, L, X, M) H locs → lv_has ls 4 [(1, .ref (K.2.1 0)), (2, .ref (K.2.1 1000)), (3, .int (nI i)), (0, .ref b)] → W p l e room_1 s m #[Value.ref b] below meth c H locs cells1 slots1 Q (F0 m 1455 ls [])) (hw : WP K (A, B, L, X, M) H locs) (hl : lv_has ls 4 [(1, .ref (K.2.1 0)), (2, .ref (K.2.1 1000)), (3, .int (nI i)), (0, .ref b)]) : W p l e room_1 s m #[Value.ref b] below meth c H locs cells slots Q (F0 m 1232 ls []) := by
  have hx := E.1
  have hb := E.2.1
  have hown := E.2.2.1
  have hts := E.2.2.2.2.1
  refine lv_aload_n hx hb dL_law_1232 rfl (lv_at hl 0 rfl) ?_
  refine lv_aload_n hx hb dL_law_1233 rfl (lv_at hl 3 rfl) ?_
  refine lv_iload_n hx hb dL_law_1234 rfl (lv_at hl 2 rfl) ?_
  refine lv_iconst (v := nI 1) hx hb dL_law_1235 (by decide) ?_
  refine lv_iadd hx hb dL_law_1236 ?_
  refine r_scr (j := i + 1) hx hb hK hX hbl hw nI_addn (by omega) hL dL_law_1237 ?_
  obtain ⟨ro, h1, h2, hR2⟩ := hSim T Ti A B L (xs (i + 1))  hR
  refine d_V (As := [.int (xs (i + 1))]) (v0 := some (.int ro)) hG E hw hl (m_X0_sure l hG hC (rs := (B, L, X, M)) h1) (qX0 hC) rfl (cwV 1 hts (lw_V q1296 q1297 q1298 q137 q1299) rfl rfl rfl ⟨rfl, kd_X0_sure⟩ ⟨Nat.le_of_ble_eq_true rfl, Nat.le_of_ble_eq_true rfl⟩) rfl (rest := []) (st1 := [.int ro]) rfl rfl rfl dL_law_1238 ⟨(show cells ≤ 1200128 by omega), (show slots ≤ 5501098 by omega)⟩ (fun H locs hw => ?_)
  refine lv_aload_n hx hb dL_law_1241 rfl (lv_at hl 1 rfl) ?_
  refine lv_aload_n hx hb dL_law_1242 rfl (lv_at hl 3 rfl) ?_
  refine lv_iload_n hx hb dL_law_1243 rfl (lv_at hl 2 rfl) ?_
  refine lv_iconst (v := nI 1) hx hb dL_law_1244 (by decide) ?_
  refine lv_iadd hx hb dL_law_1245 ?_
  refine r_scr (j := i + 1) hx hb hK hX hbl hw nI_addn (by omega) hL dL_law_1246 ?_
  refine d_V (As := [.int (xs (i + 1))]) (v0 := some (.int ro)) hG E hw hl (m_X2_sure l hG hM (A := A) (rs := (X, M)) h2) (qM0 hM) rfl (cwV 1 hts (lw_V q1983 q1984 q1985 q140 q1986) rfl rfl rfl ⟨rfl, kd_X2_sure⟩ ⟨Nat.le_of_ble_eq_true rfl, Nat.le_of_ble_eq_true rfl⟩) rfl (rest := [.int ro]) (st1 := [.int ro, .int ro]) rfl rfl rfl dL_law_1247 ⟨(show cells ≤ 1200128 by omega), (show slots ≤ 5501098 by omega)⟩ (fun H locs hw => ?_)
  refine lv_icmp_eq (tgt := 1455) hx hb dL_law_1250 (by decide) (fun _ => ?_) (fun c => absurd rfl c)
  exact next T Ti ta A B L X M hR2 hH (by omega) (by omega) hw hl
set_option maxHeartbeats 4000000 in
theorem lc_toBring {p : Program} {l : Launch} {e : Env} {s : State} {m : MethodId} {below : List Frame} {meth : Method} {c : Code} {K : QK} {G : State → Prop} {Q : State → Prop} {b Ls i : Nat} {xs : Nat → Int32} {T Ti : Int32 → Option QT} {ta : Int32 → Nat} {A B : QA} {L : QL} {X : QX} {M : QM} {H : Heap} {locs : List Loc} {ls : Array Slot} {cells slots : Nat} {Rel : (Int32 → Option QT) → (Int32 → Option QT) → QA → QA → QL → Prop} (hSim : S_toBring Rel) (hG : QG G) (hC : QCl K) (hM : QMl K) (hK : K.1 = s.heap) (hX : va_X b Ls xs s s.heap) (hbl : b < s.heap.size) (hL : Ls ≤ 384) (hi : i + 5 < Ls) (E : EV K G p s m #[Value.ref b] meth c code "VaneCourtLaw" 4) (hc6 : cells + 6600 ≤ 1200128) (hs6 : slots + 78100 ≤ 5501098) (hR : Rel T Ti A B L) (hH : HW K G X M T Ti ta)
    (next : ∀ (T Ti : Int32 → Option QT) (ta : Int32 → Nat) (A B : QA) (L : QL) (X : QX) (M : QM), Rel T Ti A B L → HW K G X M T Ti ta → ∀ {H : Heap} {locs : List Loc} {ls : Array Slot} {cells1 slots1 : Nat}, cells1 ≤ cells + 6600 → slots1 ≤ slots + 78100 → WP K (A, B, L, X, M) H locs → lv_has ls 4 [(1, .ref (K.2.1 0)), (2, .ref (K.2.1 1000)), (3, .int (nI i)), (0, .ref b)] → W p l e room_1 s m #[Value.ref b] below meth c H locs cells1 slots1 Q (F0 m 1455 ls [])) (hw : WP K (A, B, L, X, M) H locs) (hl : lv_has ls 4 [(1, .ref (K.2.1 0)), (2, .ref (K.2.1 1000)), (3, .int (nI i)), (0, .ref b)]) : W p l e room_1 s m #[Value.ref b] below meth c H locs cells slots Q (F0 m 1255 ls []) := by
  have hx := E.1
  have hb := E.2.1
  have hown := E.2.2.1
  have hts := E.2.2.2.2.1
  refine lv_aload_n hx hb dL_law_1255 rfl (lv_at hl 0 rfl) ?_
  obtain ⟨ro, h1, h2, hR2⟩ := hSim T Ti A B L   hR
  refine d_V (As := []) (v0 := some (.int ro)) hG E hw hl (m_X0_toBring l hG hC (rs := (B, L, X, M)) h1) (qX0 hC) rfl (cwV 0 hts (lw_V q1305 q1306 q1307 q137 q1308) rfl rfl rfl ⟨rfl, kd_X0_toBring⟩ ⟨Nat.le_of_ble_eq_true rfl, Nat.le_of_ble_eq_true rfl⟩) rfl (rest := []) (st1 := [.int ro]) rfl rfl rfl dL_law_1256 ⟨(show cells ≤ 1200128 by omega), (show slots ≤ 5501098 by omega)⟩ (fun H locs hw => ?_)
  refine lv_aload_n hx hb dL_law_1259 rfl (lv_at hl 1 rfl) ?_
  refine d_V (As := []) (v0 := some (.int ro)) hG E hw hl (m_X2_toBring l hG hM (A := A) (rs := (X, M)) h2) (qM0 hM) rfl (cwV 0 hts (lw_V q1987 q1988 q1989 q140 q1990) rfl rfl rfl ⟨rfl, kd_X2_toBring⟩ ⟨Nat.le_of_ble_eq_true rfl, Nat.le_of_ble_eq_true rfl⟩) rfl (rest := [.int ro]) (st1 := [.int ro, .int ro]) rfl rfl rfl dL_law_1260 ⟨(show cells ≤ 1200128 by omega), (show slots ≤ 5501098 by omega)⟩ (fun H locs hw => ?_)
  refine lv_icmp_eq (tgt := 1455) hx hb dL_law_1263 (by decide) (fun _ => ?_) (fun c => absurd rfl c)
  exact next T Ti ta A B L X M hR2 hH (by omega) (by omega) hw hl
set_option maxHeartbeats 4000000 in
theorem lc_counsel {p : Program} {l : Launch} {e : Env} {s : State} {m : MethodId} {below : List Frame} {meth : Method} {c : Code} {K : QK} {G : State → Prop} {Q : State → Prop} {b Ls i : Nat} {xs : Nat → Int32} {T Ti : Int32 → Option QT} {ta : Int32 → Nat} {A B : QA} {L : QL} {X : QX} {M : QM} {H : Heap} {locs : List Loc} {ls : Array Slot} {cells slots : Nat} {Rel : (Int32 → Option QT) → (Int32 → Option QT) → QA → QA → QL → Prop} (hSim : S_counsel Rel) (hG : QG G) (hC : QCl K) (hM : QMl K) (hK : K.1 = s.heap) (hX : va_X b Ls xs s s.heap) (hbl : b < s.heap.size) (hL : Ls ≤ 384) (hi : i + 5 < Ls) (E : EV K G p s m #[Value.ref b] meth c code "VaneCourtLaw" 4) (hc6 : cells + 6600 ≤ 1200128) (hs6 : slots + 78100 ≤ 5501098) (hR : Rel T Ti A B L) (hH : HW K G X M T Ti ta)
    (next : ∀ (T Ti : Int32 → Option QT) (ta : Int32 → Nat) (A B : QA) (L : QL) (X : QX) (M : QM), Rel T Ti A B L → HW K G X M T Ti ta → ∀ {H : Heap} {locs : List Loc} {ls : Array Slot} {cells1 slots1 : Nat}, cells1 ≤ cells + 6600 → slots1 ≤ slots + 78100 → WP K (A, B, L, X, M) H locs → lv_has ls 4 [(1, .ref (K.2.1 0)), (2, .ref (K.2.1 1000)), (3, .int (nI i)), (0, .ref b)] → W p l e room_1 s m #[Value.ref b] below meth c H locs cells1 slots1 Q (F0 m 1455 ls [])) (hw : WP K (A, B, L, X, M) H locs) (hl : lv_has ls 4 [(1, .ref (K.2.1 0)), (2, .ref (K.2.1 1000)), (3, .int (nI i)), (0, .ref b)]) : W p l e room_1 s m #[Value.ref b] below meth c H locs cells slots Q (F0 m 1268 ls []) := by
  have hx := E.1
  have hb := E.2.1
  have hown := E.2.2.1
  have hts := E.2.2.2.2.1
  refine lv_aload_n hx hb dL_law_1268 rfl (lv_at hl 0 rfl) ?_
  refine lv_aload_n hx hb dL_law_1269 rfl (lv_at hl 3 rfl) ?_
  refine lv_iload_n hx hb dL_law_1270 rfl (lv_at hl 2 rfl) ?_
  refine lv_iconst (v := nI 1) hx hb dL_law_1271 (by decide) ?_
  refine lv_iadd hx hb dL_law_1272 ?_
  refine r_scr (j := i + 1) hx hb hK hX hbl hw nI_addn (by omega) hL dL_law_1273 ?_
  refine lv_aload_n hx hb dL_law_1274 rfl (lv_at hl 3 rfl) ?_
  refine lv_iload_n hx hb dL_law_1275 rfl (lv_at hl 2 rfl) ?_
  refine lv_iconst (v := nI 2) hx hb dL_law_1276 (by decide) ?_
  refine lv_iadd hx hb dL_law_1277 ?_
  refine r_scr (j := i + 2) hx hb hK hX hbl hw nI_addn (by omega) hL dL_law_1278 ?_
  obtain ⟨ro, Ao, Bo, h1, h2, hR2⟩ := hSim T Ti A B L (xs (i + 1)) (xs (i + 2))  hR
  refine c_V (As := [.int (xs (i + 1)), .int (xs (i + 2))]) (rest := []) hG E hw (m_X0_counsel l hG hC h1) (qX0 hC) rfl (cwV 2 hts (lw_V q1312 q1313 q1314 q137 q1315) rfl rfl rfl ⟨rfl, kd_X0_counsel⟩ ⟨Nat.le_of_ble_eq_true rfl, Nat.le_of_ble_eq_true rfl⟩) hl rfl rfl (Nat.le_of_ble_eq_true rfl) dL_law_1279 ⟨(show cells + 1 ≤ 1200128 by omega), (show slots + 2 ≤ 5501098 by omega)⟩ (fun v w1 H locs hP hw => ?_)
  obtain ⟨rfl, M1, rfl, hx1⟩ := hP
  refine W.eq (g2 := F0 m 1282 ls [.int ro]) rfl ?_
  refine lv_aload_n hx hb dL_law_1282 rfl (lv_at hl 1 rfl) ?_
  refine lv_aload_n hx hb dL_law_1283 rfl (lv_at hl 3 rfl) ?_
  refine lv_iload_n hx hb dL_law_1284 rfl (lv_at hl 2 rfl) ?_
  refine lv_iconst (v := nI 1) hx hb dL_law_1285 (by decide) ?_
  refine lv_iadd hx hb dL_law_1286 ?_
  refine r_scr (j := i + 1) hx hb hK hX hbl hw nI_addn (by omega) hL dL_law_1287 ?_
  refine lv_aload_n hx hb dL_law_1288 rfl (lv_at hl 3 rfl) ?_
  refine lv_iload_n hx hb dL_law_1289 rfl (lv_at hl 2 rfl) ?_
  refine lv_iconst (v := nI 2) hx hb dL_law_1290 (by decide) ?_
  refine lv_iadd hx hb dL_law_1291 ?_
  refine r_scr (j := i + 2) hx hb hK hX hbl hw nI_addn (by omega) hL dL_law_1292 ?_
  refine d_V (As := [.int (xs (i + 1)), .int (xs (i + 2))]) (v0 := some (.int ro)) hG E hw hl (m_X2_counsel l hG hM (A := Ao) (rs := (X, M1)) h2) (qM0 hM) rfl (cwV 2 hts (lw_V q1991 q1992 q1993 q140 q1994) rfl rfl rfl ⟨rfl, kd_X2_counsel⟩ ⟨Nat.le_of_ble_eq_true rfl, Nat.le_of_ble_eq_true rfl⟩) rfl (rest := [.int ro]) (st1 := [.int ro, .int ro]) rfl rfl rfl dL_law_1293 ⟨(show cells + 1 ≤ 1200128 by omega), (show slots + 2 ≤ 5501098 by omega)⟩ (fun H locs hw => ?_)
  refine lv_icmp_eq (tgt := 1455) hx hb dL_law_1296 (by decide) (fun _ => ?_) (fun c => absurd rfl c)
  exact next T Ti ta Ao Bo L X M1 hR2 (hH.ext hx1) (by omega) (by omega) hw hl
set_option maxHeartbeats 4000000 in
theorem lc_hired {p : Program} {l : Launch} {e : Env} {s : State} {m : MethodId} {below : List Frame} {meth : Method} {c : Code} {K : QK} {G : State → Prop} {Q : State → Prop} {b Ls i : Nat} {xs : Nat → Int32} {T Ti : Int32 → Option QT} {ta : Int32 → Nat} {A B : QA} {L : QL} {X : QX} {M : QM} {H : Heap} {locs : List Loc} {ls : Array Slot} {cells slots : Nat} {Rel : (Int32 → Option QT) → (Int32 → Option QT) → QA → QA → QL → Prop} (hSim : S_hired Rel) (hG : QG G) (hC : QCl K) (hM : QMl K) (hK : K.1 = s.heap) (hX : va_X b Ls xs s s.heap) (hbl : b < s.heap.size) (hL : Ls ≤ 384) (hi : i + 5 < Ls) (E : EV K G p s m #[Value.ref b] meth c code "VaneCourtLaw" 4) (hc6 : cells + 6600 ≤ 1200128) (hs6 : slots + 78100 ≤ 5501098) (hR : Rel T Ti A B L) (hH : HW K G X M T Ti ta)
    (next : ∀ (T Ti : Int32 → Option QT) (ta : Int32 → Nat) (A B : QA) (L : QL) (X : QX) (M : QM), Rel T Ti A B L → HW K G X M T Ti ta → ∀ {H : Heap} {locs : List Loc} {ls : Array Slot} {cells1 slots1 : Nat}, cells1 ≤ cells + 6600 → slots1 ≤ slots + 78100 → WP K (A, B, L, X, M) H locs → lv_has ls 4 [(1, .ref (K.2.1 0)), (2, .ref (K.2.1 1000)), (3, .int (nI i)), (0, .ref b)] → W p l e room_1 s m #[Value.ref b] below meth c H locs cells1 slots1 Q (F0 m 1455 ls [])) (hw : WP K (A, B, L, X, M) H locs) (hl : lv_has ls 4 [(1, .ref (K.2.1 0)), (2, .ref (K.2.1 1000)), (3, .int (nI i)), (0, .ref b)]) : W p l e room_1 s m #[Value.ref b] below meth c H locs cells slots Q (F0 m 1301 ls []) := by
  have hx := E.1
  have hb := E.2.1
  have hown := E.2.2.1
  have hts := E.2.2.2.2.1
  refine lv_aload_n hx hb dL_law_1301 rfl (lv_at hl 0 rfl) ?_
  refine lv_aload_n hx hb dL_law_1302 rfl (lv_at hl 3 rfl) ?_
  refine lv_iload_n hx hb dL_law_1303 rfl (lv_at hl 2 rfl) ?_
  refine lv_iconst (v := nI 1) hx hb dL_law_1304 (by decide) ?_
  refine lv_iadd hx hb dL_law_1305 ?_
  refine r_scr (j := i + 1) hx hb hK hX hbl hw nI_addn (by omega) hL dL_law_1306 ?_
  refine lv_aload_n hx hb dL_law_1307 rfl (lv_at hl 3 rfl) ?_
  refine lv_iload_n hx hb dL_law_1308 rfl (lv_at hl 2 rfl) ?_
  refine lv_iconst (v := nI 2) hx hb dL_law_1309 (by decide) ?_
  refine lv_iadd hx hb dL_law_1310 ?_
  refine r_scr (j := i + 2) hx hb hK hX hbl hw nI_addn (by omega) hL dL_law_1311 ?_
  refine r_nz (t1 := 1319) (t2 := 1320) hx hb dL_law_1312 dL_law_1315 dL_law_1316 (by decide) dL_law_1319 (by decide) rfl ?_
  obtain ⟨ro, h1, h2, hR2⟩ := hSim T Ti A B L (xs (i + 1)) (bz (xs (i + 2))) (bz_01 _) hR
  refine d_V (As := [.int (xs (i + 1)), .int (bz (xs (i + 2)))]) (v0 := some (.int ro)) hG E hw hl (m_X0_hired l hG hC (rs := (B, L, X, M)) h1) (qX0 hC) rfl (cwV 2 hts (lw_V q1316 q1317 q1318 q137 q1319) rfl rfl rfl ⟨rfl, kd_X0_hired⟩ ⟨Nat.le_of_ble_eq_true rfl, Nat.le_of_ble_eq_true rfl⟩) rfl (rest := []) (st1 := [.int ro]) rfl rfl rfl dL_law_1320 ⟨(show cells ≤ 1200128 by omega), (show slots ≤ 5501098 by omega)⟩ (fun H locs hw => ?_)
  refine lv_aload_n hx hb dL_law_1323 rfl (lv_at hl 1 rfl) ?_
  refine lv_aload_n hx hb dL_law_1324 rfl (lv_at hl 3 rfl) ?_
  refine lv_iload_n hx hb dL_law_1325 rfl (lv_at hl 2 rfl) ?_
  refine lv_iconst (v := nI 1) hx hb dL_law_1326 (by decide) ?_
  refine lv_iadd hx hb dL_law_1327 ?_
  refine r_scr (j := i + 1) hx hb hK hX hbl hw nI_addn (by omega) hL dL_law_1328 ?_
  refine lv_aload_n hx hb dL_law_1329 rfl (lv_at hl 3 rfl) ?_
  refine lv_iload_n hx hb dL_law_1330 rfl (lv_at hl 2 rfl) ?_
  refine lv_iconst (v := nI 2) hx hb dL_law_1331 (by decide) ?_
  refine lv_iadd hx hb dL_law_1332 ?_
  refine r_scr (j := i + 2) hx hb hK hX hbl hw nI_addn (by omega) hL dL_law_1333 ?_
  refine r_nz (t1 := 1341) (t2 := 1342) hx hb dL_law_1334 dL_law_1337 dL_law_1338 (by decide) dL_law_1341 (by decide) rfl ?_
  refine d_V (As := [.int (xs (i + 1)), .int (bz (xs (i + 2)))]) (v0 := some (.int ro)) hG E hw hl (m_X2_hired l hG hM (A := A) (rs := (X, M)) h2) (qM0 hM) rfl (cwV 2 hts (lw_V q1995 q1996 q1997 q140 q1998) rfl rfl rfl ⟨rfl, kd_X2_hired⟩ ⟨Nat.le_of_ble_eq_true rfl, Nat.le_of_ble_eq_true rfl⟩) rfl (rest := [.int ro]) (st1 := [.int ro, .int ro]) rfl rfl rfl dL_law_1342 ⟨(show cells ≤ 1200128 by omega), (show slots ≤ 5501098 by omega)⟩ (fun H locs hw => ?_)
  refine lv_icmp_eq (tgt := 1455) hx hb dL_law_1345 (by decide) (fun _ => ?_) (fun c => absurd rfl c)
  exact next T Ti ta A B L X M hR2 hH (by omega) (by omega) hw hl
set_option maxHeartbeats 4000000 in
theorem lc_calm {p : Program} {l : Launch} {e : Env} {s : State} {m : MethodId} {below : List Frame} {meth : Method} {c : Code} {K : QK} {G : State → Prop} {Q : State → Prop} {b Ls i : Nat} {xs : Nat → Int32} {T Ti : Int32 → Option QT} {ta : Int32 → Nat} {A B : QA} {L : QL} {X : QX} {M : QM} {H : Heap} {locs : List Loc} {ls : Array Slot} {cells slots : Nat} {Rel : (Int32 → Option QT) → (Int32 → Option QT) → QA → QA → QL → Prop} (hSim : S_calm Rel) (hG : QG G) (hC : QCl K) (hM : QMl K) (hK : K.1 = s.heap) (hX : va_X b Ls xs s s.heap) (hbl : b < s.heap.size) (hL : Ls ≤ 384) (hi : i + 5 < Ls) (E : EV K G p s m #[Value.ref b] meth c code "VaneCourtLaw" 4) (hc6 : cells + 6600 ≤ 1200128) (hs6 : slots + 78100 ≤ 5501098) (hR : Rel T Ti A B L) (hH : HW K G X M T Ti ta)
    (next : ∀ (T Ti : Int32 → Option QT) (ta : Int32 → Nat) (A B : QA) (L : QL) (X : QX) (M : QM), Rel T Ti A B L → HW K G X M T Ti ta → ∀ {H : Heap} {locs : List Loc} {ls : Array Slot} {cells1 slots1 : Nat}, cells1 ≤ cells + 6600 → slots1 ≤ slots + 78100 → WP K (A, B, L, X, M) H locs → lv_has ls 4 [(1, .ref (K.2.1 0)), (2, .ref (K.2.1 1000)), (3, .int (nI i)), (0, .ref b)] → W p l e room_1 s m #[Value.ref b] below meth c H locs cells1 slots1 Q (F0 m 1455 ls [])) (hw : WP K (A, B, L, X, M) H locs) (hl : lv_has ls 4 [(1, .ref (K.2.1 0)), (2, .ref (K.2.1 1000)), (3, .int (nI i)), (0, .ref b)]) : W p l e room_1 s m #[Value.ref b] below meth c H locs cells slots Q (F0 m 1350 ls []) := by
  have hx := E.1
  have hb := E.2.1
  have hown := E.2.2.1
  have hts := E.2.2.2.2.1
  refine lv_aload_n hx hb dL_law_1350 rfl (lv_at hl 0 rfl) ?_
  refine lv_aload_n hx hb dL_law_1351 rfl (lv_at hl 3 rfl) ?_
  refine lv_iload_n hx hb dL_law_1352 rfl (lv_at hl 2 rfl) ?_
  refine lv_iconst (v := nI 1) hx hb dL_law_1353 (by decide) ?_
  refine lv_iadd hx hb dL_law_1354 ?_
  refine r_scr (j := i + 1) hx hb hK hX hbl hw nI_addn (by omega) hL dL_law_1355 ?_
  obtain ⟨ro, Ao, Bo, Lo, h1, h2, hR2⟩ := hSim T Ti A B L (xs (i + 1))  hR
  refine d_V (As := [.int (xs (i + 1))]) (v0 := some (.int ro)) hG E hw hl (m_X0_calm l hG hC (rs := (B, L, X, M)) (show QTx K G (B, L, X, M).2.2.1 (B, L, X, M).2.2.2 T ta from hH.1) h1) (qX0 hC) rfl (cwV 1 hts (lw_V q1324 q1325 q1326 q137 q1327) rfl rfl rfl ⟨rfl, kd_X0_calm⟩ ⟨Nat.le_of_ble_eq_true rfl, Nat.le_of_ble_eq_true rfl⟩) rfl (rest := []) (st1 := [.int ro]) rfl rfl rfl dL_law_1356 ⟨(show cells ≤ 1200128 by omega), (show slots ≤ 5501098 by omega)⟩ (fun H locs hw => ?_)
  refine lv_aload_n hx hb dL_law_1359 rfl (lv_at hl 1 rfl) ?_
  refine lv_aload_n hx hb dL_law_1360 rfl (lv_at hl 3 rfl) ?_
  refine lv_iload_n hx hb dL_law_1361 rfl (lv_at hl 2 rfl) ?_
  refine lv_iconst (v := nI 1) hx hb dL_law_1362 (by decide) ?_
  refine lv_iadd hx hb dL_law_1363 ?_
  refine r_scr (j := i + 1) hx hb hK hX hbl hw nI_addn (by omega) hL dL_law_1364 ?_
  refine d_V (As := [.int (xs (i + 1))]) (v0 := some (.int ro)) hG E hw hl (m_X2_calm l hG hM (A := Ao) (rs := (X, M)) h2) (qM0 hM) rfl (cwV 1 hts (lw_V q2003 q2004 q2005 q140 q2006) rfl rfl rfl ⟨rfl, kd_X2_calm⟩ ⟨Nat.le_of_ble_eq_true rfl, Nat.le_of_ble_eq_true rfl⟩) rfl (rest := [.int ro]) (st1 := [.int ro, .int ro]) rfl rfl rfl dL_law_1365 ⟨(show cells ≤ 1200128 by omega), (show slots ≤ 5501098 by omega)⟩ (fun H locs hw => ?_)
  refine lv_icmp_eq (tgt := 1455) hx hb dL_law_1368 (by decide) (fun _ => ?_) (fun c => absurd rfl c)
  exact next T Ti ta Ao Bo Lo X M hR2 hH (by omega) (by omega) hw hl
set_option maxHeartbeats 4000000 in
theorem lc_standing {p : Program} {l : Launch} {e : Env} {s : State} {m : MethodId} {below : List Frame} {meth : Method} {c : Code} {K : QK} {G : State → Prop} {Q : State → Prop} {b Ls i : Nat} {xs : Nat → Int32} {T Ti : Int32 → Option QT} {ta : Int32 → Nat} {A B : QA} {L : QL} {X : QX} {M : QM} {H : Heap} {locs : List Loc} {ls : Array Slot} {cells slots : Nat} {Rel : (Int32 → Option QT) → (Int32 → Option QT) → QA → QA → QL → Prop} (hSim : S_standing Rel) (hG : QG G) (hC : QCl K) (hM : QMl K) (hK : K.1 = s.heap) (hX : va_X b Ls xs s s.heap) (hbl : b < s.heap.size) (hL : Ls ≤ 384) (hi : i + 5 < Ls) (E : EV K G p s m #[Value.ref b] meth c code "VaneCourtLaw" 4) (hc6 : cells + 6600 ≤ 1200128) (hs6 : slots + 78100 ≤ 5501098) (hR : Rel T Ti A B L) (hH : HW K G X M T Ti ta)
    (next : ∀ (T Ti : Int32 → Option QT) (ta : Int32 → Nat) (A B : QA) (L : QL) (X : QX) (M : QM), Rel T Ti A B L → HW K G X M T Ti ta → ∀ {H : Heap} {locs : List Loc} {ls : Array Slot} {cells1 slots1 : Nat}, cells1 ≤ cells + 6600 → slots1 ≤ slots + 78100 → WP K (A, B, L, X, M) H locs → lv_has ls 4 [(1, .ref (K.2.1 0)), (2, .ref (K.2.1 1000)), (3, .int (nI i)), (0, .ref b)] → W p l e room_1 s m #[Value.ref b] below meth c H locs cells1 slots1 Q (F0 m 1455 ls [])) (hw : WP K (A, B, L, X, M) H locs) (hl : lv_has ls 4 [(1, .ref (K.2.1 0)), (2, .ref (K.2.1 1000)), (3, .int (nI i)), (0, .ref b)]) : W p l e room_1 s m #[Value.ref b] below meth c H locs cells slots Q (F0 m 1373 ls []) := by
  have hx := E.1
  have hb := E.2.1
  have hown := E.2.2.1
  have hts := E.2.2.2.2.1
  refine lv_aload_n hx hb dL_law_1373 rfl (lv_at hl 0 rfl) ?_
  refine lv_aload_n hx hb dL_law_1374 rfl (lv_at hl 3 rfl) ?_
  refine lv_iload_n hx hb dL_law_1375 rfl (lv_at hl 2 rfl) ?_
  refine lv_iconst (v := nI 1) hx hb dL_law_1376 (by decide) ?_
  refine lv_iadd hx hb dL_law_1377 ?_
  refine r_scr (j := i + 1) hx hb hK hX hbl hw nI_addn (by omega) hL dL_law_1378 ?_
  refine lv_aload_n hx hb dL_law_1379 rfl (lv_at hl 3 rfl) ?_
  refine lv_iload_n hx hb dL_law_1380 rfl (lv_at hl 2 rfl) ?_
  refine lv_iconst (v := nI 2) hx hb dL_law_1381 (by decide) ?_
  refine lv_iadd hx hb dL_law_1382 ?_
  refine r_scr (j := i + 2) hx hb hK hX hbl hw nI_addn (by omega) hL dL_law_1383 ?_
  obtain ⟨ro, Ao, Bo, Lo, h1, h2, hR2⟩ := hSim T Ti A B L (xs (i + 1)) (xs (i + 2))  hR
  refine d_V (As := [.int (xs (i + 1)), .int (xs (i + 2))]) (v0 := some (.int ro)) hG E hw hl (m_X0_standing l hG hC (rs := (B, L, X, M)) (show QTx K G (B, L, X, M).2.2.1 (B, L, X, M).2.2.2 T ta from hH.1) h1) (qX0 hC) rfl (cwV 2 hts (lw_V q1328 q1329 q1330 q137 q1331) rfl rfl rfl ⟨rfl, kd_X0_standing⟩ ⟨Nat.le_of_ble_eq_true rfl, Nat.le_of_ble_eq_true rfl⟩) rfl (rest := []) (st1 := [.int ro]) rfl rfl rfl dL_law_1384 ⟨(show cells ≤ 1200128 by omega), (show slots ≤ 5501098 by omega)⟩ (fun H locs hw => ?_)
  refine lv_aload_n hx hb dL_law_1387 rfl (lv_at hl 1 rfl) ?_
  refine lv_aload_n hx hb dL_law_1388 rfl (lv_at hl 3 rfl) ?_
  refine lv_iload_n hx hb dL_law_1389 rfl (lv_at hl 2 rfl) ?_
  refine lv_iconst (v := nI 1) hx hb dL_law_1390 (by decide) ?_
  refine lv_iadd hx hb dL_law_1391 ?_
  refine r_scr (j := i + 1) hx hb hK hX hbl hw nI_addn (by omega) hL dL_law_1392 ?_
  refine lv_aload_n hx hb dL_law_1393 rfl (lv_at hl 3 rfl) ?_
  refine lv_iload_n hx hb dL_law_1394 rfl (lv_at hl 2 rfl) ?_
  refine lv_iconst (v := nI 2) hx hb dL_law_1395 (by decide) ?_
  refine lv_iadd hx hb dL_law_1396 ?_
  refine r_scr (j := i + 2) hx hb hK hX hbl hw nI_addn (by omega) hL dL_law_1397 ?_
  refine d_V (As := [.int (xs (i + 1)), .int (xs (i + 2))]) (v0 := some (.int ro)) hG E hw hl (m_X2_standing l hG hM (A := Ao) (rs := (X, M)) h2) (qM0 hM) rfl (cwV 2 hts (lw_V q2007 q2008 q2009 q140 q2010) rfl rfl rfl ⟨rfl, kd_X2_standing⟩ ⟨Nat.le_of_ble_eq_true rfl, Nat.le_of_ble_eq_true rfl⟩) rfl (rest := [.int ro]) (st1 := [.int ro, .int ro]) rfl rfl rfl dL_law_1398 ⟨(show cells ≤ 1200128 by omega), (show slots ≤ 5501098 by omega)⟩ (fun H locs hw => ?_)
  refine lv_icmp_eq (tgt := 1455) hx hb dL_law_1401 (by decide) (fun _ => ?_) (fun c => absurd rfl c)
  exact next T Ti ta Ao Bo Lo X M hR2 hH (by omega) (by omega) hw hl
set_option maxHeartbeats 4000000 in
theorem lc_image {p : Program} {l : Launch} {e : Env} {s : State} {m : MethodId} {below : List Frame} {meth : Method} {c : Code} {K : QK} {G : State → Prop} {Q : State → Prop} {b Ls i : Nat} {xs : Nat → Int32} {T Ti : Int32 → Option QT} {ta : Int32 → Nat} {A B : QA} {L : QL} {X : QX} {M : QM} {H : Heap} {locs : List Loc} {ls : Array Slot} {cells slots : Nat} {Rel : (Int32 → Option QT) → (Int32 → Option QT) → QA → QA → QL → Prop} (hSim : S_image Rel) (hG : QG G) (hC : QCl K) (hM : QMl K) (hK : K.1 = s.heap) (hX : va_X b Ls xs s s.heap) (hbl : b < s.heap.size) (hL : Ls ≤ 384) (hi : i + 5 < Ls) (E : EV K G p s m #[Value.ref b] meth c code "VaneCourtLaw" 4) (hc6 : cells + 6600 ≤ 1200128) (hs6 : slots + 78100 ≤ 5501098) (hR : Rel T Ti A B L) (hH : HW K G X M T Ti ta)
    (next : ∀ (T Ti : Int32 → Option QT) (ta : Int32 → Nat) (A B : QA) (L : QL) (X : QX) (M : QM), Rel T Ti A B L → HW K G X M T Ti ta → ∀ {H : Heap} {locs : List Loc} {ls : Array Slot} {cells1 slots1 : Nat}, cells1 ≤ cells + 6600 → slots1 ≤ slots + 78100 → WP K (A, B, L, X, M) H locs → lv_has ls 4 [(1, .ref (K.2.1 0)), (2, .ref (K.2.1 1000)), (3, .int (nI i)), (0, .ref b)] → W p l e room_1 s m #[Value.ref b] below meth c H locs cells1 slots1 Q (F0 m 1455 ls [])) (hw : WP K (A, B, L, X, M) H locs) (hl : lv_has ls 4 [(1, .ref (K.2.1 0)), (2, .ref (K.2.1 1000)), (3, .int (nI i)), (0, .ref b)]) : W p l e room_1 s m #[Value.ref b] below meth c H locs cells slots Q (F0 m 1406 ls []) := by
  have hx := E.1
  have hb := E.2.1
  have hown := E.2.2.1
  have hts := E.2.2.2.2.1
  refine lv_aload_n hx hb dL_law_1406 rfl (lv_at hl 0 rfl) ?_
  obtain ⟨Bo, h2, hR2⟩ := hSim T Ti A B L hR
  refine d_V (As := []) (v0 := some (.int (qbe2 A 101 3))) hG E hw hl (m_X0_image l hG hC hH.2.2.1) (qX0 hC) rfl (cwV 0 hts (lw_V q1332 q1333 q1334 q137 q1335) rfl rfl rfl ⟨rfl, kd_X0_image⟩ ⟨Nat.le_of_ble_eq_true rfl, Nat.le_of_ble_eq_true rfl⟩) rfl (rest := []) (st1 := [.int (qbe2 A 101 3)]) rfl rfl rfl dL_law_1407 ⟨(show cells ≤ 1200128 by omega), (show slots ≤ 5501098 by omega)⟩ (fun H locs hw => ?_)
  refine lv_aload_n hx hb dL_law_1410 rfl (lv_at hl 1 rfl) ?_
  refine d_V (As := []) (v0 := some (.int (qbe2 A 101 3))) hG E hw hl (m_X2_image l hG hM (A := (qbe2 A)) (rs := ((qset X 207 (va_cpy (X 107) (X 207) 0 0 4)), M)) h2) (qM0 hM) rfl (cwV 0 hts (lw_V q2011 q2012 q2013 q140 q2014) rfl rfl rfl ⟨rfl, kd_X2_image⟩ ⟨Nat.le_of_ble_eq_true rfl, Nat.le_of_ble_eq_true rfl⟩) rfl (rest := [.int (qbe2 A 101 3)]) (st1 := [.int (qbe2 A 101 3), .int (qbe2 A 101 3)]) rfl rfl rfl dL_law_1411 ⟨(show cells ≤ 1200128 by omega), (show slots ≤ 5501098 by omega)⟩ (fun H locs hw => ?_)
  refine lv_icmp_eq (tgt := 1455) hx hb dL_law_1414 (by decide) (fun _ => ?_) (fun c => absurd rfl c)
  exact next _ _ ta _ Bo L _ M hR2 hH.image (by omega) (by omega) hw hl
set_option maxHeartbeats 4000000 in
theorem lc_back {p : Program} {l : Launch} {e : Env} {s : State} {m : MethodId} {below : List Frame} {meth : Method} {c : Code} {K : QK} {G : State → Prop} {Q : State → Prop} {b Ls i : Nat} {xs : Nat → Int32} {T Ti : Int32 → Option QT} {ta : Int32 → Nat} {A B : QA} {L : QL} {X : QX} {M : QM} {H : Heap} {locs : List Loc} {ls : Array Slot} {cells slots : Nat} {Rel : (Int32 → Option QT) → (Int32 → Option QT) → QA → QA → QL → Prop} (hSim : S_back Rel) (hG : QG G) (hC : QCl K) (hM : QMl K) (hK : K.1 = s.heap) (hX : va_X b Ls xs s s.heap) (hbl : b < s.heap.size) (hL : Ls ≤ 384) (hi : i + 5 < Ls) (E : EV K G p s m #[Value.ref b] meth c code "VaneCourtLaw" 4) (hc6 : cells + 6600 ≤ 1200128) (hs6 : slots + 78100 ≤ 5501098) (hR : Rel T Ti A B L) (hH : HW K G X M T Ti ta)
    (next : ∀ (T Ti : Int32 → Option QT) (ta : Int32 → Nat) (A B : QA) (L : QL) (X : QX) (M : QM), Rel T Ti A B L → HW K G X M T Ti ta → ∀ {H : Heap} {locs : List Loc} {ls : Array Slot} {cells1 slots1 : Nat}, cells1 ≤ cells + 6600 → slots1 ≤ slots + 78100 → WP K (A, B, L, X, M) H locs → lv_has ls 4 [(1, .ref (K.2.1 0)), (2, .ref (K.2.1 1000)), (3, .int (nI i)), (0, .ref b)] → W p l e room_1 s m #[Value.ref b] below meth c H locs cells1 slots1 Q (F0 m 1455 ls [])) (hw : WP K (A, B, L, X, M) H locs) (hl : lv_has ls 4 [(1, .ref (K.2.1 0)), (2, .ref (K.2.1 1000)), (3, .int (nI i)), (0, .ref b)]) : W p l e room_1 s m #[Value.ref b] below meth c H locs cells slots Q (F0 m 1419 ls []) := by
  have hx := E.1
  have hb := E.2.1
  have hown := E.2.2.1
  have hts := E.2.2.2.2.1
  refine lv_aload_n hx hb dL_law_1419 rfl (lv_at hl 0 rfl) ?_
  obtain ⟨Bo, h2, hR2⟩ := hSim T Ti A B L hR
  refine d_V (As := []) (v0 := some (.int (qbe1 A 101 3))) hG E hw hl (m_X0_back l hG hC hH.2.2.2) (qX0 hC) rfl (cwV 0 hts (lw_V q1336 q1337 q1338 q137 q1339) rfl rfl rfl ⟨rfl, kd_X0_back⟩ ⟨Nat.le_of_ble_eq_true rfl, Nat.le_of_ble_eq_true rfl⟩) rfl (rest := []) (st1 := [.int (qbe1 A 101 3)]) rfl rfl rfl dL_law_1420 ⟨(show cells ≤ 1200128 by omega), (show slots ≤ 5501098 by omega)⟩ (fun H locs hw => ?_)
  refine lv_aload_n hx hb dL_law_1423 rfl (lv_at hl 1 rfl) ?_
  refine d_V (As := []) (v0 := some (.int (qbe1 A 101 3))) hG E hw hl (m_X2_back l hG hM (A := (qbe1 A)) (rs := ((qset X 107 (va_cpy (X 207) (X 107) 0 0 4)), M)) h2) (qM0 hM) rfl (cwV 0 hts (lw_V q2015 q2016 q2017 q140 q2018) rfl rfl rfl ⟨rfl, kd_X2_back⟩ ⟨Nat.le_of_ble_eq_true rfl, Nat.le_of_ble_eq_true rfl⟩) rfl (rest := [.int (qbe1 A 101 3)]) (st1 := [.int (qbe1 A 101 3), .int (qbe1 A 101 3)]) rfl rfl rfl dL_law_1424 ⟨(show cells ≤ 1200128 by omega), (show slots ≤ 5501098 by omega)⟩ (fun H locs hw => ?_)
  refine lv_icmp_eq (tgt := 1455) hx hb dL_law_1427 (by decide) (fun _ => ?_) (fun c => absurd rfl c)
  exact next _ _ ta _ Bo L _ M hR2 hH.back (by omega) (by omega) hw hl
set_option maxHeartbeats 4000000 in
theorem lc_about {p : Program} {l : Launch} {e : Env} {s : State} {m : MethodId} {below : List Frame} {meth : Method} {c : Code} {K : QK} {G : State → Prop} {Q : State → Prop} {b Ls i : Nat} {xs : Nat → Int32} {T Ti : Int32 → Option QT} {ta : Int32 → Nat} {A B : QA} {L : QL} {X : QX} {M : QM} {H : Heap} {locs : List Loc} {ls : Array Slot} {cells slots : Nat} {Rel : (Int32 → Option QT) → (Int32 → Option QT) → QA → QA → QL → Prop} (hSim : S_about Rel) (hG : QG G) (hC : QCl K) (hM : QMl K) (hK : K.1 = s.heap) (hX : va_X b Ls xs s s.heap) (hbl : b < s.heap.size) (hL : Ls ≤ 384) (hi : i + 5 < Ls) (E : EV K G p s m #[Value.ref b] meth c code "VaneCourtLaw" 4) (hc6 : cells + 6600 ≤ 1200128) (hs6 : slots + 78100 ≤ 5501098) (hR : Rel T Ti A B L) (hH : HW K G X M T Ti ta)
    (next : ∀ (T Ti : Int32 → Option QT) (ta : Int32 → Nat) (A B : QA) (L : QL) (X : QX) (M : QM), Rel T Ti A B L → HW K G X M T Ti ta → ∀ {H : Heap} {locs : List Loc} {ls : Array Slot} {cells1 slots1 : Nat}, cells1 ≤ cells + 6600 → slots1 ≤ slots + 78100 → WP K (A, B, L, X, M) H locs → lv_has ls 4 [(1, .ref (K.2.1 0)), (2, .ref (K.2.1 1000)), (3, .int (nI i)), (0, .ref b)] → W p l e room_1 s m #[Value.ref b] below meth c H locs cells1 slots1 Q (F0 m 1455 ls [])) (hw : WP K (A, B, L, X, M) H locs) (hl : lv_has ls 4 [(1, .ref (K.2.1 0)), (2, .ref (K.2.1 1000)), (3, .int (nI i)), (0, .ref b)]) : W p l e room_1 s m #[Value.ref b] below meth c H locs cells slots Q (F0 m 1432 ls []) := by
  have hx := E.1
  have hb := E.2.1
  have hown := E.2.2.1
  have hts := E.2.2.2.2.1
  refine lv_aload_n hx hb dL_law_1432 rfl (lv_at hl 0 rfl) ?_
  refine lv_aload_n hx hb dL_law_1433 rfl (lv_at hl 3 rfl) ?_
  refine lv_iload_n hx hb dL_law_1434 rfl (lv_at hl 2 rfl) ?_
  refine lv_iconst (v := nI 1) hx hb dL_law_1435 (by decide) ?_
  refine lv_iadd hx hb dL_law_1436 ?_
  refine r_scr (j := i + 1) hx hb hK hX hbl hw nI_addn (by omega) hL dL_law_1437 ?_
  obtain ⟨ro, h1, h2, hR2⟩ := hSim T Ti A B L (xs (i + 1))  hR
  refine d_V (As := [.int (xs (i + 1))]) (v0 := some (.int ro)) hG E hw hl (m_X0_about l hG hC (rs := (B, L, X, M)) h1) (qX0 hC) rfl (cwV 1 hts (lw_V q1340 q1341 q1342 q137 q1343) rfl rfl rfl ⟨rfl, kd_X0_about⟩ ⟨Nat.le_of_ble_eq_true rfl, Nat.le_of_ble_eq_true rfl⟩) rfl (rest := []) (st1 := [.int ro]) rfl rfl rfl dL_law_1438 ⟨(show cells ≤ 1200128 by omega), (show slots ≤ 5501098 by omega)⟩ (fun H locs hw => ?_)
  refine lv_aload_n hx hb dL_law_1441 rfl (lv_at hl 1 rfl) ?_
  refine lv_aload_n hx hb dL_law_1442 rfl (lv_at hl 3 rfl) ?_
  refine lv_iload_n hx hb dL_law_1443 rfl (lv_at hl 2 rfl) ?_
  refine lv_iconst (v := nI 1) hx hb dL_law_1444 (by decide) ?_
  refine lv_iadd hx hb dL_law_1445 ?_
  refine r_scr (j := i + 1) hx hb hK hX hbl hw nI_addn (by omega) hL dL_law_1446 ?_
  refine d_V (As := [.int (xs (i + 1))]) (v0 := some (.int ro)) hG E hw hl (m_X2_about l hG hM (A := A) (rs := (X, M)) h2) (qM0 hM) rfl (cwV 1 hts (lw_V q2019 q2020 q2021 q140 q2022) rfl rfl rfl ⟨rfl, kd_X2_about⟩ ⟨Nat.le_of_ble_eq_true rfl, Nat.le_of_ble_eq_true rfl⟩) rfl (rest := [.int ro]) (st1 := [.int ro, .int ro]) rfl rfl rfl dL_law_1447 ⟨(show cells ≤ 1200128 by omega), (show slots ≤ 5501098 by omega)⟩ (fun H locs hw => ?_)
  refine lv_icmp_eq (tgt := 1455) hx hb dL_law_1450 (by decide) (fun _ => ?_) (fun c => absurd rfl c)
  exact next T Ti ta A B L X M hR2 hH (by omega) (by omega) hw hl
