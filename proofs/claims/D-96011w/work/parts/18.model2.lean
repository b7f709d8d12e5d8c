/-! Model, second half: printed by gen/all.py -/
set_option maxRecDepth 100000
def f_X3_innOf (M : BC) (x1 : Int32) (x2 : Int32) : Option (Int32 × BC) :=
 o_b1 (f_X3_isInn M x1) fun (r1 : Int32) =>
 (if r1 = 0 then
 o_b2 (f_X3_refuse M (-2)) fun (r3 : Int32) (M4 : BC) =>
 some (r3, M4)
 else
 o_b1 (f_X3_in x2.toInt64 0 6) fun (r5 : Int32) =>
 (if r5 = 0 then
 o_b2 (f_X3_refuse M (-2)) fun (r7 : Int32) (M8 : BC) =>
 some (r7, M8)
 else
 o_ck (inB x1 6) (o_ck (inB x2 7) (some (M.1 (18 + ix x1) (ix x2), M)))))
abbrev rm_X3_innOf : Room := { frames := 2, cells := 0, slots := 0, locals := 46 }
set_option maxHeartbeats 4000000 in
set_option maxRecDepth 100000 in
theorem m_X3_innOf (l : Launch) (D : va_G) (g : Nat → ClassId) (sz : Nat) (adM : Nat → Nat) (kM : Option Nat) (tM : Option Nat) (M : BC) (x1 : Int32) (x2 : Int32) (rO : Int32) (MO : BC) (hf : f_X3_innOf M x1 x2 = some (rO, MO)) : bMet (S := Unit) l yX3_innOf (ws_ yX3_innOf cX3_innOf 3 (some .int)) rm_X3_innOf D g sz [.ref (adM 0), .int x1, .int x2] [mW g adM kM tM M] (fun _ => True) (fun _ => some (.int rO)) (fun _ => [mW g adM kM tM MO]) := by
  refine b_met (by decide) (Nat.le_of_ble_eq_true rfl) ?_
  intro p e s m args below meth c A Q ls hx hb hml hr hlk hown hname hts hE hl hW
  revert hW; generalize s.heap = H; intro hW
  have hl : lv_has ls 3 [(0, .ref (adM 0)), (1, .int x1), (2, .int x2)] := hl
  rw [f_X3_innOf] at hf
  refine lv_aload_n hx hb dX3_innOf_0 rfl (lv_at hl 0 rfl) ?_
  refine lv_iload_n hx hb dX3_innOf_1 rfl (lv_at hl 1 rfl) ?_
  obtain ⟨r1, hc1, hf⟩ := o_b1s hf
  have hp1 : List.Perm [mW g adM kM tM M] ([mW g adM kM tM M] ++ []) := b_perm [0] [] 1 rfl rfl rfl rfl
  refine b_call0 ⟨rfl, rfl⟩ (va_runV (As := [.int x1]) (rest := []) ⟨hx, hb, hml, hown, hts⟩ (m_X3_isInn l D g H.size adM kM tM M x1 r1 hc1) (cwV 1 hts (lw_V q1651 q1653 qs41 q79 q1654) rfl rfl rfl (by decide +kernel) ⟨Nat.le_of_ble_eq_true rfl, Nat.le_of_ble_eq_true rfl⟩) (b_preV (pp := 0) (q := 0) hW hp1 rfl mW_0 rfl) rfl rfl hl.1 rfl (lv_room (Nat.le_of_ble_eq_true rfl)) dX3_innOf_2 ⟨Nat.le_of_ble_eq_true rfl, Nat.le_of_ble_eq_true rfl⟩) hW hp1 (fun _ _ H locs hW => ?_)
  have hW : bW D g A s H locs [mW g adM kM tM M] := hW
  refine lv_if_eq (tgt := 31) hx hb dX3_innOf_5 (by decide) (fun c2 => ?_) (fun c2 => ?_)
  · have hf := o_t hf c2
    refine lv_aload_n hx hb dX3_innOf_31 rfl (lv_at hl 0 rfl) ?_
    refine lv_bipush (v := (-2)) hx hb dX3_innOf_32 (by decide) ?_
    obtain ⟨r3, M4, hc4, hf⟩ := o_b2s hf
    have hp4 : List.Perm [mW g adM kM tM M] ([mW g adM kM tM M] ++ []) := b_perm [0] [] 1 rfl rfl rfl rfl
    refine b_call0 ⟨rfl, rfl⟩ (va_runV (As := [.int (-2)]) (rest := []) ⟨hx, hb, hml, hown, hts⟩ (m_X3_refuse l D g H.size adM kM tM M (-2) r3 M4 hc4) (cwV 1 hts (lw_V q1572 q1574 qs33 q79 q1575) rfl rfl rfl (by decide +kernel) ⟨Nat.le_of_ble_eq_true rfl, Nat.le_of_ble_eq_true rfl⟩) (b_preV (pp := 0) (q := 0) hW hp4 rfl mW_0 rfl) rfl rfl hl.1 rfl (lv_room (Nat.le_of_ble_eq_true rfl)) dX3_innOf_34 ⟨Nat.le_of_ble_eq_true rfl, Nat.le_of_ble_eq_true rfl⟩) hW hp4 (fun _ _ H locs hW => ?_)
    have hW : bW D g A s H locs [mW g adM kM tM M4] := hW
    cases hf
    exact b_iret hx hb hr hlk hE hW () rfl trivial rfl dX3_innOf_37
  · have hf := o_f hf c2
    refine lv_iload_n hx hb dX3_innOf_8 rfl (lv_at hl 2 rfl) ?_
    refine lv_i2l hx hb dX3_innOf_9 rfl ?_
    refine lv_lconst (v := 0) hx hb dX3_innOf_10 (by decide) ?_
    refine lv_ldc2 (v := 6) hx hb hown (hts _ q1791) dX3_innOf_11 ?_
    obtain ⟨r5, hc5, hf⟩ := o_b1s hf
    have hp5 : List.Perm [mW g adM kM tM M] ([] ++ [mW g adM kM tM M]) := b_perm [] [0] 1 rfl rfl rfl rfl
    refine b_call0 ⟨rfl, rfl⟩ (va_runS (As := [.long x2.toInt64, .long 0, .long 6]) (rest := []) ⟨hx, hb, hml, hown, hts⟩ (m_X3_in l D g H.size x2.toInt64 0 6 r5 hc5) (va_cwS 3 hts (lw_S q1567 q1568 q79 q1569) rfl rfl rfl (by decide +kernel) ⟨Nat.le_of_ble_eq_true rfl, Nat.le_of_ble_eq_true rfl⟩) (b_preS hW hp5) rfl rfl hl.1 rfl (lv_room (Nat.le_of_ble_eq_true rfl)) dX3_innOf_14 ⟨Nat.le_of_ble_eq_true rfl, Nat.le_of_ble_eq_true rfl⟩) hW hp5 (fun _ _ H locs hW => ?_)
    have hW : bW D g A s H locs [mW g adM kM tM M] := hW
    refine lv_if_eq (tgt := 31) hx hb dX3_innOf_17 (by decide) (fun c6 => ?_) (fun c6 => ?_)
    · have hf := o_t hf c6
      refine lv_aload_n hx hb dX3_innOf_31 rfl (lv_at hl 0 rfl) ?_
      refine lv_bipush (v := (-2)) hx hb dX3_innOf_32 (by decide) ?_
      obtain ⟨r7, M8, hc8, hf⟩ := o_b2s hf
      have hp8 : List.Perm [mW g adM kM tM M] ([mW g adM kM tM M] ++ []) := b_perm [0] [] 1 rfl rfl rfl rfl
      refine b_call0 ⟨rfl, rfl⟩ (va_runV (As := [.int (-2)]) (rest := []) ⟨hx, hb, hml, hown, hts⟩ (m_X3_refuse l D g H.size adM kM tM M (-2) r7 M8 hc8) (cwV 1 hts (lw_V q1572 q1574 qs33 q79 q1575) rfl rfl rfl (by decide +kernel) ⟨Nat.le_of_ble_eq_true rfl, Nat.le_of_ble_eq_true rfl⟩) (b_preV (pp := 0) (q := 0) hW hp8 rfl mW_0 rfl) rfl rfl hl.1 rfl (lv_room (Nat.le_of_ble_eq_true rfl)) dX3_innOf_34 ⟨Nat.le_of_ble_eq_true rfl, Nat.le_of_ble_eq_true rfl⟩) hW hp8 (fun _ _ H locs hW => ?_)
      have hW : bW D g A s H locs [mW g adM kM tM M8] := hW
      cases hf
      exact b_iret hx hb hr hlk hE hW () rfl trivial rfl dX3_innOf_37
    · have hf := o_f hf c6
      refine lv_aload_n hx hb dX3_innOf_20 rfl (lv_at hl 0 rfl) ?_
      refine b_get hx hb hts in_X3 hown hW 0 0 3 10 rfl mW_0 rfl (by decide) ⟨rfl, rfl, rfl⟩ (hts _ q1469) mW_g10 dX3_innOf_21 ?_
      refine lv_iload_n hx hb dX3_innOf_24 rfl (lv_at hl 1 rfl) ?_
      obtain ⟨h9, hf⟩ := o_cs hf
      refine b_agrI hx hb hW 0 17 rfl mW_17 h9 dX3_innOf_25 ?_
      refine lv_iload_n hx hb dX3_innOf_26 rfl (lv_at hl 2 rfl) ?_
      obtain ⟨h10, hf⟩ := o_cs hf
      refine b_iald hx hb hW 0 (18 + ix x1) rfl (mW_r18 (inB_lt h9)) h10 dX3_innOf_27 ?_
      refine lv_goto (tgt := 37) hx hb dX3_innOf_28 (by decide) ?_
      cases hf
      exact b_iret hx hb hr hlk hE hW () rfl trivial rfl dX3_innOf_37
def f_X3_goerOf (M : BC) (x1 : Int32) (x2 : Int32) : Option (Int32 × BC) :=
 o_b1 (f_X3_isGoer M x1) fun (r1 : Int32) =>
 (if r1 = 0 then
 o_b2 (f_X3_refuse M (-2)) fun (r3 : Int32) (M4 : BC) =>
 some (r3, M4)
 else
 o_b1 (f_X3_in x2.toInt64 0 2) fun (r5 : Int32) =>
 (if r5 = 0 then
 o_b2 (f_X3_refuse M (-2)) fun (r7 : Int32) (M8 : BC) =>
 some (r7, M8)
 else
 o_ck (inB x1 6) (o_ck (inB x2 3) (some (M.1 (25 + ix x1) (ix x2), M)))))
abbrev rm_X3_goerOf : Room := { frames := 2, cells := 0, slots := 0, locals := 46 }
set_option maxHeartbeats 4000000 in
set_option maxRecDepth 100000 in
theorem m_X3_goerOf (l : Launch) (D : va_G) (g : Nat → ClassId) (sz : Nat) (adM : Nat → Nat) (kM : Option Nat) (tM : Option Nat) (M : BC) (x1 : Int32) (x2 : Int32) (rO : Int32) (MO : BC) (hf : f_X3_goerOf M x1 x2 = some (rO, MO)) : bMet (S := Unit) l yX3_goerOf (ws_ yX3_goerOf cX3_goerOf 3 (some .int)) rm_X3_goerOf D g sz [.ref (adM 0), .int x1, .int x2] [mW g adM kM tM M] (fun _ => True) (fun _ => some (.int rO)) (fun _ => [mW g adM kM tM MO]) := by
  refine b_met (by decide) (Nat.le_of_ble_eq_true rfl) ?_
  intro p e s m args below meth c A Q ls hx hb hml hr hlk hown hname hts hE hl hW
  revert hW; generalize s.heap = H; intro hW
  have hl : lv_has ls 3 [(0, .ref (adM 0)), (1, .int x1), (2, .int x2)] := hl
  rw [f_X3_goerOf] at hf
  refine lv_aload_n hx hb dX3_goerOf_0 rfl (lv_at hl 0 rfl) ?_
  refine lv_iload_n hx hb dX3_goerOf_1 rfl (lv_at hl 1 rfl) ?_
  obtain ⟨r1, hc1, hf⟩ := o_b1s hf
  have hp1 : List.Perm [mW g adM kM tM M] ([mW g adM kM tM M] ++ []) := b_perm [0] [] 1 rfl rfl rfl rfl
  refine b_call0 ⟨rfl, rfl⟩ (va_runV (As := [.int x1]) (rest := []) ⟨hx, hb, hml, hown, hts⟩ (m_X3_isGoer l D g H.size adM kM tM M x1 r1 hc1) (cwV 1 hts (lw_V q1603 q1605 qs35 q79 q1606) rfl rfl rfl (by decide +kernel) ⟨Nat.le_of_ble_eq_true rfl, Nat.le_of_ble_eq_true rfl⟩) (b_preV (pp := 0) (q := 0) hW hp1 rfl mW_0 rfl) rfl rfl hl.1 rfl (lv_room (Nat.le_of_ble_eq_true rfl)) dX3_goerOf_2 ⟨Nat.le_of_ble_eq_true rfl, Nat.le_of_ble_eq_true rfl⟩) hW hp1 (fun _ _ H locs hW => ?_)
  have hW : bW D g A s H locs [mW g adM kM tM M] := hW
  refine lv_if_eq (tgt := 31) hx hb dX3_goerOf_5 (by decide) (fun c2 => ?_) (fun c2 => ?_)
  · have hf := o_t hf c2
    refine lv_aload_n hx hb dX3_goerOf_31 rfl (lv_at hl 0 rfl) ?_
    refine lv_bipush (v := (-2)) hx hb dX3_goerOf_32 (by decide) ?_
    obtain ⟨r3, M4, hc4, hf⟩ := o_b2s hf
    have hp4 : List.Perm [mW g adM kM tM M] ([mW g adM kM tM M] ++ []) := b_perm [0] [] 1 rfl rfl rfl rfl
    refine b_call0 ⟨rfl, rfl⟩ (va_runV (As := [.int (-2)]) (rest := []) ⟨hx, hb, hml, hown, hts⟩ (m_X3_refuse l D g H.size adM kM tM M (-2) r3 M4 hc4) (cwV 1 hts (lw_V q1572 q1574 qs33 q79 q1575) rfl rfl rfl (by decide +kernel) ⟨Nat.le_of_ble_eq_true rfl, Nat.le_of_ble_eq_true rfl⟩) (b_preV (pp := 0) (q := 0) hW hp4 rfl mW_0 rfl) rfl rfl hl.1 rfl (lv_room (Nat.le_of_ble_eq_true rfl)) dX3_goerOf_34 ⟨Nat.le_of_ble_eq_true rfl, Nat.le_of_ble_eq_true rfl⟩) hW hp4 (fun _ _ H locs hW => ?_)
    have hW : bW D g A s H locs [mW g adM kM tM M4] := hW
    cases hf
    exact b_iret hx hb hr hlk hE hW () rfl trivial rfl dX3_goerOf_37
  · have hf := o_f hf c2
    refine lv_iload_n hx hb dX3_goerOf_8 rfl (lv_at hl 2 rfl) ?_
    refine lv_i2l hx hb dX3_goerOf_9 rfl ?_
    refine lv_lconst (v := 0) hx hb dX3_goerOf_10 (by decide) ?_
    refine lv_ldc2 (v := 2) hx hb hown (hts _ q1796) dX3_goerOf_11 ?_
    obtain ⟨r5, hc5, hf⟩ := o_b1s hf
    have hp5 : List.Perm [mW g adM kM tM M] ([] ++ [mW g adM kM tM M]) := b_perm [] [0] 1 rfl rfl rfl rfl
    refine b_call0 ⟨rfl, rfl⟩ (va_runS (As := [.long x2.toInt64, .long 0, .long 2]) (rest := []) ⟨hx, hb, hml, hown, hts⟩ (m_X3_in l D g H.size x2.toInt64 0 2 r5 hc5) (va_cwS 3 hts (lw_S q1567 q1568 q79 q1569) rfl rfl rfl (by decide +kernel) ⟨Nat.le_of_ble_eq_true rfl, Nat.le_of_ble_eq_true rfl⟩) (b_preS hW hp5) rfl rfl hl.1 rfl (lv_room (Nat.le_of_ble_eq_true rfl)) dX3_goerOf_14 ⟨Nat.le_of_ble_eq_true rfl, Nat.le_of_ble_eq_true rfl⟩) hW hp5 (fun _ _ H locs hW => ?_)
    have hW : bW D g A s H locs [mW g adM kM tM M] := hW
    refine lv_if_eq (tgt := 31) hx hb dX3_goerOf_17 (by decide) (fun c6 => ?_) (fun c6 => ?_)
    · have hf := o_t hf c6
      refine lv_aload_n hx hb dX3_goerOf_31 rfl (lv_at hl 0 rfl) ?_
      refine lv_bipush (v := (-2)) hx hb dX3_goerOf_32 (by decide) ?_
      obtain ⟨r7, M8, hc8, hf⟩ := o_b2s hf
      have hp8 : List.Perm [mW g adM kM tM M] ([mW g adM kM tM M] ++ []) := b_perm [0] [] 1 rfl rfl rfl rfl
      refine b_call0 ⟨rfl, rfl⟩ (va_runV (As := [.int (-2)]) (rest := []) ⟨hx, hb, hml, hown, hts⟩ (m_X3_refuse l D g H.size adM kM tM M (-2) r7 M8 hc8) (cwV 1 hts (lw_V q1572 q1574 qs33 q79 q1575) rfl rfl rfl (by decide +kernel) ⟨Nat.le_of_ble_eq_true rfl, Nat.le_of_ble_eq_true rfl⟩) (b_preV (pp := 0) (q := 0) hW hp8 rfl mW_0 rfl) rfl rfl hl.1 rfl (lv_room (Nat.le_of_ble_eq_true rfl)) dX3_goerOf_34 ⟨Nat.le_of_ble_eq_true rfl, Nat.le_of_ble_eq_true rfl⟩) hW hp8 (fun _ _ H locs hW => ?_)
      have hW : bW D g A s H locs [mW g adM kM tM M8] := hW
      cases hf
      exact b_iret hx hb hr hlk hE hW () rfl trivial rfl dX3_goerOf_37
    · have hf := o_f hf c6
      refine lv_aload_n hx hb dX3_goerOf_20 rfl (lv_at hl 0 rfl) ?_
      refine b_get hx hb hts in_X3 hown hW 0 0 3 12 rfl mW_0 rfl (by decide) ⟨rfl, rfl, rfl⟩ (hts _ q1471) mW_g12 dX3_goerOf_21 ?_
      refine lv_iload_n hx hb dX3_goerOf_24 rfl (lv_at hl 1 rfl) ?_
      obtain ⟨h9, hf⟩ := o_cs hf
      refine b_agrI hx hb hW 0 24 rfl mW_24 h9 dX3_goerOf_25 ?_
      refine lv_iload_n hx hb dX3_goerOf_26 rfl (lv_at hl 2 rfl) ?_
      obtain ⟨h10, hf⟩ := o_cs hf
      refine b_iald hx hb hW 0 (25 + ix x1) rfl (mW_r25 (inB_lt h9)) h10 dX3_goerOf_27 ?_
      refine lv_goto (tgt := 37) hx hb dX3_goerOf_28 (by decide) ?_
      cases hf
      exact b_iret hx hb hr hlk hE hW () rfl trivial rfl dX3_goerOf_37
def f_X3_score (M : BC) (x1 : Int32) (x2 : Int32) : Option (Int32 × BC) :=
 o_b1 (f_X3_isGoer M x1) fun (r1 : Int32) =>
 (if r1 = 0 then
 o_b2 (f_X3_refuse M (-2)) fun (r3 : Int32) (M4 : BC) =>
 some ((-1000000) + r3, M4)
 else
 o_b1 (f_X3_isInn M x2) fun (r5 : Int32) =>
 (if r5 = 0 then
 o_b2 (f_X3_refuse M (-2)) fun (r7 : Int32) (M8 : BC) =>
 some ((-1000000) + r7, M8)
 else
 o_b1 (f_X3_scoreOf M x1 x2) fun (r9 : Int32) =>
 some (r9, M)))
abbrev rm_X3_score : Room := { frames := 3, cells := 0, slots := 0, locals := 69 }
set_option maxHeartbeats 4000000 in
set_option maxRecDepth 100000 in
theorem m_X3_score (l : Launch) (D : va_G) (g : Nat → ClassId) (sz : Nat) (adM : Nat → Nat) (kM : Option Nat) (tM : Option Nat) (M : BC) (x1 : Int32) (x2 : Int32) (rO : Int32) (MO : BC) (hf : f_X3_score M x1 x2 = some (rO, MO)) : bMet (S := Unit) l yX3_score (ws_ yX3_score cX3_score 3 (some .int)) rm_X3_score D g sz [.ref (adM 0), .int x1, .int x2] [mW g adM kM tM M] (fun _ => True) (fun _ => some (.int rO)) (fun _ => [mW g adM kM tM MO]) := by
  refine b_met (by decide) (Nat.le_of_ble_eq_true rfl) ?_
  intro p e s m args below meth c A Q ls hx hb hml hr hlk hown hname hts hE hl hW
  revert hW; generalize s.heap = H; intro hW
  have hl : lv_has ls 3 [(0, .ref (adM 0)), (1, .int x1), (2, .int x2)] := hl
  rw [f_X3_score] at hf
  refine lv_aload_n hx hb dX3_score_0 rfl (lv_at hl 0 rfl) ?_
  refine lv_iload_n hx hb dX3_score_1 rfl (lv_at hl 1 rfl) ?_
  obtain ⟨r1, hc1, hf⟩ := o_b1s hf
  have hp1 : List.Perm [mW g adM kM tM M] ([mW g adM kM tM M] ++ []) := b_perm [0] [] 1 rfl rfl rfl rfl
  refine b_call0 ⟨rfl, rfl⟩ (va_runV (As := [.int x1]) (rest := []) ⟨hx, hb, hml, hown, hts⟩ (m_X3_isGoer l D g H.size adM kM tM M x1 r1 hc1) (cwV 1 hts (lw_V q1603 q1605 qs35 q79 q1606) rfl rfl rfl (by decide +kernel) ⟨Nat.le_of_ble_eq_true rfl, Nat.le_of_ble_eq_true rfl⟩) (b_preV (pp := 0) (q := 0) hW hp1 rfl mW_0 rfl) rfl rfl hl.1 rfl (lv_room (Nat.le_of_ble_eq_true rfl)) dX3_score_2 ⟨Nat.le_of_ble_eq_true rfl, Nat.le_of_ble_eq_true rfl⟩) hW hp1 (fun _ _ H locs hW => ?_)
  have hW : bW D g A s H locs [mW g adM kM tM M] := hW
  refine lv_if_eq (tgt := 25) hx hb dX3_score_5 (by decide) (fun c2 => ?_) (fun c2 => ?_)
  · have hf := o_t hf c2
    refine lv_ldc (v := (-1000000)) hx hb hown (hts _ q1801) dX3_score_25 ?_
    refine lv_aload_n hx hb dX3_score_27 rfl (lv_at hl 0 rfl) ?_
    refine lv_bipush (v := (-2)) hx hb dX3_score_28 (by decide) ?_
    obtain ⟨r3, M4, hc4, hf⟩ := o_b2s hf
    have hp4 : List.Perm [mW g adM kM tM M] ([mW g adM kM tM M] ++ []) := b_perm [0] [] 1 rfl rfl rfl rfl
    refine b_call0 ⟨rfl, rfl⟩ (va_runV (As := [.int (-2)]) (rest := [.int (-1000000)]) ⟨hx, hb, hml, hown, hts⟩ (m_X3_refuse l D g H.size adM kM tM M (-2) r3 M4 hc4) (cwV 1 hts (lw_V q1572 q1574 qs33 q79 q1575) rfl rfl rfl (by decide +kernel) ⟨Nat.le_of_ble_eq_true rfl, Nat.le_of_ble_eq_true rfl⟩) (b_preV (pp := 0) (q := 0) hW hp4 rfl mW_0 rfl) rfl rfl hl.1 rfl (lv_room (Nat.le_of_ble_eq_true rfl)) dX3_score_30 ⟨Nat.le_of_ble_eq_true rfl, Nat.le_of_ble_eq_true rfl⟩) hW hp4 (fun _ _ H locs hW => ?_)
    have hW : bW D g A s H locs [mW g adM kM tM M4] := hW
    refine lv_iadd hx hb dX3_score_33 ?_
    cases hf
    exact b_iret hx hb hr hlk hE hW () rfl trivial rfl dX3_score_34
  · have hf := o_f hf c2
    refine lv_aload_n hx hb dX3_score_8 rfl (lv_at hl 0 rfl) ?_
    refine lv_iload_n hx hb dX3_score_9 rfl (lv_at hl 2 rfl) ?_
    obtain ⟨r5, hc5, hf⟩ := o_b1s hf
    have hp5 : List.Perm [mW g adM kM tM M] ([mW g adM kM tM M] ++ []) := b_perm [0] [] 1 rfl rfl rfl rfl
    refine b_call0 ⟨rfl, rfl⟩ (va_runV (As := [.int x2]) (rest := []) ⟨hx, hb, hml, hown, hts⟩ (m_X3_isInn l D g H.size adM kM tM M x2 r5 hc5) (cwV 1 hts (lw_V q1651 q1653 qs41 q79 q1654) rfl rfl rfl (by decide +kernel) ⟨Nat.le_of_ble_eq_true rfl, Nat.le_of_ble_eq_true rfl⟩) (b_preV (pp := 0) (q := 0) hW hp5 rfl mW_0 rfl) rfl rfl hl.1 rfl (lv_room (Nat.le_of_ble_eq_true rfl)) dX3_score_10 ⟨Nat.le_of_ble_eq_true rfl, Nat.le_of_ble_eq_true rfl⟩) hW hp5 (fun _ _ H locs hW => ?_)
    have hW : bW D g A s H locs [mW g adM kM tM M] := hW
    refine lv_if_eq (tgt := 25) hx hb dX3_score_13 (by decide) (fun c6 => ?_) (fun c6 => ?_)
    · have hf := o_t hf c6
      refine lv_ldc (v := (-1000000)) hx hb hown (hts _ q1801) dX3_score_25 ?_
      refine lv_aload_n hx hb dX3_score_27 rfl (lv_at hl 0 rfl) ?_
      refine lv_bipush (v := (-2)) hx hb dX3_score_28 (by decide) ?_
      obtain ⟨r7, M8, hc8, hf⟩ := o_b2s hf
      have hp8 : List.Perm [mW g adM kM tM M] ([mW g adM kM tM M] ++ []) := b_perm [0] [] 1 rfl rfl rfl rfl
      refine b_call0 ⟨rfl, rfl⟩ (va_runV (As := [.int (-2)]) (rest := [.int (-1000000)]) ⟨hx, hb, hml, hown, hts⟩ (m_X3_refuse l D g H.size adM kM tM M (-2) r7 M8 hc8) (cwV 1 hts (lw_V q1572 q1574 qs33 q79 q1575) rfl rfl rfl (by decide +kernel) ⟨Nat.le_of_ble_eq_true rfl, Nat.le_of_ble_eq_true rfl⟩) (b_preV (pp := 0) (q := 0) hW hp8 rfl mW_0 rfl) rfl rfl hl.1 rfl (lv_room (Nat.le_of_ble_eq_true rfl)) dX3_score_30 ⟨Nat.le_of_ble_eq_true rfl, Nat.le_of_ble_eq_true rfl⟩) hW hp8 (fun _ _ H locs hW => ?_)
      have hW : bW D g A s H locs [mW g adM kM tM M8] := hW
      refine lv_iadd hx hb dX3_score_33 ?_
      cases hf
      exact b_iret hx hb hr hlk hE hW () rfl trivial rfl dX3_score_34
    · have hf := o_f hf c6
      refine lv_aload_n hx hb dX3_score_16 rfl (lv_at hl 0 rfl) ?_
      refine lv_iload_n hx hb dX3_score_17 rfl (lv_at hl 1 rfl) ?_
      refine lv_iload_n hx hb dX3_score_18 rfl (lv_at hl 2 rfl) ?_
      obtain ⟨r9, hc9, hf⟩ := o_b1s hf
      have hp9 : List.Perm [mW g adM kM tM M] ([mW g adM kM tM M] ++ []) := b_perm [0] [] 1 rfl rfl rfl rfl
      refine b_call0 ⟨rfl, rfl⟩ (va_runV (As := [.int x1, .int x2]) (rest := []) ⟨hx, hb, hml, hown, hts⟩ (m_X3_scoreOf l D g H.size adM kM tM M x1 x2 r9 hc9) (cwV 2 hts (lw_V q1619 q1621 qs37 q79 q1622) rfl rfl rfl (by decide +kernel) ⟨Nat.le_of_ble_eq_true rfl, Nat.le_of_ble_eq_true rfl⟩) (b_preV (pp := 0) (q := 0) hW hp9 rfl mW_0 rfl) rfl rfl hl.1 rfl (lv_room (Nat.le_of_ble_eq_true rfl)) dX3_score_19 ⟨Nat.le_of_ble_eq_true rfl, Nat.le_of_ble_eq_true rfl⟩) hW hp9 (fun _ _ H locs hW => ?_)
      have hW : bW D g A s H locs [mW g adM kM tM M] := hW
      refine lv_goto (tgt := 34) hx hb dX3_score_22 (by decide) ?_
      cases hf
      exact b_iret hx hb hr hlk hE hW () rfl trivial rfl dX3_score_34
def f_X3_comes_L12 (x1 : Int32) (v2 : Int32) (M3 : BC) (rec1 : (Int32 × BC) → Option BC) (rec5 : (Int32 × Int32) → Option BC) : Int32 × Int32 → Option BC
  | (v6, v7) =>
    (if (M3.1 0 1) ≤ v7 then
     (if v6 = (-1) then
     o_ck (inB x1 6) (o_lt ((M3.1 39 (ix x1)) + v2) fun (v26 : Int32) =>
     o_lt (bI M3 39 (upd (M3.1 39) (ix x1) v26)) fun (M27 : BC) =>
     some M27)
     else
     o_ck (inB v6 6) ((if (M3.1 40 (ix v6)) ≤ v2 then
     o_lt (M3.1 40 (ix v6)) fun (v12 : Int32) =>
     o_ck (inB x1 6) (o_lt ((M3.1 (33 + ix x1) (ix v6)) + v12) fun (v14 : Int32) =>
     o_lt (bI M3 (33 + ix x1) (upd (M3.1 (33 + ix x1)) (ix v6) v14)) fun (M15 : BC) =>
     o_lt ((M15.1 40 (ix v6)) - v12) fun (v16 : Int32) =>
     o_lt (bI M15 40 (upd (M15.1 40) (ix v6) v16)) fun (M17 : BC) =>
     o_lt (v2 - v12) fun (v18 : Int32) =>
     rec1 (v18, M17))
     else
     o_ck (inB x1 6) (o_lt ((M3.1 (33 + ix x1) (ix v6)) + v2) fun (v20 : Int32) =>
     o_lt (bI M3 (33 + ix x1) (upd (M3.1 (33 + ix x1)) (ix v6) v20)) fun (M21 : BC) =>
     o_lt ((M21.1 40 (ix v6)) - v2) fun (v22 : Int32) =>
     o_lt (bI M21 40 (upd (M21.1 40) (ix v6) v22)) fun (M23 : BC) =>
     o_lt (v2 - v2) fun (v24 : Int32) =>
     rec1 (v24, M23)))))
     else
     o_ck (inB v7 6) ((if (M3.1 40 (ix v7)) ≤ 0 then
     o_lt (v7 + 1) fun (v30 : Int32) =>
     rec5 (v6, v30)
     else
     (if v6 = (-1) then
     o_lt (v7 + 1) fun (v32 : Int32) =>
     rec5 (v7, v32)
     else
     o_b1 (f_X3_scoreBy M3 x1 v7 (M3.1 41 (ix v7))) fun (r33 : Int32) =>
     o_ck (inB v6 6) (o_b1 (f_X3_scoreBy M3 x1 v6 (M3.1 41 (ix v6))) fun (r35 : Int32) =>
     (if r33 ≤ r35 then
     o_lt (v7 + 1) fun (v37 : Int32) =>
     rec5 (v6, v37)
     else
     o_lt (v7 + 1) fun (v38 : Int32) =>
     rec5 (v7, v38)))))))
def f_X3_comes_L2 (x1 : Int32) (fu : Nat) (rec1 : (Int32 × BC) → Option BC) : Int32 × BC → Option BC
  | (v2, M3) =>
    (if v2 ≤ 0 then
     some M3
     else
     o_lp (f_X3_comes_L12 x1 v2 M3 rec1) fu ((-1), 0))
def f_X3_comes (fu : Nat) (M : BC) (x1 : Int32) (x2 : Int32) : Option BC :=
 o_lp (f_X3_comes_L2 x1 fu) fu (x2, M)
abbrev rm_X3_comes : Room := { frames := 2, cells := 0, slots := 0, locals := 47 }
set_option maxHeartbeats 4000000 in
set_option maxRecDepth 100000 in
theorem m_X3_comes (l : Launch) (D : va_G) (g : Nat → ClassId) (sz : Nat) (adM : Nat → Nat) (kM : Option Nat) (tM : Option Nat) (fu : Nat) (M : BC) (x1 : Int32) (x2 : Int32) (MO : BC) (hf : f_X3_comes fu M x1 x2 = some MO) : bMet (S := Unit) l yX3_comes (ws_ yX3_comes cX3_comes 7 none) rm_X3_comes D g sz [.ref (adM 0), .int x1, .int x2] [mW g adM kM tM M] (fun _ => True) (fun _ => none) (fun _ => [mW g adM kM tM MO]) := by
  refine b_met (by decide) (Nat.le_of_ble_eq_true rfl) ?_
  intro p e s m args below meth c A Q ls hx hb hml hr hlk hown hname hts hE hl hW
  revert hW; generalize s.heap = H; intro hW
  have hl : lv_has ls 7 [(0, .ref (adM 0)), (1, .int x1), (2, .int x2)] := hl
  rw [f_X3_comes] at hf
  refine lv_iload_n hx hb dX3_comes_0 rfl (lv_at hl 2 rfl) ?_
  refine lv_istore_n (lv' := [(3, .int x2), (0, .ref (adM 0)), (1, .int x1), (2, .int x2)]) hx hb dX3_comes_1 rfl hl (by decide) rfl (fun ls hl => ?_)
  obtain ⟨stp1, est1, hf⟩ := o_ln hf
  have L1 : ∀ (n : Nat) (v2 : Int32) (M3 : BC) (H : Heap) (locs : List Loc) (ls : Array Slot), bW D g A s H locs [mW g adM kM tM M3] → lv_has ls 7 [(3, .int v2), (0, .ref (adM 0)), (1, .int x1)] → o_lp stp1 n (v2, M3) = some MO → W p l e rm_X3_comes s m args below meth c H locs 0 0 Q (F0 m 2 ls []) := by
    intro n1
    induction n1 with
    | zero => intro v2 M3 H locs ls hW hl hf; exact (o_lz hf).elim
    | succ n1 ih1 =>
      intro v2 M3 H locs ls hW hl hf
      have hf := o_lu est1 hf
      rw [f_X3_comes_L2] at hf
      refine lv_iload_n hx hb dX3_comes_2 rfl (lv_at hl 0 rfl) ?_
      refine lv_if_le (tgt := 170) hx hb dX3_comes_3 (by decide) (fun c4 => ?_) (fun c4 => ?_)
      · have hf := o_t hf c4
        cases hf
        exact b_vret hx hb hr hlk hE hW () rfl trivial rfl dX3_comes_170
      · have hf := o_f hf c4
        refine lv_iconst (v := (-1)) hx hb dX3_comes_6 (by decide) ?_
        refine lv_istore (lv' := [(4, .int (-1)), (3, .int v2), (0, .ref (adM 0)), (1, .int x1)]) hx hb dX3_comes_7 hl (by decide) rfl (fun ls hl => ?_)
        refine lv_iconst (v := 0) hx hb dX3_comes_9 (by decide) ?_
        refine lv_istore (lv' := [(5, .int 0), (4, .int (-1)), (3, .int v2), (0, .ref (adM 0)), (1, .int x1)]) hx hb dX3_comes_10 hl (by decide) rfl (fun ls hl => ?_)
        obtain ⟨stp5, est5, hf⟩ := o_ln hf
        have L5 : ∀ (n : Nat) (v6 : Int32) (v7 : Int32) (H : Heap) (locs : List Loc) (ls : Array Slot), bW D g A s H locs [mW g adM kM tM M3] → lv_has ls 7 [(5, .int v7), (4, .int v6), (3, .int v2), (0, .ref (adM 0)), (1, .int x1)] → o_lp stp5 n (v6, v7) = some MO → W p l e rm_X3_comes s m args below meth c H locs 0 0 Q (F0 m 12 ls []) := by
          intro n5
          induction n5 with
          | zero => intro v6 v7 H locs ls hW hl hf; exact (o_lz hf).elim
          | succ n5 ih5 =>
            intro v6 v7 H locs ls hW hl hf
            have hf := o_lu est5 hf
            rw [f_X3_comes_L12] at hf
            refine lv_iload hx hb dX3_comes_12 (lv_at hl 0 rfl) ?_
            refine lv_aload_n hx hb dX3_comes_14 rfl (lv_at hl 3 rfl) ?_
            refine b_get hx hb hts in_X3 hown hW 0 0 3 9 rfl mW_0 rfl (by decide) ⟨rfl, rfl, rfl⟩ (hts _ q1468) mW_g9 dX3_comes_15 ?_
            refine lv_icmp_ge (tgt := 95) hx hb dX3_comes_18 (by decide) (fun c8 => ?_) (fun c8 => ?_)
            · have hf := o_t hf c8
              refine lv_iload hx hb dX3_comes_95 (lv_at hl 1 rfl) ?_
              refine lv_iconst (v := (-1)) hx hb dX3_comes_97 (by decide) ?_
              refine lv_icmp_ne (tgt := 112) hx hb dX3_comes_98 (by decide) (fun c9 => ?_) (fun c9 => ?_)
              · have hf := o_f hf c9
                refine lv_iload_n hx hb dX3_comes_112 rfl (lv_at hl 2 rfl) ?_
                refine lv_aload_n hx hb dX3_comes_113 rfl (lv_at hl 3 rfl) ?_
                refine b_get hx hb hts in_X3 hown hW 0 0 3 27 rfl mW_0 rfl (by decide) ⟨rfl, rfl, rfl⟩ (hts _ q1486) mW_g27 dX3_comes_114 ?_
                refine lv_iload hx hb dX3_comes_117 (lv_at hl 1 rfl) ?_
                obtain ⟨h10, hf⟩ := o_cs hf
                refine b_iald hx hb hW 0 40 rfl mW_40 h10 dX3_comes_119 ?_
                refine lv_icmp_ge (tgt := 127) hx hb dX3_comes_120 (by decide) (fun c11 => ?_) (fun c11 => ?_)
                · have hf := o_t hf c11
                  refine lv_aload_n hx hb dX3_comes_127 rfl (lv_at hl 3 rfl) ?_
                  refine b_get hx hb hts in_X3 hown hW 0 0 3 27 rfl mW_0 rfl (by decide) ⟨rfl, rfl, rfl⟩ (hts _ q1486) mW_g27 dX3_comes_128 ?_
                  refine lv_iload hx hb dX3_comes_131 (lv_at hl 1 rfl) ?_
                  refine b_iald hx hb hW 0 40 rfl mW_40 h10 dX3_comes_133 ?_
                  obtain ⟨v12, ev12, hf⟩ := o_ls hf
                  refine b_topi ev12 ?_
                  refine lv_istore (lv' := [(5, .int v12), (4, .int v6), (3, .int v2), (0, .ref (adM 0)), (1, .int x1)]) hx hb dX3_comes_134 hl (by decide) rfl (fun ls hl => ?_)
                  refine lv_aload_n hx hb dX3_comes_136 rfl (lv_at hl 3 rfl) ?_
                  refine b_get hx hb hts in_X3 hown hW 0 0 3 25 rfl mW_0 rfl (by decide) ⟨rfl, rfl, rfl⟩ (hts _ q1484) mW_g25 dX3_comes_137 ?_
                  refine lv_iload_n hx hb dX3_comes_140 rfl (lv_at hl 4 rfl) ?_
                  obtain ⟨h13, hf⟩ := o_cs hf
                  refine b_agrI hx hb hW 0 32 rfl mW_32 h13 dX3_comes_141 ?_
                  refine lv_iload hx hb dX3_comes_142 (lv_at hl 1 rfl) ?_
                  refine lv_dup2_11 hx hb dX3_comes_144 rfl rfl ?_
                  refine b_iald hx hb hW 0 (33 + ix x1) rfl (mW_r33 (inB_lt h13)) h10 dX3_comes_145 ?_
                  refine lv_iload hx hb dX3_comes_146 (lv_at hl 0 rfl) ?_
                  refine lv_iadd hx hb dX3_comes_148 ?_
                  obtain ⟨v14, ev14, hf⟩ := o_ls hf
                  refine b_topi ev14 ?_
                  obtain ⟨M15, eM15, hf⟩ := o_ls hf
                  refine b_iast hx hb hW 0 (33 + ix x1) rfl (mW_r33 (inB_lt h13)) (mW_rs33 (inB_lt h13) eM15) rfl h10 dX3_comes_149 (fun H locs hW => ?_)
                  have hW : bW D g A s H locs [mW g adM kM tM M15] := hW
                  refine lv_aload_n hx hb dX3_comes_150 rfl (lv_at hl 3 rfl) ?_
                  refine b_get hx hb hts in_X3 hown hW 0 0 3 27 rfl mW_0 rfl (by decide) ⟨rfl, rfl, rfl⟩ (hts _ q1486) mW_g27 dX3_comes_151 ?_
                  refine lv_iload hx hb dX3_comes_154 (lv_at hl 1 rfl) ?_
                  refine lv_dup2_11 hx hb dX3_comes_156 rfl rfl ?_
                  refine b_iald hx hb hW 0 40 rfl mW_40 h10 dX3_comes_157 ?_
                  refine lv_iload hx hb dX3_comes_158 (lv_at hl 0 rfl) ?_
                  refine lv_isub hx hb dX3_comes_160 ?_
                  obtain ⟨v16, ev16, hf⟩ := o_ls hf
                  refine b_topi ev16 ?_
                  obtain ⟨M17, eM17, hf⟩ := o_ls hf
                  refine b_iast hx hb hW 0 40 rfl mW_40 (mW_s40 eM17) rfl h10 dX3_comes_161 (fun H locs hW => ?_)
                  have hW : bW D g A s H locs [mW g adM kM tM M17] := hW
                  refine lv_iload_n hx hb dX3_comes_162 rfl (lv_at hl 2 rfl) ?_
                  refine lv_iload hx hb dX3_comes_163 (lv_at hl 0 rfl) ?_
                  refine lv_isub hx hb dX3_comes_165 ?_
                  obtain ⟨v18, ev18, hf⟩ := o_ls hf
                  refine b_topi ev18 ?_
                  refine lv_istore_n (lv' := [(3, .int v18), (5, .int v12), (4, .int v6), (0, .ref (adM 0)), (1, .int x1)]) hx hb dX3_comes_166 rfl hl (by decide) rfl (fun ls hl => ?_)
                  refine lv_goto (tgt := 2) hx hb dX3_comes_167 (by decide) ?_
                  exact ih1 _ _ _ _ _ hW (lv_sub hl [0, 3, 4] rfl) hf
                · have hf := o_f hf c11
                  refine lv_iload_n hx hb dX3_comes_123 rfl (lv_at hl 2 rfl) ?_
                  refine lv_goto (tgt := 134) hx hb dX3_comes_124 (by decide) ?_
                  refine lv_istore (lv' := [(5, .int v2), (4, .int v6), (3, .int v2), (0, .ref (adM 0)), (1, .int x1)]) hx hb dX3_comes_134 hl (by decide) rfl (fun ls hl => ?_)
                  refine lv_aload_n hx hb dX3_comes_136 rfl (lv_at hl 3 rfl) ?_
                  refine b_get hx hb hts in_X3 hown hW 0 0 3 25 rfl mW_0 rfl (by decide) ⟨rfl, rfl, rfl⟩ (hts _ q1484) mW_g25 dX3_comes_137 ?_
                  refine lv_iload_n hx hb dX3_comes_140 rfl (lv_at hl 4 rfl) ?_
                  obtain ⟨h19, hf⟩ := o_cs hf
                  refine b_agrI hx hb hW 0 32 rfl mW_32 h19 dX3_comes_141 ?_
                  refine lv_iload hx hb dX3_comes_142 (lv_at hl 1 rfl) ?_
                  refine lv_dup2_11 hx hb dX3_comes_144 rfl rfl ?_
                  refine b_iald hx hb hW 0 (33 + ix x1) rfl (mW_r33 (inB_lt h19)) h10 dX3_comes_145 ?_
                  refine lv_iload hx hb dX3_comes_146 (lv_at hl 0 rfl) ?_
                  refine lv_iadd hx hb dX3_comes_148 ?_
                  obtain ⟨v20, ev20, hf⟩ := o_ls hf
                  refine b_topi ev20 ?_
                  obtain ⟨M21, eM21, hf⟩ := o_ls hf
                  refine b_iast hx hb hW 0 (33 + ix x1) rfl (mW_r33 (inB_lt h19)) (mW_rs33 (inB_lt h19) eM21) rfl h10 dX3_comes_149 (fun H locs hW => ?_)
                  have hW : bW D g A s H locs [mW g adM kM tM M21] := hW
                  refine lv_aload_n hx hb dX3_comes_150 rfl (lv_at hl 3 rfl) ?_
                  refine b_get hx hb hts in_X3 hown hW 0 0 3 27 rfl mW_0 rfl (by decide) ⟨rfl, rfl, rfl⟩ (hts _ q1486) mW_g27 dX3_comes_151 ?_
                  refine lv_iload hx hb dX3_comes_154 (lv_at hl 1 rfl) ?_
                  refine lv_dup2_11 hx hb dX3_comes_156 rfl rfl ?_
                  refine b_iald hx hb hW 0 40 rfl mW_40 h10 dX3_comes_157 ?_
                  refine lv_iload hx hb dX3_comes_158 (lv_at hl 0 rfl) ?_
                  refine lv_isub hx hb dX3_comes_160 ?_
                  obtain ⟨v22, ev22, hf⟩ := o_ls hf
                  refine b_topi ev22 ?_
                  obtain ⟨M23, eM23, hf⟩ := o_ls hf
                  refine b_iast hx hb hW 0 40 rfl mW_40 (mW_s40 eM23) rfl h10 dX3_comes_161 (fun H locs hW => ?_)
                  have hW : bW D g A s H locs [mW g adM kM tM M23] := hW
                  refine lv_iload_n hx hb dX3_comes_162 rfl (lv_at hl 2 rfl) ?_
                  refine lv_iload hx hb dX3_comes_163 (lv_at hl 0 rfl) ?_
                  refine lv_isub hx hb dX3_comes_165 ?_
                  obtain ⟨v24, ev24, hf⟩ := o_ls hf
                  refine b_topi ev24 ?_
                  refine lv_istore_n (lv' := [(3, .int v24), (5, .int v2), (4, .int v6), (0, .ref (adM 0)), (1, .int x1)]) hx hb dX3_comes_166 rfl hl (by decide) rfl (fun ls hl => ?_)
                  refine lv_goto (tgt := 2) hx hb dX3_comes_167 (by decide) ?_
                  exact ih1 _ _ _ _ _ hW (lv_sub hl [0, 3, 4] rfl) hf
              · have hf := o_t hf c9
                refine lv_aload_n hx hb dX3_comes_101 rfl (lv_at hl 3 rfl) ?_
                refine b_get hx hb hts in_X3 hown hW 0 0 3 26 rfl mW_0 rfl (by decide) ⟨rfl, rfl, rfl⟩ (hts _ q1485) mW_g26 dX3_comes_102 ?_
                refine lv_iload_n hx hb dX3_comes_105 rfl (lv_at hl 4 rfl) ?_
                refine lv_dup2_11 hx hb dX3_comes_106 rfl rfl ?_
                obtain ⟨h25, hf⟩ := o_cs hf
                refine b_iald hx hb hW 0 39 rfl mW_39 h25 dX3_comes_107 ?_
                refine lv_iload_n hx hb dX3_comes_108 rfl (lv_at hl 2 rfl) ?_
                refine lv_iadd hx hb dX3_comes_109 ?_
                obtain ⟨v26, ev26, hf⟩ := o_ls hf
                refine b_topi ev26 ?_
                obtain ⟨M27, eM27, hf⟩ := o_ls hf
                refine b_iast hx hb hW 0 39 rfl mW_39 (mW_s39 eM27) rfl h25 dX3_comes_110 (fun H locs hW => ?_)
                have hW : bW D g A s H locs [mW g adM kM tM M27] := hW
                cases hf
                exact b_vret hx hb hr hlk hE hW () rfl trivial rfl dX3_comes_111
            · have hf := o_f hf c8
              refine lv_aload_n hx hb dX3_comes_21 rfl (lv_at hl 3 rfl) ?_
              refine b_get hx hb hts in_X3 hown hW 0 0 3 27 rfl mW_0 rfl (by decide) ⟨rfl, rfl, rfl⟩ (hts _ q1486) mW_g27 dX3_comes_22 ?_
              refine lv_iload hx hb dX3_comes_25 (lv_at hl 0 rfl) ?_
              obtain ⟨h28, hf⟩ := o_cs hf
              refine b_iald hx hb hW 0 40 rfl mW_40 h28 dX3_comes_27 ?_
              refine lv_if_le (tgt := 35) hx hb dX3_comes_28 (by decide) (fun c29 => ?_) (fun c29 => ?_)
              · have hf := o_t hf c29
                refine lv_iconst (v := 0) hx hb dX3_comes_35 (by decide) ?_
                refine lv_istore (lv' := [(6, .int 0), (5, .int v7), (4, .int v6), (3, .int v2), (0, .ref (adM 0)), (1, .int x1)]) hx hb dX3_comes_36 hl (by decide) rfl (fun ls hl => ?_)
                refine lv_iload hx hb dX3_comes_38 (lv_at hl 0 rfl) ?_
                refine lv_if_eq (tgt := 85) hx hb dX3_comes_40 (by decide) (fun hc => ?_) (fun hc => absurd hc (by decide))
                refine lv_iload hx hb dX3_comes_85 (lv_at hl 2 rfl) ?_
                refine lv_istore (lv' := [(4, .int v6), (6, .int 0), (5, .int v7), (3, .int v2), (0, .ref (adM 0)), (1, .int x1)]) hx hb dX3_comes_87 hl (by decide) rfl (fun ls hl => ?_)
                obtain ⟨v30, ev30, hf⟩ := o_ls hf
                refine lv_iinc (v := v30) (lv' := [(5, .int v30), (4, .int v6), (6, .int 0), (3, .int v2), (0, .ref (adM 0)), (1, .int x1)]) hx hb dX3_comes_89 hl (k := 2) rfl ev30 (by decide) rfl (fun ls hl => ?_)
                refine lv_goto (tgt := 12) hx hb dX3_comes_92 (by decide) ?_
                exact ih5 _ _ _ _ _ hW (lv_sub hl [0, 1, 3, 4, 5] rfl) hf
              · have hf := o_f hf c29
                refine lv_iconst (v := 1) hx hb dX3_comes_31 (by decide) ?_
                refine lv_goto (tgt := 36) hx hb dX3_comes_32 (by decide) ?_
                refine lv_istore (lv' := [(6, .int 1), (5, .int v7), (4, .int v6), (3, .int v2), (0, .ref (adM 0)), (1, .int x1)]) hx hb dX3_comes_36 hl (by decide) rfl (fun ls hl => ?_)
                refine lv_iload hx hb dX3_comes_38 (lv_at hl 0 rfl) ?_
                refine lv_if_eq (tgt := 85) hx hb dX3_comes_40 (by decide) (fun hc => absurd hc (by decide)) (fun hc => ?_)
                refine lv_iload hx hb dX3_comes_43 (lv_at hl 2 rfl) ?_
                refine lv_iconst (v := (-1)) hx hb dX3_comes_45 (by decide) ?_
                refine lv_icmp_eq (tgt := 80) hx hb dX3_comes_46 (by decide) (fun c31 => ?_) (fun c31 => ?_)
                · have hf := o_t hf c31
                  refine lv_iload hx hb dX3_comes_80 (lv_at hl 1 rfl) ?_
                  refine lv_goto (tgt := 87) hx hb dX3_comes_82 (by decide) ?_
                  refine lv_istore (lv' := [(4, .int v7), (6, .int 1), (5, .int v7), (3, .int v2), (0, .ref (adM 0)), (1, .int x1)]) hx hb dX3_comes_87 hl (by decide) rfl (fun ls hl => ?_)
                  obtain ⟨v32, ev32, hf⟩ := o_ls hf
                  refine lv_iinc (v := v32) (lv' := [(5, .int v32), (4, .int v7), (6, .int 1), (3, .int v2), (0, .ref (adM 0)), (1, .int x1)]) hx hb dX3_comes_89 hl (k := 2) rfl ev32 (by decide) rfl (fun ls hl => ?_)
                  refine lv_goto (tgt := 12) hx hb dX3_comes_92 (by decide) ?_
                  exact ih5 _ _ _ _ _ hW (lv_sub hl [0, 1, 3, 4, 5] rfl) hf
                · have hf := o_f hf c31
                  refine lv_aload_n hx hb dX3_comes_49 rfl (lv_at hl 4 rfl) ?_
                  refine lv_iload_n hx hb dX3_comes_50 rfl (lv_at hl 5 rfl) ?_
                  refine lv_iload hx hb dX3_comes_51 (lv_at hl 1 rfl) ?_
                  refine lv_aload_n hx hb dX3_comes_53 rfl (lv_at hl 4 rfl) ?_
                  refine b_get hx hb hts in_X3 hown hW 0 0 3 28 rfl mW_0 rfl (by decide) ⟨rfl, rfl, rfl⟩ (hts _ q1487) mW_g28 dX3_comes_54 ?_
                  refine lv_iload hx hb dX3_comes_57 (lv_at hl 1 rfl) ?_
                  refine b_iald hx hb hW 0 41 rfl mW_41 h28 dX3_comes_59 ?_
                  obtain ⟨r33, hc33, hf⟩ := o_b1s hf
                  have hp33 : List.Perm [mW g adM kM tM M3] ([mW g adM kM tM M3] ++ []) := b_perm [0] [] 1 rfl rfl rfl rfl
                  refine b_call0 ⟨rfl, rfl⟩ (va_runV (As := [.int x1, .int v7, .int (M3.1 41 (ix v7))]) (rest := []) ⟨hx, hb, hml, hown, hts⟩ (m_X3_scoreBy l D g H.size adM kM tM M3 x1 v7 (M3.1 41 (ix v7)) r33 hc33) (cwV 3 hts (lw_V q1623 q1625 qs38 q79 q1626) rfl rfl rfl (by decide +kernel) ⟨Nat.le_of_ble_eq_true rfl, Nat.le_of_ble_eq_true rfl⟩) (b_preV (pp := 0) (q := 0) hW hp33 rfl mW_0 rfl) rfl rfl hl.1 rfl (lv_room (Nat.le_of_ble_eq_true rfl)) dX3_comes_60 ⟨Nat.le_of_ble_eq_true rfl, Nat.le_of_ble_eq_true rfl⟩) hW hp33 (fun _ _ H locs hW => ?_)
                  have hW : bW D g A s H locs [mW g adM kM tM M3] := hW
                  refine lv_aload_n hx hb dX3_comes_63 rfl (lv_at hl 4 rfl) ?_
                  refine lv_iload_n hx hb dX3_comes_64 rfl (lv_at hl 5 rfl) ?_
                  refine lv_iload hx hb dX3_comes_65 (lv_at hl 2 rfl) ?_
                  refine lv_aload_n hx hb dX3_comes_67 rfl (lv_at hl 4 rfl) ?_
                  refine b_get hx hb hts in_X3 hown hW 0 0 3 28 rfl mW_0 rfl (by decide) ⟨rfl, rfl, rfl⟩ (hts _ q1487) mW_g28 dX3_comes_68 ?_
                  refine lv_iload hx hb dX3_comes_71 (lv_at hl 2 rfl) ?_
                  obtain ⟨h34, hf⟩ := o_cs hf
                  refine b_iald hx hb hW 0 41 rfl mW_41 h34 dX3_comes_73 ?_
                  obtain ⟨r35, hc35, hf⟩ := o_b1s hf
                  have hp35 : List.Perm [mW g adM kM tM M3] ([mW g adM kM tM M3] ++ []) := b_perm [0] [] 1 rfl rfl rfl rfl
                  refine b_call0 ⟨rfl, rfl⟩ (va_runV (As := [.int x1, .int v6, .int (M3.1 41 (ix v6))]) (rest := [.int r33]) ⟨hx, hb, hml, hown, hts⟩ (m_X3_scoreBy l D g H.size adM kM tM M3 x1 v6 (M3.1 41 (ix v6)) r35 hc35) (cwV 3 hts (lw_V q1623 q1625 qs38 q79 q1626) rfl rfl rfl (by decide +kernel) ⟨Nat.le_of_ble_eq_true rfl, Nat.le_of_ble_eq_true rfl⟩) (b_preV (pp := 0) (q := 0) hW hp35 rfl mW_0 rfl) rfl rfl hl.1 rfl (lv_room (Nat.le_of_ble_eq_true rfl)) dX3_comes_74 ⟨Nat.le_of_ble_eq_true rfl, Nat.le_of_ble_eq_true rfl⟩) hW hp35 (fun _ _ H locs hW => ?_)
                  have hW : bW D g A s H locs [mW g adM kM tM M3] := hW
                  refine lv_icmp_le (tgt := 85) hx hb dX3_comes_77 (by decide) (fun c36 => ?_) (fun c36 => ?_)
                  · have hf := o_t hf c36
                    refine lv_iload hx hb dX3_comes_85 (lv_at hl 2 rfl) ?_
                    refine lv_istore (lv' := [(4, .int v6), (6, .int 1), (5, .int v7), (3, .int v2), (0, .ref (adM 0)), (1, .int x1)]) hx hb dX3_comes_87 hl (by decide) rfl (fun ls hl => ?_)
                    obtain ⟨v37, ev37, hf⟩ := o_ls hf
                    refine lv_iinc (v := v37) (lv' := [(5, .int v37), (4, .int v6), (6, .int 1), (3, .int v2), (0, .ref (adM 0)), (1, .int x1)]) hx hb dX3_comes_89 hl (k := 2) rfl ev37 (by decide) rfl (fun ls hl => ?_)
                    refine lv_goto (tgt := 12) hx hb dX3_comes_92 (by decide) ?_
                    exact ih5 _ _ _ _ _ hW (lv_sub hl [0, 1, 3, 4, 5] rfl) hf
                  · have hf := o_f hf c36
                    refine lv_iload hx hb dX3_comes_80 (lv_at hl 1 rfl) ?_
                    refine lv_goto (tgt := 87) hx hb dX3_comes_82 (by decide) ?_
                    refine lv_istore (lv' := [(4, .int v7), (6, .int 1), (5, .int v7), (3, .int v2), (0, .ref (adM 0)), (1, .int x1)]) hx hb dX3_comes_87 hl (by decide) rfl (fun ls hl => ?_)
                    obtain ⟨v38, ev38, hf⟩ := o_ls hf
                    refine lv_iinc (v := v38) (lv' := [(5, .int v38), (4, .int v7), (6, .int 1), (3, .int v2), (0, .ref (adM 0)), (1, .int x1)]) hx hb dX3_comes_89 hl (k := 2) rfl ev38 (by decide) rfl (fun ls hl => ?_)
                    refine lv_goto (tgt := 12) hx hb dX3_comes_92 (by decide) ?_
                    exact ih5 _ _ _ _ _ hW (lv_sub hl [0, 1, 3, 4, 5] rfl) hf
        exact L5 _ _ _ _ _ _ hW (lv_sub hl [0, 1, 2, 3, 4] rfl) hf
  exact L1 _ _ _ _ _ _ hW (lv_sub hl [0, 1, 2] rfl) hf
def f_X3_startNight_L63 (v6 : Int32) (rec5 : (Int32 × BC) → Option BC) (rec11 : (Int32 × BC) → Option BC) : Int32 × BC → Option BC
  | (v12, M13) =>
    (if (6 : Int32) ≤ v12 then
     o_lt (v6 + 1) fun (v15 : Int32) =>
     rec5 (v15, M13)
     else
     o_ck (inB v12 6) (o_lt (bI M13 (33 + ix v6) (upd (M13.1 (33 + ix v6)) (ix v12) 0)) fun (M17 : BC) =>
     o_lt (v12 + 1) fun (v18 : Int32) =>
     rec11 (v18, M17)))
def f_X3_startNight_L46 (fu : Nat) (rec5 : (Int32 × BC) → Option BC) : Int32 × BC → Option BC
  | (v6, M7) =>
    (if (M7.1 0 2) ≤ v6 then
     some M7
     else
     o_ck (inB v6 6) (o_lt (bI M7 39 (upd (M7.1 39) (ix v6) 0)) fun (M10 : BC) =>
     o_lp (f_X3_startNight_L63 v6 rec5) fu (0, M10)))
def f_X3_startNight_L2 (fu : Nat) (rec1 : (Int32 × BC) → Option BC) : Int32 × BC → Option BC
  | (v2, M3) =>
    (if (M3.1 0 1) ≤ v2 then
     o_lp (f_X3_startNight_L46 fu) fu (0, M3)
     else
     o_ck (inB v2 6) (o_lt (M3.1 (18 + ix v2) (ix 2)) fun (v20 : Int32) =>
     o_lt (bI M3 40 (upd (M3.1 40) (ix v2) v20)) fun (M21 : BC) =>
     o_lt (M21.1 (18 + ix v2) (ix 4)) fun (v22 : Int32) =>
     o_lt (bI M21 41 (upd (M21.1 41) (ix v2) v22)) fun (M23 : BC) =>
     o_lt (v2 + 1) fun (v24 : Int32) =>
     rec1 (v24, M23)))
def f_X3_startNight (fu : Nat) (M : BC) : Option BC :=
 o_lp (f_X3_startNight_L2 fu) fu (0, M)
abbrev rm_X3_startNight : Room := { frames := 0, cells := 0, slots := 0, locals := 0 }
set_option maxHeartbeats 4000000 in
set_option maxRecDepth 100000 in
theorem m_X3_startNight (l : Launch) (D : va_G) (g : Nat → ClassId) (sz : Nat) (adM : Nat → Nat) (kM : Option Nat) (tM : Option Nat) (fu : Nat) (M : BC) (MO : BC) (hf : f_X3_startNight fu M = some MO) : bMet (S := Unit) l yX3_startNight (ws_ yX3_startNight cX3_startNight 3 none) rm_X3_startNight D g sz [.ref (adM 0)] [mW g adM kM tM M] (fun _ => True) (fun _ => none) (fun _ => [mW g adM kM tM MO]) := by
  refine b_met (by decide) (Nat.le_of_ble_eq_true rfl) ?_
  intro p e s m args below meth c A Q ls hx hb hml hr hlk hown hname hts hE hl hW
  revert hW; generalize s.heap = H; intro hW
  have hl : lv_has ls 3 [(0, .ref (adM 0))] := hl
  rw [f_X3_startNight] at hf
  refine lv_iconst (v := 0) hx hb dX3_startNight_0 (by decide) ?_
  refine lv_istore_n (lv' := [(1, .int 0), (0, .ref (adM 0))]) hx hb dX3_startNight_1 rfl hl (by decide) rfl (fun ls hl => ?_)
  obtain ⟨stp1, est1, hf⟩ := o_ln hf
  have L1 : ∀ (n : Nat) (v2 : Int32) (M3 : BC) (H : Heap) (locs : List Loc) (ls : Array Slot), bW D g A s H locs [mW g adM kM tM M3] → lv_has ls 3 [(1, .int v2), (0, .ref (adM 0))] → o_lp stp1 n (v2, M3) = some MO → W p l e rm_X3_startNight s m args below meth c H locs 0 0 Q (F0 m 2 ls []) := by
    intro n1
    induction n1 with
    | zero => intro v2 M3 H locs ls hW hl hf; exact (o_lz hf).elim
    | succ n1 ih1 =>
      intro v2 M3 H locs ls hW hl hf
      have hf := o_lu est1 hf
      rw [f_X3_startNight_L2] at hf
      refine lv_iload_n hx hb dX3_startNight_2 rfl (lv_at hl 0 rfl) ?_
      refine lv_aload_n hx hb dX3_startNight_3 rfl (lv_at hl 1 rfl) ?_
      refine b_get hx hb hts in_X3 hown hW 0 0 3 9 rfl mW_0 rfl (by decide) ⟨rfl, rfl, rfl⟩ (hts _ q1468) mW_g9 dX3_startNight_4 ?_
      refine lv_icmp_ge (tgt := 44) hx hb dX3_startNight_7 (by decide) (fun c4 => ?_) (fun c4 => ?_)
      · have hf := o_t hf c4
        refine lv_iconst (v := 0) hx hb dX3_startNight_44 (by decide) ?_
        refine lv_istore_n (lv' := [(1, .int 0), (0, .ref (adM 0))]) hx hb dX3_startNight_45 rfl hl (by decide) rfl (fun ls hl => ?_)
        obtain ⟨stp5, est5, hf⟩ := o_ln hf
        have L5 : ∀ (n : Nat) (v6 : Int32) (M7 : BC) (H : Heap) (locs : List Loc) (ls : Array Slot), bW D g A s H locs [mW g adM kM tM M7] → lv_has ls 3 [(1, .int v6), (0, .ref (adM 0))] → o_lp stp5 n (v6, M7) = some MO → W p l e rm_X3_startNight s m args below meth c H locs 0 0 Q (F0 m 46 ls []) := by
          intro n5
          induction n5 with
          | zero => intro v6 M7 H locs ls hW hl hf; exact (o_lz hf).elim
          | succ n5 ih5 =>
            intro v6 M7 H locs ls hW hl hf
            have hf := o_lu est5 hf
            rw [f_X3_startNight_L46] at hf
            refine lv_iload_n hx hb dX3_startNight_46 rfl (lv_at hl 0 rfl) ?_
            refine lv_aload_n hx hb dX3_startNight_47 rfl (lv_at hl 1 rfl) ?_
            refine b_get hx hb hts in_X3 hown hW 0 0 3 11 rfl mW_0 rfl (by decide) ⟨rfl, rfl, rfl⟩ (hts _ q1470) mW_g11 dX3_startNight_48 ?_
            refine lv_icmp_ge (tgt := 90) hx hb dX3_startNight_51 (by decide) (fun c8 => ?_) (fun c8 => ?_)
            · have hf := o_t hf c8
              cases hf
              exact b_vret hx hb hr hlk hE hW () rfl trivial rfl dX3_startNight_90
            · have hf := o_f hf c8
              refine lv_aload_n hx hb dX3_startNight_54 rfl (lv_at hl 1 rfl) ?_
              refine b_get hx hb hts in_X3 hown hW 0 0 3 26 rfl mW_0 rfl (by decide) ⟨rfl, rfl, rfl⟩ (hts _ q1485) mW_g26 dX3_startNight_55 ?_
              refine lv_iload_n hx hb dX3_startNight_58 rfl (lv_at hl 0 rfl) ?_
              refine lv_iconst (v := 0) hx hb dX3_startNight_59 (by decide) ?_
              obtain ⟨h9, hf⟩ := o_cs hf
              obtain ⟨M10, eM10, hf⟩ := o_ls hf
              refine b_iast hx hb hW 0 39 rfl mW_39 (mW_s39 eM10) rfl h9 dX3_startNight_60 (fun H locs hW => ?_)
              have hW : bW D g A s H locs [mW g adM kM tM M10] := hW
              refine lv_iconst (v := 0) hx hb dX3_startNight_61 (by decide) ?_
              refine lv_istore_n (lv' := [(2, .int 0), (1, .int v6), (0, .ref (adM 0))]) hx hb dX3_startNight_62 rfl hl (by decide) rfl (fun ls hl => ?_)
              obtain ⟨stp11, est11, hf⟩ := o_ln hf
              have L11 : ∀ (n : Nat) (v12 : Int32) (M13 : BC) (H : Heap) (locs : List Loc) (ls : Array Slot), bW D g A s H locs [mW g adM kM tM M13] → lv_has ls 3 [(2, .int v12), (1, .int v6), (0, .ref (adM 0))] → o_lp stp11 n (v12, M13) = some MO → W p l e rm_X3_startNight s m args below meth c H locs 0 0 Q (F0 m 63 ls []) := by
                intro n11
                induction n11 with
                | zero => intro v12 M13 H locs ls hW hl hf; exact (o_lz hf).elim
                | succ n11 ih11 =>
                  intro v12 M13 H locs ls hW hl hf
                  have hf := o_lu est11 hf
                  rw [f_X3_startNight_L63] at hf
                  refine lv_iload_n hx hb dX3_startNight_63 rfl (lv_at hl 0 rfl) ?_
                  refine lv_bipush (v := 6) hx hb dX3_startNight_64 (by decide) ?_
                  refine lv_icmp_ge (tgt := 84) hx hb dX3_startNight_66 (by decide) (fun c14 => ?_) (fun c14 => ?_)
                  · have hf := o_t hf c14
                    obtain ⟨v15, ev15, hf⟩ := o_ls hf
                    refine lv_iinc (v := v15) (lv' := [(1, .int v15), (2, .int v12), (0, .ref (adM 0))]) hx hb dX3_startNight_84 hl (k := 1) rfl ev15 (by decide) rfl (fun ls hl => ?_)
                    refine lv_goto (tgt := 46) hx hb dX3_startNight_87 (by decide) ?_
                    exact ih5 _ _ _ _ _ hW (lv_sub hl [0, 2] rfl) hf
                  · have hf := o_f hf c14
                    refine lv_aload_n hx hb dX3_startNight_69 rfl (lv_at hl 2 rfl) ?_
                    refine b_get hx hb hts in_X3 hown hW 0 0 3 25 rfl mW_0 rfl (by decide) ⟨rfl, rfl, rfl⟩ (hts _ q1484) mW_g25 dX3_startNight_70 ?_
                    refine lv_iload_n hx hb dX3_startNight_73 rfl (lv_at hl 1 rfl) ?_
                    refine b_agrI hx hb hW 0 32 rfl mW_32 h9 dX3_startNight_74 ?_
                    refine lv_iload_n hx hb dX3_startNight_75 rfl (lv_at hl 0 rfl) ?_
                    refine lv_iconst (v := 0) hx hb dX3_startNight_76 (by decide) ?_
                    obtain ⟨h16, hf⟩ := o_cs hf
                    obtain ⟨M17, eM17, hf⟩ := o_ls hf
                    refine b_iast hx hb hW 0 (33 + ix v6) rfl (mW_r33 (inB_lt h9)) (mW_rs33 (inB_lt h9) eM17) rfl h16 dX3_startNight_77 (fun H locs hW => ?_)
                    have hW : bW D g A s H locs [mW g adM kM tM M17] := hW
                    obtain ⟨v18, ev18, hf⟩ := o_ls hf
                    refine lv_iinc (v := v18) (lv' := [(2, .int v18), (1, .int v6), (0, .ref (adM 0))]) hx hb dX3_startNight_78 hl (k := 0) rfl ev18 (by decide) rfl (fun ls hl => ?_)
                    refine lv_goto (tgt := 63) hx hb dX3_startNight_81 (by decide) ?_
                    exact ih11 _ _ _ _ _ hW (lv_sub hl [0, 1, 2] rfl) hf
              exact L11 _ _ _ _ _ _ hW (lv_sub hl [0, 1, 2] rfl) hf
        exact L5 _ _ _ _ _ _ hW (lv_sub hl [0, 1] rfl) hf
      · have hf := o_f hf c4
        refine lv_aload_n hx hb dX3_startNight_10 rfl (lv_at hl 1 rfl) ?_
        refine b_get hx hb hts in_X3 hown hW 0 0 3 27 rfl mW_0 rfl (by decide) ⟨rfl, rfl, rfl⟩ (hts _ q1486) mW_g27 dX3_startNight_11 ?_
        refine lv_iload_n hx hb dX3_startNight_14 rfl (lv_at hl 0 rfl) ?_
        refine lv_aload_n hx hb dX3_startNight_15 rfl (lv_at hl 1 rfl) ?_
        refine b_get hx hb hts in_X3 hown hW 0 0 3 10 rfl mW_0 rfl (by decide) ⟨rfl, rfl, rfl⟩ (hts _ q1469) mW_g10 dX3_startNight_16 ?_
        refine lv_iload_n hx hb dX3_startNight_19 rfl (lv_at hl 0 rfl) ?_
        obtain ⟨h19, hf⟩ := o_cs hf
        refine b_agrI hx hb hW 0 17 rfl mW_17 h19 dX3_startNight_20 ?_
        refine lv_iconst (v := 2) hx hb dX3_startNight_21 (by decide) ?_
        refine b_iald hx hb hW 0 (18 + ix v2) rfl (mW_r18 (inB_lt h19)) (by decide) dX3_startNight_22 ?_
        obtain ⟨v20, ev20, hf⟩ := o_ls hf
        refine b_topi ev20 ?_
        obtain ⟨M21, eM21, hf⟩ := o_ls hf
        refine b_iast hx hb hW 0 40 rfl mW_40 (mW_s40 eM21) rfl h19 dX3_startNight_23 (fun H locs hW => ?_)
        have hW : bW D g A s H locs [mW g adM kM tM M21] := hW
        refine lv_aload_n hx hb dX3_startNight_24 rfl (lv_at hl 1 rfl) ?_
        refine b_get hx hb hts in_X3 hown hW 0 0 3 28 rfl mW_0 rfl (by decide) ⟨rfl, rfl, rfl⟩ (hts _ q1487) mW_g28 dX3_startNight_25 ?_
        refine lv_iload_n hx hb dX3_startNight_28 rfl (lv_at hl 0 rfl) ?_
        refine lv_aload_n hx hb dX3_startNight_29 rfl (lv_at hl 1 rfl) ?_
        refine b_get hx hb hts in_X3 hown hW 0 0 3 10 rfl mW_0 rfl (by decide) ⟨rfl, rfl, rfl⟩ (hts _ q1469) mW_g10 dX3_startNight_30 ?_
        refine lv_iload_n hx hb dX3_startNight_33 rfl (lv_at hl 0 rfl) ?_
        refine b_agrI hx hb hW 0 17 rfl mW_17 h19 dX3_startNight_34 ?_
        refine lv_iconst (v := 4) hx hb dX3_startNight_35 (by decide) ?_
        refine b_iald hx hb hW 0 (18 + ix v2) rfl (mW_r18 (inB_lt h19)) (by decide) dX3_startNight_36 ?_
        obtain ⟨v22, ev22, hf⟩ := o_ls hf
        refine b_topi ev22 ?_
        obtain ⟨M23, eM23, hf⟩ := o_ls hf
        refine b_iast hx hb hW 0 41 rfl mW_41 (mW_s41 eM23) rfl h19 dX3_startNight_37 (fun H locs hW => ?_)
        have hW : bW D g A s H locs [mW g adM kM tM M23] := hW
        obtain ⟨v24, ev24, hf⟩ := o_ls hf
        refine lv_iinc (v := v24) (lv' := [(1, .int v24), (0, .ref (adM 0))]) hx hb dX3_startNight_38 hl (k := 0) rfl ev24 (by decide) rfl (fun ls hl => ?_)
        refine lv_goto (tgt := 2) hx hb dX3_startNight_41 (by decide) ?_
        exact ih1 _ _ _ _ _ hW (lv_sub hl [0, 1] rfl) hf
  exact L1 _ _ _ _ _ _ hW (lv_sub hl [0, 1] rfl) hf
def f_X3_goThrough_L13 (fu : Nat) (v3 : Int32) (rec2 : (Int32 × BC) → Option BC) (rec6 : (Int32 × BC) → Option BC) : Int32 × BC → Option BC
  | (v7, M8) =>
    (if (M8.1 0 2) ≤ v7 then
     o_lt (v3 + 1) fun (v10 : Int32) =>
     rec2 (v10, M8)
     else
     o_ck (inB v7 6) ((if (M8.1 (25 + ix v7) (ix 0)) = 5 then
     (if v3 = 1 then
     o_b1 (f_X3_comes fu M8 v7 (M8.1 (25 + ix v7) (ix 1))) fun (M19 : BC) =>
     o_lt (v7 + 1) fun (v20 : Int32) =>
     rec6 (v20, M19)
     else
     o_lt (v7 + 1) fun (v18 : Int32) =>
     rec6 (v18, M8))
     else
     (if v3 = 1 then
     o_lt (v7 + 1) fun (v16 : Int32) =>
     rec6 (v16, M8)
     else
     o_b1 (f_X3_comes fu M8 v7 (M8.1 (25 + ix v7) (ix 1))) fun (M14 : BC) =>
     o_lt (v7 + 1) fun (v15 : Int32) =>
     rec6 (v15, M14)))))
def f_X3_goThrough_L6 (fu : Nat) (rec2 : (Int32 × BC) → Option BC) : Int32 × BC → Option BC
  | (v3, M4) =>
    (if (2 : Int32) ≤ v3 then
     some M4
     else
     o_lp (f_X3_goThrough_L13 fu v3 rec2) fu (0, M4))
def f_X3_goThrough (fu : Nat) (M : BC) : Option BC :=
 o_b1 (f_X3_startNight fu M) fun (M1 : BC) =>
 o_lp (f_X3_goThrough_L6 fu) fu (0, M1)
abbrev rm_X3_goThrough : Room := { frames := 3, cells := 0, slots := 0, locals := 73 }
set_option maxHeartbeats 4000000 in
set_option maxRecDepth 100000 in
theorem m_X3_goThrough (l : Launch) (D : va_G) (g : Nat → ClassId) (sz : Nat) (adM : Nat → Nat) (kM : Option Nat) (tM : Option Nat) (fu : Nat) (M : BC) (MO : BC) (hf : f_X3_goThrough fu M = some MO) : bMet (S := Unit) l yX3_goThrough (ws_ yX3_goThrough cX3_goThrough 3 none) rm_X3_goThrough D g sz [.ref (adM 0)] [mW g adM kM tM M] (fun _ => True) (fun _ => none) (fun _ => [mW g adM kM tM MO]) := by
  refine b_met (by decide) (Nat.le_of_ble_eq_true rfl) ?_
  intro p e s m args below meth c A Q ls hx hb hml hr hlk hown hname hts hE hl hW
  revert hW; generalize s.heap = H; intro hW
  have hl : lv_has ls 3 [(0, .ref (adM 0))] := hl
  rw [f_X3_goThrough] at hf
  refine lv_aload_n hx hb dX3_goThrough_0 rfl (lv_at hl 0 rfl) ?_
  obtain ⟨M1, hc1, hf⟩ := o_b1s hf
  have hp1 : List.Perm [mW g adM kM tM M] ([mW g adM kM tM M] ++ []) := b_perm [0] [] 1 rfl rfl rfl rfl
  refine b_call0 ⟨rfl, rfl⟩ (va_runV (As := []) (rest := []) ⟨hx, hb, hml, hown, hts⟩ (m_X3_startNight l D g H.size adM kM tM fu M M1 hc1) (cwV 0 hts (lw_V q1810 q1812 qs58 q79 q1813) rfl rfl rfl (by decide +kernel) ⟨Nat.le_of_ble_eq_true rfl, Nat.le_of_ble_eq_true rfl⟩) (b_preV (pp := 0) (q := 0) hW hp1 rfl mW_0 rfl) rfl rfl hl.1 rfl (lv_room (Nat.le_of_ble_eq_true rfl)) dX3_goThrough_1 ⟨Nat.le_of_ble_eq_true rfl, Nat.le_of_ble_eq_true rfl⟩) hW hp1 (fun _ _ H locs hW => ?_)
  have hW : bW D g A s H locs [mW g adM kM tM M1] := hW
  refine lv_iconst (v := 0) hx hb dX3_goThrough_4 (by decide) ?_
  refine lv_istore_n (lv' := [(1, .int 0), (0, .ref (adM 0))]) hx hb dX3_goThrough_5 rfl hl (by decide) rfl (fun ls hl => ?_)
  obtain ⟨stp2, est2, hf⟩ := o_ln hf
  have L2 : ∀ (n : Nat) (v3 : Int32) (M4 : BC) (H : Heap) (locs : List Loc) (ls : Array Slot), bW D g A s H locs [mW g adM kM tM M4] → lv_has ls 3 [(1, .int v3), (0, .ref (adM 0))] → o_lp stp2 n (v3, M4) = some MO → W p l e rm_X3_goThrough s m args below meth c H locs 0 0 Q (F0 m 6 ls []) := by
    intro n2
    induction n2 with
    | zero => intro v3 M4 H locs ls hW hl hf; exact (o_lz hf).elim
    | succ n2 ih2 =>
      intro v3 M4 H locs ls hW hl hf
      have hf := o_lu est2 hf
      rw [f_X3_goThrough_L6] at hf
      refine lv_iload_n hx hb dX3_goThrough_6 rfl (lv_at hl 0 rfl) ?_
      refine lv_iconst (v := 2) hx hb dX3_goThrough_7 (by decide) ?_
      refine lv_icmp_ge (tgt := 76) hx hb dX3_goThrough_8 (by decide) (fun c5 => ?_) (fun c5 => ?_)
      · have hf := o_t hf c5
        cases hf
        exact b_vret hx hb hr hlk hE hW () rfl trivial rfl dX3_goThrough_76
      · have hf := o_f hf c5
        refine lv_iconst (v := 0) hx hb dX3_goThrough_11 (by decide) ?_
        refine lv_istore_n (lv' := [(2, .int 0), (1, .int v3), (0, .ref (adM 0))]) hx hb dX3_goThrough_12 rfl hl (by decide) rfl (fun ls hl => ?_)
        obtain ⟨stp6, est6, hf⟩ := o_ln hf
        have L6 : ∀ (n : Nat) (v7 : Int32) (M8 : BC) (H : Heap) (locs : List Loc) (ls : Array Slot), bW D g A s H locs [mW g adM kM tM M8] → lv_has ls 3 [(2, .int v7), (1, .int v3), (0, .ref (adM 0))] → o_lp stp6 n (v7, M8) = some MO → W p l e rm_X3_goThrough s m args below meth c H locs 0 0 Q (F0 m 13 ls []) := by
          intro n6
          induction n6 with
          | zero => intro v7 M8 H locs ls hW hl hf; exact (o_lz hf).elim
          | succ n6 ih6 =>
            intro v7 M8 H locs ls hW hl hf
            have hf := o_lu est6 hf
            rw [f_X3_goThrough_L13] at hf
            refine lv_iload_n hx hb dX3_goThrough_13 rfl (lv_at hl 0 rfl) ?_
            refine lv_aload_n hx hb dX3_goThrough_14 rfl (lv_at hl 2 rfl) ?_
            refine b_get hx hb hts in_X3 hown hW 0 0 3 11 rfl mW_0 rfl (by decide) ⟨rfl, rfl, rfl⟩ (hts _ q1470) mW_g11 dX3_goThrough_15 ?_
            refine lv_icmp_ge (tgt := 70) hx hb dX3_goThrough_18 (by decide) (fun c9 => ?_) (fun c9 => ?_)
            · have hf := o_t hf c9
              obtain ⟨v10, ev10, hf⟩ := o_ls hf
              refine lv_iinc (v := v10) (lv' := [(1, .int v10), (2, .int v7), (0, .ref (adM 0))]) hx hb dX3_goThrough_70 hl (k := 1) rfl ev10 (by decide) rfl (fun ls hl => ?_)
              refine lv_goto (tgt := 6) hx hb dX3_goThrough_73 (by decide) ?_
              exact ih2 _ _ _ _ _ hW (lv_sub hl [0, 2] rfl) hf
            · have hf := o_f hf c9
              refine lv_aload_n hx hb dX3_goThrough_21 rfl (lv_at hl 2 rfl) ?_
              refine b_get hx hb hts in_X3 hown hW 0 0 3 12 rfl mW_0 rfl (by decide) ⟨rfl, rfl, rfl⟩ (hts _ q1471) mW_g12 dX3_goThrough_22 ?_
              refine lv_iload_n hx hb dX3_goThrough_25 rfl (lv_at hl 0 rfl) ?_
              obtain ⟨h11, hf⟩ := o_cs hf
              refine b_agrI hx hb hW 0 24 rfl mW_24 h11 dX3_goThrough_26 ?_
              refine lv_iconst (v := 0) hx hb dX3_goThrough_27 (by decide) ?_
              refine b_iald hx hb hW 0 (25 + ix v7) rfl (mW_r25 (inB_lt h11)) (by decide) dX3_goThrough_28 ?_
              refine lv_iconst (v := 5) hx hb dX3_goThrough_29 (by decide) ?_
              refine lv_icmp_ne (tgt := 37) hx hb dX3_goThrough_30 (by decide) (fun c12 => ?_) (fun c12 => ?_)
              · have hf := o_f hf c12
                refine lv_iconst (v := 0) hx hb dX3_goThrough_37 (by decide) ?_
                refine lv_iload_n hx hb dX3_goThrough_38 rfl (lv_at hl 1 rfl) ?_
                refine lv_iconst (v := 1) hx hb dX3_goThrough_39 (by decide) ?_
                refine lv_icmp_ne (tgt := 47) hx hb dX3_goThrough_40 (by decide) (fun c13 => ?_) (fun c13 => ?_)
                · have hf := o_f hf c13
                  refine lv_iconst (v := 0) hx hb dX3_goThrough_47 (by decide) ?_
                  refine lv_icmp_ne (tgt := 64) hx hb dX3_goThrough_48 (by decide) (fun hc => absurd hc (by decide)) (fun hc => ?_)
                  refine lv_aload_n hx hb dX3_goThrough_51 rfl (lv_at hl 2 rfl) ?_
                  refine lv_iload_n hx hb dX3_goThrough_52 rfl (lv_at hl 0 rfl) ?_
                  refine lv_aload_n hx hb dX3_goThrough_53 rfl (lv_at hl 2 rfl) ?_
                  refine b_get hx hb hts in_X3 hown hW 0 0 3 12 rfl mW_0 rfl (by decide) ⟨rfl, rfl, rfl⟩ (hts _ q1471) mW_g12 dX3_goThrough_54 ?_
                  refine lv_iload_n hx hb dX3_goThrough_57 rfl (lv_at hl 0 rfl) ?_
                  refine b_agrI hx hb hW 0 24 rfl mW_24 h11 dX3_goThrough_58 ?_
                  refine lv_iconst (v := 1) hx hb dX3_goThrough_59 (by decide) ?_
                  refine b_iald hx hb hW 0 (25 + ix v7) rfl (mW_r25 (inB_lt h11)) (by decide) dX3_goThrough_60 ?_
                  obtain ⟨M14, hc14, hf⟩ := o_b1s hf
                  have hp14 : List.Perm [mW g adM kM tM M8] ([mW g adM kM tM M8] ++ []) := b_perm [0] [] 1 rfl rfl rfl rfl
                  refine b_call0 ⟨rfl, rfl⟩ (va_runV (As := [.int v7, .int (M8.1 (25 + ix v7) (ix 1))]) (rest := []) ⟨hx, hb, hml, hown, hts⟩ (m_X3_comes l D g H.size adM kM tM fu M8 v7 (M8.1 (25 + ix v7) (ix 1)) M14 hc14) (cwV 2 hts (lw_V q1814 q1816 qs59 q79 q1817) rfl rfl rfl (by decide +kernel) ⟨Nat.le_of_ble_eq_true rfl, Nat.le_of_ble_eq_true rfl⟩) (b_preV (pp := 0) (q := 0) hW hp14 rfl mW_0 rfl) rfl rfl hl.1 rfl (lv_room (Nat.le_of_ble_eq_true rfl)) dX3_goThrough_61 ⟨Nat.le_of_ble_eq_true rfl, Nat.le_of_ble_eq_true rfl⟩) hW hp14 (fun _ _ H locs hW => ?_)
                  have hW : bW D g A s H locs [mW g adM kM tM M14] := hW
                  obtain ⟨v15, ev15, hf⟩ := o_ls hf
                  refine lv_iinc (v := v15) (lv' := [(2, .int v15), (1, .int v3), (0, .ref (adM 0))]) hx hb dX3_goThrough_64 hl (k := 0) rfl ev15 (by decide) rfl (fun ls hl => ?_)
                  refine lv_goto (tgt := 13) hx hb dX3_goThrough_67 (by decide) ?_
                  exact ih6 _ _ _ _ _ hW (lv_sub hl [0, 1, 2] rfl) hf
                · have hf := o_t hf c13
                  refine lv_iconst (v := 1) hx hb dX3_goThrough_43 (by decide) ?_
                  refine lv_goto (tgt := 48) hx hb dX3_goThrough_44 (by decide) ?_
                  refine lv_icmp_ne (tgt := 64) hx hb dX3_goThrough_48 (by decide) (fun hc => ?_) (fun hc => absurd hc (by decide))
                  obtain ⟨v16, ev16, hf⟩ := o_ls hf
                  refine lv_iinc (v := v16) (lv' := [(2, .int v16), (1, .int v3), (0, .ref (adM 0))]) hx hb dX3_goThrough_64 hl (k := 0) rfl ev16 (by decide) rfl (fun ls hl => ?_)
                  refine lv_goto (tgt := 13) hx hb dX3_goThrough_67 (by decide) ?_
                  exact ih6 _ _ _ _ _ hW (lv_sub hl [0, 1, 2] rfl) hf
              · have hf := o_t hf c12
                refine lv_iconst (v := 1) hx hb dX3_goThrough_33 (by decide) ?_
                refine lv_goto (tgt := 38) hx hb dX3_goThrough_34 (by decide) ?_
                refine lv_iload_n hx hb dX3_goThrough_38 rfl (lv_at hl 1 rfl) ?_
                refine lv_iconst (v := 1) hx hb dX3_goThrough_39 (by decide) ?_
                refine lv_icmp_ne (tgt := 47) hx hb dX3_goThrough_40 (by decide) (fun c17 => ?_) (fun c17 => ?_)
                · have hf := o_f hf c17
                  refine lv_iconst (v := 0) hx hb dX3_goThrough_47 (by decide) ?_
                  refine lv_icmp_ne (tgt := 64) hx hb dX3_goThrough_48 (by decide) (fun hc => ?_) (fun hc => absurd hc (by decide))
                  obtain ⟨v18, ev18, hf⟩ := o_ls hf
                  refine lv_iinc (v := v18) (lv' := [(2, .int v18), (1, .int v3), (0, .ref (adM 0))]) hx hb dX3_goThrough_64 hl (k := 0) rfl ev18 (by decide) rfl (fun ls hl => ?_)
                  refine lv_goto (tgt := 13) hx hb dX3_goThrough_67 (by decide) ?_
                  exact ih6 _ _ _ _ _ hW (lv_sub hl [0, 1, 2] rfl) hf
                · have hf := o_t hf c17
                  refine lv_iconst (v := 1) hx hb dX3_goThrough_43 (by decide) ?_
                  refine lv_goto (tgt := 48) hx hb dX3_goThrough_44 (by decide) ?_
                  refine lv_icmp_ne (tgt := 64) hx hb dX3_goThrough_48 (by decide) (fun hc => absurd hc (by decide)) (fun hc => ?_)
                  refine lv_aload_n hx hb dX3_goThrough_51 rfl (lv_at hl 2 rfl) ?_
                  refine lv_iload_n hx hb dX3_goThrough_52 rfl (lv_at hl 0 rfl) ?_
                  refine lv_aload_n hx hb dX3_goThrough_53 rfl (lv_at hl 2 rfl) ?_
                  refine b_get hx hb hts in_X3 hown hW 0 0 3 12 rfl mW_0 rfl (by decide) ⟨rfl, rfl, rfl⟩ (hts _ q1471) mW_g12 dX3_goThrough_54 ?_
                  refine lv_iload_n hx hb dX3_goThrough_57 rfl (lv_at hl 0 rfl) ?_
                  refine b_agrI hx hb hW 0 24 rfl mW_24 h11 dX3_goThrough_58 ?_
                  refine lv_iconst (v := 1) hx hb dX3_goThrough_59 (by decide) ?_
                  refine b_iald hx hb hW 0 (25 + ix v7) rfl (mW_r25 (inB_lt h11)) (by decide) dX3_goThrough_60 ?_
                  obtain ⟨M19, hc19, hf⟩ := o_b1s hf
                  have hp19 : List.Perm [mW g adM kM tM M8] ([mW g adM kM tM M8] ++ []) := b_perm [0] [] 1 rfl rfl rfl rfl
                  refine b_call0 ⟨rfl, rfl⟩ (va_runV (As := [.int v7, .int (M8.1 (25 + ix v7) (ix 1))]) (rest := []) ⟨hx, hb, hml, hown, hts⟩ (m_X3_comes l D g H.size adM kM tM fu M8 v7 (M8.1 (25 + ix v7) (ix 1)) M19 hc19) (cwV 2 hts (lw_V q1814 q1816 qs59 q79 q1817) rfl rfl rfl (by decide +kernel) ⟨Nat.le_of_ble_eq_true rfl, Nat.le_of_ble_eq_true rfl⟩) (b_preV (pp := 0) (q := 0) hW hp19 rfl mW_0 rfl) rfl rfl hl.1 rfl (lv_room (Nat.le_of_ble_eq_true rfl)) dX3_goThrough_61 ⟨Nat.le_of_ble_eq_true rfl, Nat.le_of_ble_eq_true rfl⟩) hW hp19 (fun _ _ H locs hW => ?_)
                  have hW : bW D g A s H locs [mW g adM kM tM M19] := hW
                  obtain ⟨v20, ev20, hf⟩ := o_ls hf
                  refine lv_iinc (v := v20) (lv' := [(2, .int v20), (1, .int v3), (0, .ref (adM 0))]) hx hb dX3_goThrough_64 hl (k := 0) rfl ev20 (by decide) rfl (fun ls hl => ?_)
                  refine lv_goto (tgt := 13) hx hb dX3_goThrough_67 (by decide) ?_
                  exact ih6 _ _ _ _ _ hW (lv_sub hl [0, 1, 2] rfl) hf
        exact L6 _ _ _ _ _ _ hW (lv_sub hl [0, 1, 2] rfl) hf
  exact L2 _ _ _ _ _ _ hW (lv_sub hl [0, 1] rfl) hf
def f_X3_sleeps (fu : Nat) (M : BC) (x1 : Int32) (x2 : Int32) : Option (Int32 × BC) :=
 o_b1 (f_X3_isGoer M x1) fun (r1 : Int32) =>
 (if r1 = 0 then
 o_b2 (f_X3_refuse M (-2)) fun (r3 : Int32) (M4 : BC) =>
 some (r3, M4)
 else
 o_b1 (f_X3_isInn M x2) fun (r5 : Int32) =>
 (if r5 = 0 then
 o_b2 (f_X3_refuse M (-2)) fun (r10 : Int32) (M11 : BC) =>
 some (r10, M11)
 else
 o_b1 (f_X3_goThrough fu M) fun (M7 : BC) =>
 o_ck (inB x1 6) (o_ck (inB x2 6) (some (M7.1 (33 + ix x1) (ix x2), M7)))))
abbrev rm_X3_sleeps : Room := { frames := 4, cells := 0, slots := 0, locals := 95 }
set_option maxHeartbeats 4000000 in
set_option maxRecDepth 100000 in
theorem m_X3_sleeps (l : Launch) (D : va_G) (g : Nat → ClassId) (sz : Nat) (adM : Nat → Nat) (kM : Option Nat) (tM : Option Nat) (fu : Nat) (M : BC) (x1 : Int32) (x2 : Int32) (rO : Int32) (MO : BC) (hf : f_X3_sleeps fu M x1 x2 = some (rO, MO)) : bMet (S := Unit) l yX3_sleeps (ws_ yX3_sleeps cX3_sleeps 3 (some .int)) rm_X3_sleeps D g sz [.ref (adM 0), .int x1, .int x2] [mW g adM kM tM M] (fun _ => True) (fun _ => some (.int rO)) (fun _ => [mW g adM kM tM MO]) := by
  refine b_met (by decide) (Nat.le_of_ble_eq_true rfl) ?_
  intro p e s m args below meth c A Q ls hx hb hml hr hlk hown hname hts hE hl hW
  revert hW; generalize s.heap = H; intro hW
  have hl : lv_has ls 3 [(0, .ref (adM 0)), (1, .int x1), (2, .int x2)] := hl
  rw [f_X3_sleeps] at hf
  refine lv_aload_n hx hb dX3_sleeps_0 rfl (lv_at hl 0 rfl) ?_
  refine lv_iload_n hx hb dX3_sleeps_1 rfl (lv_at hl 1 rfl) ?_
  obtain ⟨r1, hc1, hf⟩ := o_b1s hf
  have hp1 : List.Perm [mW g adM kM tM M] ([mW g adM kM tM M] ++ []) := b_perm [0] [] 1 rfl rfl rfl rfl
  refine b_call0 ⟨rfl, rfl⟩ (va_runV (As := [.int x1]) (rest := []) ⟨hx, hb, hml, hown, hts⟩ (m_X3_isGoer l D g H.size adM kM tM M x1 r1 hc1) (cwV 1 hts (lw_V q1603 q1605 qs35 q79 q1606) rfl rfl rfl (by decide +kernel) ⟨Nat.le_of_ble_eq_true rfl, Nat.le_of_ble_eq_true rfl⟩) (b_preV (pp := 0) (q := 0) hW hp1 rfl mW_0 rfl) rfl rfl hl.1 rfl (lv_room (Nat.le_of_ble_eq_true rfl)) dX3_sleeps_2 ⟨Nat.le_of_ble_eq_true rfl, Nat.le_of_ble_eq_true rfl⟩) hW hp1 (fun _ _ H locs hW => ?_)
  have hW : bW D g A s H locs [mW g adM kM tM M] := hW
  refine lv_if_eq (tgt := 16) hx hb dX3_sleeps_5 (by decide) (fun c2 => ?_) (fun c2 => ?_)
  · have hf := o_t hf c2
    refine lv_aload_n hx hb dX3_sleeps_16 rfl (lv_at hl 0 rfl) ?_
    refine lv_bipush (v := (-2)) hx hb dX3_sleeps_17 (by decide) ?_
    obtain ⟨r3, M4, hc4, hf⟩ := o_b2s hf
    have hp4 : List.Perm [mW g adM kM tM M] ([mW g adM kM tM M] ++ []) := b_perm [0] [] 1 rfl rfl rfl rfl
    refine b_call0 ⟨rfl, rfl⟩ (va_runV (As := [.int (-2)]) (rest := []) ⟨hx, hb, hml, hown, hts⟩ (m_X3_refuse l D g H.size adM kM tM M (-2) r3 M4 hc4) (cwV 1 hts (lw_V q1572 q1574 qs33 q79 q1575) rfl rfl rfl (by decide +kernel) ⟨Nat.le_of_ble_eq_true rfl, Nat.le_of_ble_eq_true rfl⟩) (b_preV (pp := 0) (q := 0) hW hp4 rfl mW_0 rfl) rfl rfl hl.1 rfl (lv_room (Nat.le_of_ble_eq_true rfl)) dX3_sleeps_19 ⟨Nat.le_of_ble_eq_true rfl, Nat.le_of_ble_eq_true rfl⟩) hW hp4 (fun _ _ H locs hW => ?_)
    have hW : bW D g A s H locs [mW g adM kM tM M4] := hW
    cases hf
    exact b_iret hx hb hr hlk hE hW () rfl trivial rfl dX3_sleeps_22
  · have hf := o_f hf c2
    refine lv_aload_n hx hb dX3_sleeps_8 rfl (lv_at hl 0 rfl) ?_
    refine lv_iload_n hx hb dX3_sleeps_9 rfl (lv_at hl 2 rfl) ?_
    obtain ⟨r5, hc5, hf⟩ := o_b1s hf
    have hp5 : List.Perm [mW g adM kM tM M] ([mW g adM kM tM M] ++ []) := b_perm [0] [] 1 rfl rfl rfl rfl
    refine b_call0 ⟨rfl, rfl⟩ (va_runV (As := [.int x2]) (rest := []) ⟨hx, hb, hml, hown, hts⟩ (m_X3_isInn l D g H.size adM kM tM M x2 r5 hc5) (cwV 1 hts (lw_V q1651 q1653 qs41 q79 q1654) rfl rfl rfl (by decide +kernel) ⟨Nat.le_of_ble_eq_true rfl, Nat.le_of_ble_eq_true rfl⟩) (b_preV (pp := 0) (q := 0) hW hp5 rfl mW_0 rfl) rfl rfl hl.1 rfl (lv_room (Nat.le_of_ble_eq_true rfl)) dX3_sleeps_10 ⟨Nat.le_of_ble_eq_true rfl, Nat.le_of_ble_eq_true rfl⟩) hW hp5 (fun _ _ H locs hW => ?_)
    have hW : bW D g A s H locs [mW g adM kM tM M] := hW
    refine lv_if_ne (tgt := 23) hx hb dX3_sleeps_13 (by decide) (fun c6 => ?_) (fun c6 => ?_)
    · have hf := o_f hf c6
      refine lv_aload_n hx hb dX3_sleeps_23 rfl (lv_at hl 0 rfl) ?_
      obtain ⟨M7, hc7, hf⟩ := o_b1s hf
      have hp7 : List.Perm [mW g adM kM tM M] ([mW g adM kM tM M] ++ []) := b_perm [0] [] 1 rfl rfl rfl rfl
      refine b_call0 ⟨rfl, rfl⟩ (va_runV (As := []) (rest := []) ⟨hx, hb, hml, hown, hts⟩ (m_X3_goThrough l D g H.size adM kM tM fu M M7 hc7) (cwV 0 hts (lw_V q1806 q1808 qs57 q79 q1809) rfl rfl rfl (by decide +kernel) ⟨Nat.le_of_ble_eq_true rfl, Nat.le_of_ble_eq_true rfl⟩) (b_preV (pp := 0) (q := 0) hW hp7 rfl mW_0 rfl) rfl rfl hl.1 rfl (lv_room (Nat.le_of_ble_eq_true rfl)) dX3_sleeps_24 ⟨Nat.le_of_ble_eq_true rfl, Nat.le_of_ble_eq_true rfl⟩) hW hp7 (fun _ _ H locs hW => ?_)
      have hW : bW D g A s H locs [mW g adM kM tM M7] := hW
      refine lv_aload_n hx hb dX3_sleeps_27 rfl (lv_at hl 0 rfl) ?_
      refine b_get hx hb hts in_X3 hown hW 0 0 3 25 rfl mW_0 rfl (by decide) ⟨rfl, rfl, rfl⟩ (hts _ q1484) mW_g25 dX3_sleeps_28 ?_
      refine lv_iload_n hx hb dX3_sleeps_31 rfl (lv_at hl 1 rfl) ?_
      obtain ⟨h8, hf⟩ := o_cs hf
      refine b_agrI hx hb hW 0 32 rfl mW_32 h8 dX3_sleeps_32 ?_
      refine lv_iload_n hx hb dX3_sleeps_33 rfl (lv_at hl 2 rfl) ?_
      obtain ⟨h9, hf⟩ := o_cs hf
      refine b_iald hx hb hW 0 (33 + ix x1) rfl (mW_r33 (inB_lt h8)) h9 dX3_sleeps_34 ?_
      cases hf
      exact b_iret hx hb hr hlk hE hW () rfl trivial rfl dX3_sleeps_35
    · have hf := o_t hf c6
      refine lv_aload_n hx hb dX3_sleeps_16 rfl (lv_at hl 0 rfl) ?_
      refine lv_bipush (v := (-2)) hx hb dX3_sleeps_17 (by decide) ?_
      obtain ⟨r10, M11, hc11, hf⟩ := o_b2s hf
      have hp11 : List.Perm [mW g adM kM tM M] ([mW g adM kM tM M] ++ []) := b_perm [0] [] 1 rfl rfl rfl rfl
      refine b_call0 ⟨rfl, rfl⟩ (va_runV (As := [.int (-2)]) (rest := []) ⟨hx, hb, hml, hown, hts⟩ (m_X3_refuse l D g H.size adM kM tM M (-2) r10 M11 hc11) (cwV 1 hts (lw_V q1572 q1574 qs33 q79 q1575) rfl rfl rfl (by decide +kernel) ⟨Nat.le_of_ble_eq_true rfl, Nat.le_of_ble_eq_true rfl⟩) (b_preV (pp := 0) (q := 0) hW hp11 rfl mW_0 rfl) rfl rfl hl.1 rfl (lv_room (Nat.le_of_ble_eq_true rfl)) dX3_sleeps_19 ⟨Nat.le_of_ble_eq_true rfl, Nat.le_of_ble_eq_true rfl⟩) hW hp11 (fun _ _ H locs hW => ?_)
      have hW : bW D g A s H locs [mW g adM kM tM M11] := hW
      cases hf
      exact b_iret hx hb hr hlk hE hW () rfl trivial rfl dX3_sleeps_22
def f_X3_headsIn_L4 (M : BC) (x1 : Int32) (rec1 : (Int32 × Int32) → Option Int32) : Int32 × Int32 → Option Int32
  | (v2, v3) =>
    (if (M.1 0 2) ≤ v3 then
     some v2
     else
     o_ck (inB v3 6) (o_ck (inB x1 6) (o_lt (v2 + (M.1 (33 + ix v3) (ix x1))) fun (v7 : Int32) =>
     o_lt (v3 + 1) fun (v8 : Int32) =>
     rec1 (v7, v8))))
def f_X3_headsIn (fu : Nat) (M : BC) (x1 : Int32) : Option Int32 :=
 o_lp (f_X3_headsIn_L4 M x1) fu (0, 0)
abbrev rm_X3_headsIn : Room := { frames := 0, cells := 0, slots := 0, locals := 0 }
set_option maxHeartbeats 4000000 in
set_option maxRecDepth 100000 in
theorem m_X3_headsIn (l : Launch) (D : va_G) (g : Nat → ClassId) (sz : Nat) (adM : Nat → Nat) (kM : Option Nat) (tM : Option Nat) (fu : Nat) (M : BC) (x1 : Int32) (rO : Int32) (hf : f_X3_headsIn fu M x1 = some rO) : bMet (S := Unit) l yX3_headsIn (ws_ yX3_headsIn cX3_headsIn 4 (some .int)) rm_X3_headsIn D g sz [.ref (adM 0), .int x1] [mW g adM kM tM M] (fun _ => True) (fun _ => some (.int rO)) (fun _ => [mW g adM kM tM M]) := by
  refine b_met (by decide) (Nat.le_of_ble_eq_true rfl) ?_
  intro p e s m args below meth c A Q ls hx hb hml hr hlk hown hname hts hE hl hW
  revert hW; generalize s.heap = H; intro hW
  have hl : lv_has ls 4 [(0, .ref (adM 0)), (1, .int x1)] := hl
  rw [f_X3_headsIn] at hf
  refine lv_iconst (v := 0) hx hb dX3_headsIn_0 (by decide) ?_
  refine lv_istore_n (lv' := [(2, .int 0), (0, .ref (adM 0)), (1, .int x1)]) hx hb dX3_headsIn_1 rfl hl (by decide) rfl (fun ls hl => ?_)
  refine lv_iconst (v := 0) hx hb dX3_headsIn_2 (by decide) ?_
  refine lv_istore_n (lv' := [(3, .int 0), (2, .int 0), (0, .ref (adM 0)), (1, .int x1)]) hx hb dX3_headsIn_3 rfl hl (by decide) rfl (fun ls hl => ?_)
  obtain ⟨stp1, est1, hf⟩ := o_ln hf
  have L1 : ∀ (n : Nat) (v2 : Int32) (v3 : Int32) (H : Heap) (locs : List Loc) (ls : Array Slot), bW D g A s H locs [mW g adM kM tM M] → lv_has ls 4 [(3, .int v3), (2, .int v2), (0, .ref (adM 0)), (1, .int x1)] → o_lp stp1 n (v2, v3) = some rO → W p l e rm_X3_headsIn s m args below meth c H locs 0 0 Q (F0 m 4 ls []) := by
    intro n1
    induction n1 with
    | zero => intro v2 v3 H locs ls hW hl hf; exact (o_lz hf).elim
    | succ n1 ih1 =>
      intro v2 v3 H locs ls hW hl hf
      have hf := o_lu est1 hf
      rw [f_X3_headsIn_L4] at hf
      refine lv_iload_n hx hb dX3_headsIn_4 rfl (lv_at hl 0 rfl) ?_
      refine lv_aload_n hx hb dX3_headsIn_5 rfl (lv_at hl 2 rfl) ?_
      refine b_get hx hb hts in_X3 hown hW 0 0 3 11 rfl mW_0 rfl (by decide) ⟨rfl, rfl, rfl⟩ (hts _ q1470) mW_g11 dX3_headsIn_6 ?_
      refine lv_icmp_ge (tgt := 29) hx hb dX3_headsIn_9 (by decide) (fun c4 => ?_) (fun c4 => ?_)
      · have hf := o_t hf c4
        refine lv_iload_n hx hb dX3_headsIn_29 rfl (lv_at hl 1 rfl) ?_
        cases hf
        exact b_iret hx hb hr hlk hE hW () rfl trivial rfl dX3_headsIn_30
      · have hf := o_f hf c4
        refine lv_iload_n hx hb dX3_headsIn_12 rfl (lv_at hl 1 rfl) ?_
        refine lv_aload_n hx hb dX3_headsIn_13 rfl (lv_at hl 2 rfl) ?_
        refine b_get hx hb hts in_X3 hown hW 0 0 3 25 rfl mW_0 rfl (by decide) ⟨rfl, rfl, rfl⟩ (hts _ q1484) mW_g25 dX3_headsIn_14 ?_
        refine lv_iload_n hx hb dX3_headsIn_17 rfl (lv_at hl 0 rfl) ?_
        obtain ⟨h5, hf⟩ := o_cs hf
        refine b_agrI hx hb hW 0 32 rfl mW_32 h5 dX3_headsIn_18 ?_
        refine lv_iload_n hx hb dX3_headsIn_19 rfl (lv_at hl 3 rfl) ?_
        obtain ⟨h6, hf⟩ := o_cs hf
        refine b_iald hx hb hW 0 (33 + ix v3) rfl (mW_r33 (inB_lt h5)) h6 dX3_headsIn_20 ?_
        refine lv_iadd hx hb dX3_headsIn_21 ?_
        obtain ⟨v7, ev7, hf⟩ := o_ls hf
        refine b_topi ev7 ?_
        refine lv_istore_n (lv' := [(2, .int v7), (3, .int v3), (0, .ref (adM 0)), (1, .int x1)]) hx hb dX3_headsIn_22 rfl hl (by decide) rfl (fun ls hl => ?_)
        obtain ⟨v8, ev8, hf⟩ := o_ls hf
        refine lv_iinc (v := v8) (lv' := [(3, .int v8), (2, .int v7), (0, .ref (adM 0)), (1, .int x1)]) hx hb dX3_headsIn_23 hl (k := 1) rfl ev8 (by decide) rfl (fun ls hl => ?_)
        refine lv_goto (tgt := 4) hx hb dX3_headsIn_26 (by decide) ?_
        exact ih1 _ _ _ _ _ hW (lv_sub hl [0, 1, 2, 3] rfl) hf
  exact L1 _ _ _ _ _ _ hW (lv_sub hl [0, 1, 2, 3] rfl) hf
def f_X3_guests (fu : Nat) (M : BC) (x1 : Int32) : Option (Int32 × BC) :=
 o_b1 (f_X3_isInn M x1) fun (r1 : Int32) =>
 (if r1 = 0 then
 o_b2 (f_X3_refuse M (-2)) fun (r5 : Int32) (M6 : BC) =>
 some (r5, M6)
 else
 o_b1 (f_X3_goThrough fu M) fun (M3 : BC) =>
 o_b1 (f_X3_headsIn fu M3 x1) fun (r4 : Int32) =>
 some (r4, M3))
abbrev rm_X3_guests : Room := { frames := 4, cells := 0, slots := 0, locals := 95 }
set_option maxHeartbeats 4000000 in
set_option maxRecDepth 100000 in
theorem m_X3_guests (l : Launch) (D : va_G) (g : Nat → ClassId) (sz : Nat) (adM : Nat → Nat) (kM : Option Nat) (tM : Option Nat) (fu : Nat) (M : BC) (x1 : Int32) (rO : Int32) (MO : BC) (hf : f_X3_guests fu M x1 = some (rO, MO)) : bMet (S := Unit) l yX3_guests (ws_ yX3_guests cX3_guests 2 (some .int)) rm_X3_guests D g sz [.ref (adM 0), .int x1] [mW g adM kM tM M] (fun _ => True) (fun _ => some (.int rO)) (fun _ => [mW g adM kM tM MO]) := by
  refine b_met (by decide) (Nat.le_of_ble_eq_true rfl) ?_
  intro p e s m args below meth c A Q ls hx hb hml hr hlk hown hname hts hE hl hW
  revert hW; generalize s.heap = H; intro hW
  have hl : lv_has ls 2 [(0, .ref (adM 0)), (1, .int x1)] := hl
  rw [f_X3_guests] at hf
  refine lv_aload_n hx hb dX3_guests_0 rfl (lv_at hl 0 rfl) ?_
  refine lv_iload_n hx hb dX3_guests_1 rfl (lv_at hl 1 rfl) ?_
  obtain ⟨r1, hc1, hf⟩ := o_b1s hf
  have hp1 : List.Perm [mW g adM kM tM M] ([mW g adM kM tM M] ++ []) := b_perm [0] [] 1 rfl rfl rfl rfl
  refine b_call0 ⟨rfl, rfl⟩ (va_runV (As := [.int x1]) (rest := []) ⟨hx, hb, hml, hown, hts⟩ (m_X3_isInn l D g H.size adM kM tM M x1 r1 hc1) (cwV 1 hts (lw_V q1651 q1653 qs41 q79 q1654) rfl rfl rfl (by decide +kernel) ⟨Nat.le_of_ble_eq_true rfl, Nat.le_of_ble_eq_true rfl⟩) (b_preV (pp := 0) (q := 0) hW hp1 rfl mW_0 rfl) rfl rfl hl.1 rfl (lv_room (Nat.le_of_ble_eq_true rfl)) dX3_guests_2 ⟨Nat.le_of_ble_eq_true rfl, Nat.le_of_ble_eq_true rfl⟩) hW hp1 (fun _ _ H locs hW => ?_)
  have hW : bW D g A s H locs [mW g adM kM tM M] := hW
  refine lv_if_ne (tgt := 15) hx hb dX3_guests_5 (by decide) (fun c2 => ?_) (fun c2 => ?_)
  · have hf := o_f hf c2
    refine lv_aload_n hx hb dX3_guests_15 rfl (lv_at hl 0 rfl) ?_
    obtain ⟨M3, hc3, hf⟩ := o_b1s hf
    have hp3 : List.Perm [mW g adM kM tM M] ([mW g adM kM tM M] ++ []) := b_perm [0] [] 1 rfl rfl rfl rfl
    refine b_call0 ⟨rfl, rfl⟩ (va_runV (As := []) (rest := []) ⟨hx, hb, hml, hown, hts⟩ (m_X3_goThrough l D g H.size adM kM tM fu M M3 hc3) (cwV 0 hts (lw_V q1806 q1808 qs57 q79 q1809) rfl rfl rfl (by decide +kernel) ⟨Nat.le_of_ble_eq_true rfl, Nat.le_of_ble_eq_true rfl⟩) (b_preV (pp := 0) (q := 0) hW hp3 rfl mW_0 rfl) rfl rfl hl.1 rfl (lv_room (Nat.le_of_ble_eq_true rfl)) dX3_guests_16 ⟨Nat.le_of_ble_eq_true rfl, Nat.le_of_ble_eq_true rfl⟩) hW hp3 (fun _ _ H locs hW => ?_)
    have hW : bW D g A s H locs [mW g adM kM tM M3] := hW
    refine lv_aload_n hx hb dX3_guests_19 rfl (lv_at hl 0 rfl) ?_
    refine lv_iload_n hx hb dX3_guests_20 rfl (lv_at hl 1 rfl) ?_
    obtain ⟨r4, hc4, hf⟩ := o_b1s hf
    have hp4 : List.Perm [mW g adM kM tM M3] ([mW g adM kM tM M3] ++ []) := b_perm [0] [] 1 rfl rfl rfl rfl
    refine b_call0 ⟨rfl, rfl⟩ (va_runV (As := [.int x1]) (rest := []) ⟨hx, hb, hml, hown, hts⟩ (m_X3_headsIn l D g H.size adM kM tM fu M3 x1 r4 hc4) (cwV 1 hts (lw_V q1822 q1824 qs60 q79 q1825) rfl rfl rfl (by decide +kernel) ⟨Nat.le_of_ble_eq_true rfl, Nat.le_of_ble_eq_true rfl⟩) (b_preV (pp := 0) (q := 0) hW hp4 rfl mW_0 rfl) rfl rfl hl.1 rfl (lv_room (Nat.le_of_ble_eq_true rfl)) dX3_guests_21 ⟨Nat.le_of_ble_eq_true rfl, Nat.le_of_ble_eq_true rfl⟩) hW hp4 (fun _ _ H locs hW => ?_)
    have hW : bW D g A s H locs [mW g adM kM tM M3] := hW
    cases hf
    exact b_iret hx hb hr hlk hE hW () rfl trivial rfl dX3_guests_24
  · have hf := o_t hf c2
    refine lv_aload_n hx hb dX3_guests_8 rfl (lv_at hl 0 rfl) ?_
    refine lv_bipush (v := (-2)) hx hb dX3_guests_9 (by decide) ?_
    obtain ⟨r5, M6, hc6, hf⟩ := o_b2s hf
    have hp6 : List.Perm [mW g adM kM tM M] ([mW g adM kM tM M] ++ []) := b_perm [0] [] 1 rfl rfl rfl rfl
    refine b_call0 ⟨rfl, rfl⟩ (va_runV (As := [.int (-2)]) (rest := []) ⟨hx, hb, hml, hown, hts⟩ (m_X3_refuse l D g H.size adM kM tM M (-2) r5 M6 hc6) (cwV 1 hts (lw_V q1572 q1574 qs33 q79 q1575) rfl rfl rfl (by decide +kernel) ⟨Nat.le_of_ble_eq_true rfl, Nat.le_of_ble_eq_true rfl⟩) (b_preV (pp := 0) (q := 0) hW hp6 rfl mW_0 rfl) rfl rfl hl.1 rfl (lv_room (Nat.le_of_ble_eq_true rfl)) dX3_guests_11 ⟨Nat.le_of_ble_eq_true rfl, Nat.le_of_ble_eq_true rfl⟩) hW hp6 (fun _ _ H locs hW => ?_)
    have hW : bW D g A s H locs [mW g adM kM tM M6] := hW
    cases hf
    exact b_iret hx hb hr hlk hE hW () rfl trivial rfl dX3_guests_14
def f_X3_out_L28 (x1 : Int32) (M2 : BC) (rec3 : (Int32 × Int32) → Option (Int32 × BC)) : Int32 × Int32 → Option (Int32 × BC)
  | (v4, v5) =>
    (if (M2.1 0 2) ≤ v5 then
     some (v4, M2)
     else
     (if x1 = (-1) then
     o_ck (inB v5 6) (o_lt (v4 + (M2.1 39 (ix v5))) fun (v9 : Int32) =>
     o_lt (v5 + 1) fun (v10 : Int32) =>
     rec3 (v9, v10))
     else
     (if v5 = x1 then
     o_ck (inB v5 6) (o_lt (v4 + (M2.1 39 (ix v5))) fun (v15 : Int32) =>
     o_lt (v5 + 1) fun (v16 : Int32) =>
     rec3 (v15, v16))
     else
     o_lt (v4 + 0) fun (v12 : Int32) =>
     o_lt (v5 + 1) fun (v13 : Int32) =>
     rec3 (v12, v13))))
def f_X3_out_L28_20 (x1 : Int32) (M19 : BC) (rec20 : (Int32 × Int32) → Option (Int32 × BC)) : Int32 × Int32 → Option (Int32 × BC)
  | (v21, v22) =>
    (if (M19.1 0 2) ≤ v22 then
     some (v21, M19)
     else
     (if x1 = (-1) then
     o_ck (inB v22 6) (o_lt (v21 + (M19.1 39 (ix v22))) fun (v26 : Int32) =>
     o_lt (v22 + 1) fun (v27 : Int32) =>
     rec20 (v26, v27))
     else
     (if v22 = x1 then
     o_ck (inB v22 6) (o_lt (v21 + (M19.1 39 (ix v22))) fun (v32 : Int32) =>
     o_lt (v22 + 1) fun (v33 : Int32) =>
     rec20 (v32, v33))
     else
     o_lt (v21 + 0) fun (v29 : Int32) =>
     o_lt (v22 + 1) fun (v30 : Int32) =>
     rec20 (v29, v30))))
def f_X3_out (fu : Nat) (M : BC) (x1 : Int32) : Option (Int32 × BC) :=
 (if x1 = (-1) then
 o_b1 (f_X3_goThrough fu M) fun (M2 : BC) =>
 o_lp (f_X3_out_L28 x1 M2) fu (0, 0)
 else
 o_b1 (f_X3_isGoer M x1) fun (r17 : Int32) =>
 (if r17 = 0 then
 o_b2 (f_X3_refuse M (-2)) fun (r34 : Int32) (M35 : BC) =>
 some (r34, M35)
 else
 o_b1 (f_X3_goThrough fu M) fun (M19 : BC) =>
 o_lp (f_X3_out_L28_20 x1 M19) fu (0, 0)))
abbrev rm_X3_out : Room := { frames := 4, cells := 0, slots := 0, locals := 95 }
set_option maxHeartbeats 4000000 in
set_option maxRecDepth 100000 in
theorem m_X3_out (l : Launch) (D : va_G) (g : Nat → ClassId) (sz : Nat) (adM : Nat → Nat) (kM : Option Nat) (tM : Option Nat) (fu : Nat) (M : BC) (x1 : Int32) (rO : Int32) (MO : BC) (hf : f_X3_out fu M x1 = some (rO, MO)) : bMet (S := Unit) l yX3_out (ws_ yX3_out cX3_out 4 (some .int)) rm_X3_out D g sz [.ref (adM 0), .int x1] [mW g adM kM tM M] (fun _ => True) (fun _ => some (.int rO)) (fun _ => [mW g adM kM tM MO]) := by
  refine b_met (by decide) (Nat.le_of_ble_eq_true rfl) ?_
  intro p e s m args below meth c A Q ls hx hb hml hr hlk hown hname hts hE hl hW
  revert hW; generalize s.heap = H; intro hW
  have hl : lv_has ls 4 [(0, .ref (adM 0)), (1, .int x1)] := hl
  rw [f_X3_out] at hf
  refine lv_iload_n hx hb dX3_out_0 rfl (lv_at hl 1 rfl) ?_
  refine lv_iconst (v := (-1)) hx hb dX3_out_1 (by decide) ?_
  refine lv_icmp_eq (tgt := 20) hx hb dX3_out_2 (by decide) (fun c1 => ?_) (fun c1 => ?_)
  · have hf := o_t hf c1
    refine lv_aload_n hx hb dX3_out_20 rfl (lv_at hl 0 rfl) ?_
    obtain ⟨M2, hc2, hf⟩ := o_b1s hf
    have hp2 : List.Perm [mW g adM kM tM M] ([mW g adM kM tM M] ++ []) := b_perm [0] [] 1 rfl rfl rfl rfl
    refine b_call0 ⟨rfl, rfl⟩ (va_runV (As := []) (rest := []) ⟨hx, hb, hml, hown, hts⟩ (m_X3_goThrough l D g H.size adM kM tM fu M M2 hc2) (cwV 0 hts (lw_V q1806 q1808 qs57 q79 q1809) rfl rfl rfl (by decide +kernel) ⟨Nat.le_of_ble_eq_true rfl, Nat.le_of_ble_eq_true rfl⟩) (b_preV (pp := 0) (q := 0) hW hp2 rfl mW_0 rfl) rfl rfl hl.1 rfl (lv_room (Nat.le_of_ble_eq_true rfl)) dX3_out_21 ⟨Nat.le_of_ble_eq_true rfl, Nat.le_of_ble_eq_true rfl⟩) hW hp2 (fun _ _ H locs hW => ?_)
    have hW : bW D g A s H locs [mW g adM kM tM M2] := hW
    refine lv_iconst (v := 0) hx hb dX3_out_24 (by decide) ?_
    refine lv_istore_n (lv' := [(2, .int 0), (0, .ref (adM 0)), (1, .int x1)]) hx hb dX3_out_25 rfl hl (by decide) rfl (fun ls hl => ?_)
    refine lv_iconst (v := 0) hx hb dX3_out_26 (by decide) ?_
    refine lv_istore_n (lv' := [(3, .int 0), (2, .int 0), (0, .ref (adM 0)), (1, .int x1)]) hx hb dX3_out_27 rfl hl (by decide) rfl (fun ls hl => ?_)
    obtain ⟨stp3, est3, hf⟩ := o_ln hf
    have L3 : ∀ (n : Nat) (v4 : Int32) (v5 : Int32) (H : Heap) (locs : List Loc) (ls : Array Slot), bW D g A s H locs [mW g adM kM tM M2] → lv_has ls 4 [(3, .int v5), (2, .int v4), (0, .ref (adM 0)), (1, .int x1)] → o_lp stp3 n (v4, v5) = some (rO, MO) → W p l e rm_X3_out s m args below meth c H locs 0 0 Q (F0 m 28 ls []) := by
      intro n3
      induction n3 with
      | zero => intro v4 v5 H locs ls hW hl hf; exact (o_lz hf).elim
      | succ n3 ih3 =>
        intro v4 v5 H locs ls hW hl hf
        have hf := o_lu est3 hf
        rw [f_X3_out_L28] at hf
        refine lv_iload_n hx hb dX3_out_28 rfl (lv_at hl 0 rfl) ?_
        refine lv_aload_n hx hb dX3_out_29 rfl (lv_at hl 2 rfl) ?_
        refine b_get hx hb hts in_X3 hown hW 0 0 3 11 rfl mW_0 rfl (by decide) ⟨rfl, rfl, rfl⟩ (hts _ q1470) mW_g11 dX3_out_30 ?_
        refine lv_icmp_ge (tgt := 65) hx hb dX3_out_33 (by decide) (fun c6 => ?_) (fun c6 => ?_)
        · have hf := o_t hf c6
          refine lv_iload_n hx hb dX3_out_65 rfl (lv_at hl 1 rfl) ?_
          cases hf
          exact b_iret hx hb hr hlk hE hW () rfl trivial rfl dX3_out_66
        · have hf := o_f hf c6
          refine lv_iload_n hx hb dX3_out_36 rfl (lv_at hl 1 rfl) ?_
          refine lv_iload_n hx hb dX3_out_37 rfl (lv_at hl 3 rfl) ?_
          refine lv_iconst (v := (-1)) hx hb dX3_out_38 (by decide) ?_
          refine lv_icmp_eq (tgt := 47) hx hb dX3_out_39 (by decide) (fun c7 => ?_) (fun c7 => ?_)
          · have hf := o_t hf c7
            refine lv_aload_n hx hb dX3_out_47 rfl (lv_at hl 2 rfl) ?_
            refine b_get hx hb hts in_X3 hown hW 0 0 3 26 rfl mW_0 rfl (by decide) ⟨rfl, rfl, rfl⟩ (hts _ q1485) mW_g26 dX3_out_48 ?_
            refine lv_iload_n hx hb dX3_out_51 rfl (lv_at hl 0 rfl) ?_
            obtain ⟨h8, hf⟩ := o_cs hf
            refine b_iald hx hb hW 0 39 rfl mW_39 h8 dX3_out_52 ?_
            refine lv_goto (tgt := 57) hx hb dX3_out_53 (by decide) ?_
            refine lv_iadd hx hb dX3_out_57 ?_
            obtain ⟨v9, ev9, hf⟩ := o_ls hf
            refine b_topi ev9 ?_
            refine lv_istore_n (lv' := [(2, .int v9), (3, .int v5), (0, .ref (adM 0)), (1, .int x1)]) hx hb dX3_out_58 rfl hl (by decide) rfl (fun ls hl => ?_)
            obtain ⟨v10, ev10, hf⟩ := o_ls hf
            refine lv_iinc (v := v10) (lv' := [(3, .int v10), (2, .int v9), (0, .ref (adM 0)), (1, .int x1)]) hx hb dX3_out_59 hl (k := 1) rfl ev10 (by decide) rfl (fun ls hl => ?_)
            refine lv_goto (tgt := 28) hx hb dX3_out_62 (by decide) ?_
            exact ih3 _ _ _ _ _ hW (lv_sub hl [0, 1, 2, 3] rfl) hf
          · have hf := o_f hf c7
            refine lv_iload_n hx hb dX3_out_42 rfl (lv_at hl 0 rfl) ?_
            refine lv_iload_n hx hb dX3_out_43 rfl (lv_at hl 3 rfl) ?_
            refine lv_icmp_ne (tgt := 56) hx hb dX3_out_44 (by decide) (fun c11 => ?_) (fun c11 => ?_)
            · have hf := o_f hf c11
              refine lv_iconst (v := 0) hx hb dX3_out_56 (by decide) ?_
              refine lv_iadd hx hb dX3_out_57 ?_
              obtain ⟨v12, ev12, hf⟩ := o_ls hf
              refine b_topi ev12 ?_
              refine lv_istore_n (lv' := [(2, .int v12), (3, .int v5), (0, .ref (adM 0)), (1, .int x1)]) hx hb dX3_out_58 rfl hl (by decide) rfl (fun ls hl => ?_)
              obtain ⟨v13, ev13, hf⟩ := o_ls hf
              refine lv_iinc (v := v13) (lv' := [(3, .int v13), (2, .int v12), (0, .ref (adM 0)), (1, .int x1)]) hx hb dX3_out_59 hl (k := 1) rfl ev13 (by decide) rfl (fun ls hl => ?_)
              refine lv_goto (tgt := 28) hx hb dX3_out_62 (by decide) ?_
              exact ih3 _ _ _ _ _ hW (lv_sub hl [0, 1, 2, 3] rfl) hf
            · have hf := o_t hf c11
              refine lv_aload_n hx hb dX3_out_47 rfl (lv_at hl 2 rfl) ?_
              refine b_get hx hb hts in_X3 hown hW 0 0 3 26 rfl mW_0 rfl (by decide) ⟨rfl, rfl, rfl⟩ (hts _ q1485) mW_g26 dX3_out_48 ?_
              refine lv_iload_n hx hb dX3_out_51 rfl (lv_at hl 0 rfl) ?_
              obtain ⟨h14, hf⟩ := o_cs hf
              refine b_iald hx hb hW 0 39 rfl mW_39 h14 dX3_out_52 ?_
              refine lv_goto (tgt := 57) hx hb dX3_out_53 (by decide) ?_
              refine lv_iadd hx hb dX3_out_57 ?_
              obtain ⟨v15, ev15, hf⟩ := o_ls hf
              refine b_topi ev15 ?_
              refine lv_istore_n (lv' := [(2, .int v15), (3, .int v5), (0, .ref (adM 0)), (1, .int x1)]) hx hb dX3_out_58 rfl hl (by decide) rfl (fun ls hl => ?_)
              obtain ⟨v16, ev16, hf⟩ := o_ls hf
              refine lv_iinc (v := v16) (lv' := [(3, .int v16), (2, .int v15), (0, .ref (adM 0)), (1, .int x1)]) hx hb dX3_out_59 hl (k := 1) rfl ev16 (by decide) rfl (fun ls hl => ?_)
              refine lv_goto (tgt := 28) hx hb dX3_out_62 (by decide) ?_
              exact ih3 _ _ _ _ _ hW (lv_sub hl [0, 1, 2, 3] rfl) hf
    exact L3 _ _ _ _ _ _ hW (lv_sub hl [0, 1, 2, 3] rfl) hf
  · have hf := o_f hf c1
    refine lv_aload_n hx hb dX3_out_5 rfl (lv_at hl 0 rfl) ?_
    refine lv_iload_n hx hb dX3_out_6 rfl (lv_at hl 1 rfl) ?_
    obtain ⟨r17, hc17, hf⟩ := o_b1s hf
    have hp17 : List.Perm [mW g adM kM tM M] ([mW g adM kM tM M] ++ []) := b_perm [0] [] 1 rfl rfl rfl rfl
    refine b_call0 ⟨rfl, rfl⟩ (va_runV (As := [.int x1]) (rest := []) ⟨hx, hb, hml, hown, hts⟩ (m_X3_isGoer l D g H.size adM kM tM M x1 r17 hc17) (cwV 1 hts (lw_V q1603 q1605 qs35 q79 q1606) rfl rfl rfl (by decide +kernel) ⟨Nat.le_of_ble_eq_true rfl, Nat.le_of_ble_eq_true rfl⟩) (b_preV (pp := 0) (q := 0) hW hp17 rfl mW_0 rfl) rfl rfl hl.1 rfl (lv_room (Nat.le_of_ble_eq_true rfl)) dX3_out_7 ⟨Nat.le_of_ble_eq_true rfl, Nat.le_of_ble_eq_true rfl⟩) hW hp17 (fun _ _ H locs hW => ?_)
    have hW : bW D g A s H locs [mW g adM kM tM M] := hW
    refine lv_if_ne (tgt := 20) hx hb dX3_out_10 (by decide) (fun c18 => ?_) (fun c18 => ?_)
    · have hf := o_f hf c18
      refine lv_aload_n hx hb dX3_out_20 rfl (lv_at hl 0 rfl) ?_
      obtain ⟨M19, hc19, hf⟩ := o_b1s hf
      have hp19 : List.Perm [mW g adM kM tM M] ([mW g adM kM tM M] ++ []) := b_perm [0] [] 1 rfl rfl rfl rfl
      refine b_call0 ⟨rfl, rfl⟩ (va_runV (As := []) (rest := []) ⟨hx, hb, hml, hown, hts⟩ (m_X3_goThrough l D g H.size adM kM tM fu M M19 hc19) (cwV 0 hts (lw_V q1806 q1808 qs57 q79 q1809) rfl rfl rfl (by decide +kernel) ⟨Nat.le_of_ble_eq_true rfl, Nat.le_of_ble_eq_true rfl⟩) (b_preV (pp := 0) (q := 0) hW hp19 rfl mW_0 rfl) rfl rfl hl.1 rfl (lv_room (Nat.le_of_ble_eq_true rfl)) dX3_out_21 ⟨Nat.le_of_ble_eq_true rfl, Nat.le_of_ble_eq_true rfl⟩) hW hp19 (fun _ _ H locs hW => ?_)
      have hW : bW D g A s H locs [mW g adM kM tM M19] := hW
      refine lv_iconst (v := 0) hx hb dX3_out_24 (by decide) ?_
      refine lv_istore_n (lv' := [(2, .int 0), (0, .ref (adM 0)), (1, .int x1)]) hx hb dX3_out_25 rfl hl (by decide) rfl (fun ls hl => ?_)
      refine lv_iconst (v := 0) hx hb dX3_out_26 (by decide) ?_
      refine lv_istore_n (lv' := [(3, .int 0), (2, .int 0), (0, .ref (adM 0)), (1, .int x1)]) hx hb dX3_out_27 rfl hl (by decide) rfl (fun ls hl => ?_)
      obtain ⟨stp20, est20, hf⟩ := o_ln hf
      have L20 : ∀ (n : Nat) (v21 : Int32) (v22 : Int32) (H : Heap) (locs : List Loc) (ls : Array Slot), bW D g A s H locs [mW g adM kM tM M19] → lv_has ls 4 [(3, .int v22), (2, .int v21), (0, .ref (adM 0)), (1, .int x1)] → o_lp stp20 n (v21, v22) = some (rO, MO) → W p l e rm_X3_out s m args below meth c H locs 0 0 Q (F0 m 28 ls []) := by
        intro n20
        induction n20 with
        | zero => intro v21 v22 H locs ls hW hl hf; exact (o_lz hf).elim
        | succ n20 ih20 =>
          intro v21 v22 H locs ls hW hl hf
          have hf := o_lu est20 hf
          rw [f_X3_out_L28_20] at hf
          refine lv_iload_n hx hb dX3_out_28 rfl (lv_at hl 0 rfl) ?_
          refine lv_aload_n hx hb dX3_out_29 rfl (lv_at hl 2 rfl) ?_
          refine b_get hx hb hts in_X3 hown hW 0 0 3 11 rfl mW_0 rfl (by decide) ⟨rfl, rfl, rfl⟩ (hts _ q1470) mW_g11 dX3_out_30 ?_
          refine lv_icmp_ge (tgt := 65) hx hb dX3_out_33 (by decide) (fun c23 => ?_) (fun c23 => ?_)
          · have hf := o_t hf c23
            refine lv_iload_n hx hb dX3_out_65 rfl (lv_at hl 1 rfl) ?_
            cases hf
            exact b_iret hx hb hr hlk hE hW () rfl trivial rfl dX3_out_66
          · have hf := o_f hf c23
            refine lv_iload_n hx hb dX3_out_36 rfl (lv_at hl 1 rfl) ?_
            refine lv_iload_n hx hb dX3_out_37 rfl (lv_at hl 3 rfl) ?_
            refine lv_iconst (v := (-1)) hx hb dX3_out_38 (by decide) ?_
            refine lv_icmp_eq (tgt := 47) hx hb dX3_out_39 (by decide) (fun c24 => ?_) (fun c24 => ?_)
            · have hf := o_t hf c24
              refine lv_aload_n hx hb dX3_out_47 rfl (lv_at hl 2 rfl) ?_
              refine b_get hx hb hts in_X3 hown hW 0 0 3 26 rfl mW_0 rfl (by decide) ⟨rfl, rfl, rfl⟩ (hts _ q1485) mW_g26 dX3_out_48 ?_
              refine lv_iload_n hx hb dX3_out_51 rfl (lv_at hl 0 rfl) ?_
              obtain ⟨h25, hf⟩ := o_cs hf
              refine b_iald hx hb hW 0 39 rfl mW_39 h25 dX3_out_52 ?_
              refine lv_goto (tgt := 57) hx hb dX3_out_53 (by decide) ?_
              refine lv_iadd hx hb dX3_out_57 ?_
              obtain ⟨v26, ev26, hf⟩ := o_ls hf
              refine b_topi ev26 ?_
              refine lv_istore_n (lv' := [(2, .int v26), (3, .int v22), (0, .ref (adM 0)), (1, .int x1)]) hx hb dX3_out_58 rfl hl (by decide) rfl (fun ls hl => ?_)
              obtain ⟨v27, ev27, hf⟩ := o_ls hf
              refine lv_iinc (v := v27) (lv' := [(3, .int v27), (2, .int v26), (0, .ref (adM 0)), (1, .int x1)]) hx hb dX3_out_59 hl (k := 1) rfl ev27 (by decide) rfl (fun ls hl => ?_)
              refine lv_goto (tgt := 28) hx hb dX3_out_62 (by decide) ?_
              exact ih20 _ _ _ _ _ hW (lv_sub hl [0, 1, 2, 3] rfl) hf
            · have hf := o_f hf c24
              refine lv_iload_n hx hb dX3_out_42 rfl (lv_at hl 0 rfl) ?_
              refine lv_iload_n hx hb dX3_out_43 rfl (lv_at hl 3 rfl) ?_
              refine lv_icmp_ne (tgt := 56) hx hb dX3_out_44 (by decide) (fun c28 => ?_) (fun c28 => ?_)
              · have hf := o_f hf c28
                refine lv_iconst (v := 0) hx hb dX3_out_56 (by decide) ?_
                refine lv_iadd hx hb dX3_out_57 ?_
                obtain ⟨v29, ev29, hf⟩ := o_ls hf
                refine b_topi ev29 ?_
                refine lv_istore_n (lv' := [(2, .int v29), (3, .int v22), (0, .ref (adM 0)), (1, .int x1)]) hx hb dX3_out_58 rfl hl (by decide) rfl (fun ls hl => ?_)
                obtain ⟨v30, ev30, hf⟩ := o_ls hf
                refine lv_iinc (v := v30) (lv' := [(3, .int v30), (2, .int v29), (0, .ref (adM 0)), (1, .int x1)]) hx hb dX3_out_59 hl (k := 1) rfl ev30 (by decide) rfl (fun ls hl => ?_)
                refine lv_goto (tgt := 28) hx hb dX3_out_62 (by decide) ?_
                exact ih20 _ _ _ _ _ hW (lv_sub hl [0, 1, 2, 3] rfl) hf
              · have hf := o_t hf c28
                refine lv_aload_n hx hb dX3_out_47 rfl (lv_at hl 2 rfl) ?_
                refine b_get hx hb hts in_X3 hown hW 0 0 3 26 rfl mW_0 rfl (by decide) ⟨rfl, rfl, rfl⟩ (hts _ q1485) mW_g26 dX3_out_48 ?_
                refine lv_iload_n hx hb dX3_out_51 rfl (lv_at hl 0 rfl) ?_
                obtain ⟨h31, hf⟩ := o_cs hf
                refine b_iald hx hb hW 0 39 rfl mW_39 h31 dX3_out_52 ?_
                refine lv_goto (tgt := 57) hx hb dX3_out_53 (by decide) ?_
                refine lv_iadd hx hb dX3_out_57 ?_
                obtain ⟨v32, ev32, hf⟩ := o_ls hf
                refine b_topi ev32 ?_
                refine lv_istore_n (lv' := [(2, .int v32), (3, .int v22), (0, .ref (adM 0)), (1, .int x1)]) hx hb dX3_out_58 rfl hl (by decide) rfl (fun ls hl => ?_)
                obtain ⟨v33, ev33, hf⟩ := o_ls hf
                refine lv_iinc (v := v33) (lv' := [(3, .int v33), (2, .int v32), (0, .ref (adM 0)), (1, .int x1)]) hx hb dX3_out_59 hl (k := 1) rfl ev33 (by decide) rfl (fun ls hl => ?_)
                refine lv_goto (tgt := 28) hx hb dX3_out_62 (by decide) ?_
                exact ih20 _ _ _ _ _ hW (lv_sub hl [0, 1, 2, 3] rfl) hf
      exact L20 _ _ _ _ _ _ hW (lv_sub hl [0, 1, 2, 3] rfl) hf
    · have hf := o_t hf c18
      refine lv_aload_n hx hb dX3_out_13 rfl (lv_at hl 0 rfl) ?_
      refine lv_bipush (v := (-2)) hx hb dX3_out_14 (by decide) ?_
      obtain ⟨r34, M35, hc35, hf⟩ := o_b2s hf
      have hp35 : List.Perm [mW g adM kM tM M] ([mW g adM kM tM M] ++ []) := b_perm [0] [] 1 rfl rfl rfl rfl
      refine b_call0 ⟨rfl, rfl⟩ (va_runV (As := [.int (-2)]) (rest := []) ⟨hx, hb, hml, hown, hts⟩ (m_X3_refuse l D g H.size adM kM tM M (-2) r34 M35 hc35) (cwV 1 hts (lw_V q1572 q1574 qs33 q79 q1575) rfl rfl rfl (by decide +kernel) ⟨Nat.le_of_ble_eq_true rfl, Nat.le_of_ble_eq_true rfl⟩) (b_preV (pp := 0) (q := 0) hW hp35 rfl mW_0 rfl) rfl rfl hl.1 rfl (lv_room (Nat.le_of_ble_eq_true rfl)) dX3_out_16 ⟨Nat.le_of_ble_eq_true rfl, Nat.le_of_ble_eq_true rfl⟩) hW hp35 (fun _ _ H locs hW => ?_)
      have hW : bW D g A s H locs [mW g adM kM tM M35] := hW
      cases hf
      exact b_iret hx hb hr hlk hE hW () rfl trivial rfl dX3_out_19
def f_X3_full_L8 (M1 : BC) (rec2 : (Int32 × Int32) → Option (Int32 × BC)) : Int32 × Int32 → Option (Int32 × BC)
  | (v3, v4) =>
    (if (M1.1 0 1) ≤ v4 then
     some (v3, M1)
     else
     o_ck (inB v4 6) ((if (M1.1 40 (ix v4)) = 0 then
     o_lt (v3 ||| (1 <<< (v4 &&& 31))) fun (v10 : Int32) =>
     o_lt (v4 + 1) fun (v11 : Int32) =>
     rec2 (v10, v11)
     else
     o_lt (v3 ||| 0) fun (v8 : Int32) =>
     o_lt (v4 + 1) fun (v9 : Int32) =>
     rec2 (v8, v9))))
def f_X3_full (fu : Nat) (M : BC) : Option (Int32 × BC) :=
 o_b1 (f_X3_goThrough fu M) fun (M1 : BC) =>
 o_lp (f_X3_full_L8 M1) fu (0, 0)
abbrev rm_X3_full : Room := { frames := 4, cells := 0, slots := 0, locals := 95 }
set_option maxHeartbeats 4000000 in
set_option maxRecDepth 100000 in
theorem m_X3_full (l : Launch) (D : va_G) (g : Nat → ClassId) (sz : Nat) (adM : Nat → Nat) (kM : Option Nat) (tM : Option Nat) (fu : Nat) (M : BC) (rO : Int32) (MO : BC) (hf : f_X3_full fu M = some (rO, MO)) : bMet (S := Unit) l yX3_full (ws_ yX3_full cX3_full 3 (some .int)) rm_X3_full D g sz [.ref (adM 0)] [mW g adM kM tM M] (fun _ => True) (fun _ => some (.int rO)) (fun _ => [mW g adM kM tM MO]) := by
  refine b_met (by decide) (Nat.le_of_ble_eq_true rfl) ?_
  intro p e s m args below meth c A Q ls hx hb hml hr hlk hown hname hts hE hl hW
  revert hW; generalize s.heap = H; intro hW
  have hl : lv_has ls 3 [(0, .ref (adM 0))] := hl
  rw [f_X3_full] at hf
  refine lv_aload_n hx hb dX3_full_0 rfl (lv_at hl 0 rfl) ?_
  obtain ⟨M1, hc1, hf⟩ := o_b1s hf
  have hp1 : List.Perm [mW g adM kM tM M] ([mW g adM kM tM M] ++ []) := b_perm [0] [] 1 rfl rfl rfl rfl
  refine b_call0 ⟨rfl, rfl⟩ (va_runV (As := []) (rest := []) ⟨hx, hb, hml, hown, hts⟩ (m_X3_goThrough l D g H.size adM kM tM fu M M1 hc1) (cwV 0 hts (lw_V q1806 q1808 qs57 q79 q1809) rfl rfl rfl (by decide +kernel) ⟨Nat.le_of_ble_eq_true rfl, Nat.le_of_ble_eq_true rfl⟩) (b_preV (pp := 0) (q := 0) hW hp1 rfl mW_0 rfl) rfl rfl hl.1 rfl (lv_room (Nat.le_of_ble_eq_true rfl)) dX3_full_1 ⟨Nat.le_of_ble_eq_true rfl, Nat.le_of_ble_eq_true rfl⟩) hW hp1 (fun _ _ H locs hW => ?_)
  have hW : bW D g A s H locs [mW g adM kM tM M1] := hW
  refine lv_iconst (v := 0) hx hb dX3_full_4 (by decide) ?_
  refine lv_istore_n (lv' := [(1, .int 0), (0, .ref (adM 0))]) hx hb dX3_full_5 rfl hl (by decide) rfl (fun ls hl => ?_)
  refine lv_iconst (v := 0) hx hb dX3_full_6 (by decide) ?_
  refine lv_istore_n (lv' := [(2, .int 0), (1, .int 0), (0, .ref (adM 0))]) hx hb dX3_full_7 rfl hl (by decide) rfl (fun ls hl => ?_)
  obtain ⟨stp2, est2, hf⟩ := o_ln hf
  have L2 : ∀ (n : Nat) (v3 : Int32) (v4 : Int32) (H : Heap) (locs : List Loc) (ls : Array Slot), bW D g A s H locs [mW g adM kM tM M1] → lv_has ls 3 [(2, .int v4), (1, .int v3), (0, .ref (adM 0))] → o_lp stp2 n (v3, v4) = some (rO, MO) → W p l e rm_X3_full s m args below meth c H locs 0 0 Q (F0 m 8 ls []) := by
    intro n2
    induction n2 with
    | zero => intro v3 v4 H locs ls hW hl hf; exact (o_lz hf).elim
    | succ n2 ih2 =>
      intro v3 v4 H locs ls hW hl hf
      have hf := o_lu est2 hf
      rw [f_X3_full_L8] at hf
      refine lv_iload_n hx hb dX3_full_8 rfl (lv_at hl 0 rfl) ?_
      refine lv_aload_n hx hb dX3_full_9 rfl (lv_at hl 2 rfl) ?_
      refine b_get hx hb hts in_X3 hown hW 0 0 3 9 rfl mW_0 rfl (by decide) ⟨rfl, rfl, rfl⟩ (hts _ q1468) mW_g9 dX3_full_10 ?_
      refine lv_icmp_ge (tgt := 41) hx hb dX3_full_13 (by decide) (fun c5 => ?_) (fun c5 => ?_)
      · have hf := o_t hf c5
        refine lv_iload_n hx hb dX3_full_41 rfl (lv_at hl 1 rfl) ?_
        cases hf
        exact b_iret hx hb hr hlk hE hW () rfl trivial rfl dX3_full_42
      · have hf := o_f hf c5
        refine lv_iload_n hx hb dX3_full_16 rfl (lv_at hl 1 rfl) ?_
        refine lv_aload_n hx hb dX3_full_17 rfl (lv_at hl 2 rfl) ?_
        refine b_get hx hb hts in_X3 hown hW 0 0 3 27 rfl mW_0 rfl (by decide) ⟨rfl, rfl, rfl⟩ (hts _ q1486) mW_g27 dX3_full_18 ?_
        refine lv_iload_n hx hb dX3_full_21 rfl (lv_at hl 0 rfl) ?_
        obtain ⟨h6, hf⟩ := o_cs hf
        refine b_iald hx hb hW 0 40 rfl mW_40 h6 dX3_full_22 ?_
        refine lv_if_ne (tgt := 32) hx hb dX3_full_23 (by decide) (fun c7 => ?_) (fun c7 => ?_)
        · have hf := o_f hf c7
          refine lv_iconst (v := 0) hx hb dX3_full_32 (by decide) ?_
          refine lv_ior hx hb dX3_full_33 ?_
          obtain ⟨v8, ev8, hf⟩ := o_ls hf
          refine b_topi ev8 ?_
          refine lv_istore_n (lv' := [(1, .int v8), (2, .int v4), (0, .ref (adM 0))]) hx hb dX3_full_34 rfl hl (by decide) rfl (fun ls hl => ?_)
          obtain ⟨v9, ev9, hf⟩ := o_ls hf
          refine lv_iinc (v := v9) (lv' := [(2, .int v9), (1, .int v8), (0, .ref (adM 0))]) hx hb dX3_full_35 hl (k := 1) rfl ev9 (by decide) rfl (fun ls hl => ?_)
          refine lv_goto (tgt := 8) hx hb dX3_full_38 (by decide) ?_
          exact ih2 _ _ _ _ _ hW (lv_sub hl [0, 1, 2] rfl) hf
        · have hf := o_t hf c7
          refine lv_iconst (v := 1) hx hb dX3_full_26 (by decide) ?_
          refine lv_iload_n hx hb dX3_full_27 rfl (lv_at hl 0 rfl) ?_
          refine lv_ishl hx hb dX3_full_28 ?_
          refine lv_goto (tgt := 33) hx hb dX3_full_29 (by decide) ?_
          refine lv_ior hx hb dX3_full_33 ?_
          obtain ⟨v10, ev10, hf⟩ := o_ls hf
          refine b_topi ev10 ?_
          refine lv_istore_n (lv' := [(1, .int v10), (2, .int v4), (0, .ref (adM 0))]) hx hb dX3_full_34 rfl hl (by decide) rfl (fun ls hl => ?_)
          obtain ⟨v11, ev11, hf⟩ := o_ls hf
          refine lv_iinc (v := v11) (lv' := [(2, .int v11), (1, .int v10), (0, .ref (adM 0))]) hx hb dX3_full_35 hl (k := 1) rfl ev11 (by decide) rfl (fun ls hl => ?_)
          refine lv_goto (tgt := 8) hx hb dX3_full_38 (by decide) ?_
          exact ih2 _ _ _ _ _ hW (lv_sub hl [0, 1, 2] rfl) hf
  exact L2 _ _ _ _ _ _ hW (lv_sub hl [0, 1, 2] rfl) hf
def f_X3_joyOf_L12 (M : BC) (x1 : Int32) (rec3 : (Int32 × Int32) → Option Int32) : Int32 × Int32 → Option Int32
  | (v4, v5) =>
    (if (M.1 0 1) ≤ v5 then
     some v4
     else
     o_ck (inB v5 6) ((if (M.1 40 (ix v5)) = 0 then
     o_lt (v4 + ((M.1 (33 + ix x1) (ix v5)) * (((M.1 (18 + ix v5) (ix 0)) - (M.1 (18 + ix v5) (ix 3))) - 20))) fun (v11 : Int32) =>
     o_lt (v5 + 1) fun (v12 : Int32) =>
     rec3 (v11, v12)
     else
     o_lt (v4 + ((M.1 (33 + ix x1) (ix v5)) * (((M.1 (18 + ix v5) (ix 0)) - (M.1 (18 + ix v5) (ix 3))) - 0))) fun (v9 : Int32) =>
     o_lt (v5 + 1) fun (v10 : Int32) =>
     rec3 (v9, v10))))
def f_X3_joyOf (fu : Nat) (M : BC) (x1 : Int32) : Option Int32 :=
 o_ck (inB x1 6) (o_lt ((-30) * (M.1 39 (ix x1))) fun (v2 : Int32) =>
 o_lp (f_X3_joyOf_L12 M x1) fu (v2, 0))
abbrev rm_X3_joyOf : Room := { frames := 0, cells := 0, slots := 0, locals := 0 }
set_option maxHeartbeats 4000000 in
set_option maxRecDepth 100000 in
theorem m_X3_joyOf (l : Launch) (D : va_G) (g : Nat → ClassId) (sz : Nat) (adM : Nat → Nat) (kM : Option Nat) (tM : Option Nat) (fu : Nat) (M : BC) (x1 : Int32) (rO : Int32) (hf : f_X3_joyOf fu M x1 = some rO) : bMet (S := Unit) l yX3_joyOf (ws_ yX3_joyOf cX3_joyOf 4 (some .int)) rm_X3_joyOf D g sz [.ref (adM 0), .int x1] [mW g adM kM tM M] (fun _ => True) (fun _ => some (.int rO)) (fun _ => [mW g adM kM tM M]) := by
  refine b_met (by decide) (Nat.le_of_ble_eq_true rfl) ?_
  intro p e s m args below meth c A Q ls hx hb hml hr hlk hown hname hts hE hl hW
  revert hW; generalize s.heap = H; intro hW
  have hl : lv_has ls 4 [(0, .ref (adM 0)), (1, .int x1)] := hl
  rw [f_X3_joyOf] at hf
  refine lv_bipush (v := (-30)) hx hb dX3_joyOf_0 (by decide) ?_
  refine lv_aload_n hx hb dX3_joyOf_2 rfl (lv_at hl 0 rfl) ?_
  refine b_get hx hb hts in_X3 hown hW 0 0 3 26 rfl mW_0 rfl (by decide) ⟨rfl, rfl, rfl⟩ (hts _ q1485) mW_g26 dX3_joyOf_3 ?_
  refine lv_iload_n hx hb dX3_joyOf_6 rfl (lv_at hl 1 rfl) ?_
  obtain ⟨h1, hf⟩ := o_cs hf
  refine b_iald hx hb hW 0 39 rfl mW_39 h1 dX3_joyOf_7 ?_
  refine lv_imul hx hb dX3_joyOf_8 ?_
  obtain ⟨v2, ev2, hf⟩ := o_ls hf
  refine b_topi ev2 ?_
  refine lv_istore_n (lv' := [(2, .int v2), (0, .ref (adM 0)), (1, .int x1)]) hx hb dX3_joyOf_9 rfl hl (by decide) rfl (fun ls hl => ?_)
  refine lv_iconst (v := 0) hx hb dX3_joyOf_10 (by decide) ?_
  refine lv_istore_n (lv' := [(3, .int 0), (2, .int v2), (0, .ref (adM 0)), (1, .int x1)]) hx hb dX3_joyOf_11 rfl hl (by decide) rfl (fun ls hl => ?_)
  obtain ⟨stp3, est3, hf⟩ := o_ln hf
  have L3 : ∀ (n : Nat) (v4 : Int32) (v5 : Int32) (H : Heap) (locs : List Loc) (ls : Array Slot), bW D g A s H locs [mW g adM kM tM M] → lv_has ls 4 [(3, .int v5), (2, .int v4), (0, .ref (adM 0)), (1, .int x1)] → o_lp stp3 n (v4, v5) = some rO → W p l e rm_X3_joyOf s m args below meth c H locs 0 0 Q (F0 m 12 ls []) := by
    intro n3
    induction n3 with
    | zero => intro v4 v5 H locs ls hW hl hf; exact (o_lz hf).elim
    | succ n3 ih3 =>
      intro v4 v5 H locs ls hW hl hf
      have hf := o_lu est3 hf
      rw [f_X3_joyOf_L12] at hf
      refine lv_iload_n hx hb dX3_joyOf_12 rfl (lv_at hl 0 rfl) ?_
      refine lv_aload_n hx hb dX3_joyOf_13 rfl (lv_at hl 2 rfl) ?_
      refine b_get hx hb hts in_X3 hown hW 0 0 3 9 rfl mW_0 rfl (by decide) ⟨rfl, rfl, rfl⟩ (hts _ q1468) mW_g9 dX3_joyOf_14 ?_
      refine lv_icmp_ge (tgt := 71) hx hb dX3_joyOf_17 (by decide) (fun c6 => ?_) (fun c6 => ?_)
      · have hf := o_t hf c6
        refine lv_iload_n hx hb dX3_joyOf_71 rfl (lv_at hl 1 rfl) ?_
        cases hf
        exact b_iret hx hb hr hlk hE hW () rfl trivial rfl dX3_joyOf_72
      · have hf := o_f hf c6
        refine lv_iload_n hx hb dX3_joyOf_20 rfl (lv_at hl 1 rfl) ?_
        refine lv_aload_n hx hb dX3_joyOf_21 rfl (lv_at hl 2 rfl) ?_
        refine b_get hx hb hts in_X3 hown hW 0 0 3 25 rfl mW_0 rfl (by decide) ⟨rfl, rfl, rfl⟩ (hts _ q1484) mW_g25 dX3_joyOf_22 ?_
        refine lv_iload_n hx hb dX3_joyOf_25 rfl (lv_at hl 3 rfl) ?_
        refine b_agrI hx hb hW 0 32 rfl mW_32 h1 dX3_joyOf_26 ?_
        refine lv_iload_n hx hb dX3_joyOf_27 rfl (lv_at hl 0 rfl) ?_
        obtain ⟨h7, hf⟩ := o_cs hf
        refine b_iald hx hb hW 0 (33 + ix x1) rfl (mW_r33 (inB_lt h1)) h7 dX3_joyOf_28 ?_
        refine lv_aload_n hx hb dX3_joyOf_29 rfl (lv_at hl 2 rfl) ?_
        refine b_get hx hb hts in_X3 hown hW 0 0 3 10 rfl mW_0 rfl (by decide) ⟨rfl, rfl, rfl⟩ (hts _ q1469) mW_g10 dX3_joyOf_30 ?_
        refine lv_iload_n hx hb dX3_joyOf_33 rfl (lv_at hl 0 rfl) ?_
        refine b_agrI hx hb hW 0 17 rfl mW_17 h7 dX3_joyOf_34 ?_
        refine lv_iconst (v := 0) hx hb dX3_joyOf_35 (by decide) ?_
        refine b_iald hx hb hW 0 (18 + ix v5) rfl (mW_r18 (inB_lt h7)) (by decide) dX3_joyOf_36 ?_
        refine lv_aload_n hx hb dX3_joyOf_37 rfl (lv_at hl 2 rfl) ?_
        refine b_get hx hb hts in_X3 hown hW 0 0 3 10 rfl mW_0 rfl (by decide) ⟨rfl, rfl, rfl⟩ (hts _ q1469) mW_g10 dX3_joyOf_38 ?_
        refine lv_iload_n hx hb dX3_joyOf_41 rfl (lv_at hl 0 rfl) ?_
        refine b_agrI hx hb hW 0 17 rfl mW_17 h7 dX3_joyOf_42 ?_
        refine lv_iconst (v := 3) hx hb dX3_joyOf_43 (by decide) ?_
        refine b_iald hx hb hW 0 (18 + ix v5) rfl (mW_r18 (inB_lt h7)) (by decide) dX3_joyOf_44 ?_
        refine lv_isub hx hb dX3_joyOf_45 ?_
        refine lv_aload_n hx hb dX3_joyOf_46 rfl (lv_at hl 2 rfl) ?_
        refine b_get hx hb hts in_X3 hown hW 0 0 3 27 rfl mW_0 rfl (by decide) ⟨rfl, rfl, rfl⟩ (hts _ q1486) mW_g27 dX3_joyOf_47 ?_
        refine lv_iload_n hx hb dX3_joyOf_50 rfl (lv_at hl 0 rfl) ?_
        refine b_iald hx hb hW 0 40 rfl mW_40 h7 dX3_joyOf_51 ?_
        refine lv_if_ne (tgt := 60) hx hb dX3_joyOf_52 (by decide) (fun c8 => ?_) (fun c8 => ?_)
        · have hf := o_f hf c8
          refine lv_iconst (v := 0) hx hb dX3_joyOf_60 (by decide) ?_
          refine lv_isub hx hb dX3_joyOf_61 ?_
          refine lv_imul hx hb dX3_joyOf_62 ?_
          refine lv_iadd hx hb dX3_joyOf_63 ?_
          obtain ⟨v9, ev9, hf⟩ := o_ls hf
          refine b_topi ev9 ?_
          refine lv_istore_n (lv' := [(2, .int v9), (3, .int v5), (0, .ref (adM 0)), (1, .int x1)]) hx hb dX3_joyOf_64 rfl hl (by decide) rfl (fun ls hl => ?_)
          obtain ⟨v10, ev10, hf⟩ := o_ls hf
          refine lv_iinc (v := v10) (lv' := [(3, .int v10), (2, .int v9), (0, .ref (adM 0)), (1, .int x1)]) hx hb dX3_joyOf_65 hl (k := 1) rfl ev10 (by decide) rfl (fun ls hl => ?_)
          refine lv_goto (tgt := 12) hx hb dX3_joyOf_68 (by decide) ?_
          exact ih3 _ _ _ _ _ hW (lv_sub hl [0, 1, 2, 3] rfl) hf
        · have hf := o_t hf c8
          refine lv_bipush (v := 20) hx hb dX3_joyOf_55 (by decide) ?_
          refine lv_goto (tgt := 61) hx hb dX3_joyOf_57 (by decide) ?_
          refine lv_isub hx hb dX3_joyOf_61 ?_
          refine lv_imul hx hb dX3_joyOf_62 ?_
          refine lv_iadd hx hb dX3_joyOf_63 ?_
          obtain ⟨v11, ev11, hf⟩ := o_ls hf
          refine b_topi ev11 ?_
          refine lv_istore_n (lv' := [(2, .int v11), (3, .int v5), (0, .ref (adM 0)), (1, .int x1)]) hx hb dX3_joyOf_64 rfl hl (by decide) rfl (fun ls hl => ?_)
          obtain ⟨v12, ev12, hf⟩ := o_ls hf
          refine lv_iinc (v := v12) (lv' := [(3, .int v12), (2, .int v11), (0, .ref (adM 0)), (1, .int x1)]) hx hb dX3_joyOf_65 hl (k := 1) rfl ev12 (by decide) rfl (fun ls hl => ?_)
          refine lv_goto (tgt := 12) hx hb dX3_joyOf_68 (by decide) ?_
          exact ih3 _ _ _ _ _ hW (lv_sub hl [0, 1, 2, 3] rfl) hf
  exact L3 _ _ _ _ _ _ hW (lv_sub hl [0, 1, 2, 3] rfl) hf
def f_X3_joyBy_L4 (M : BC) (x1 : Int32) (fu : Nat) (rec1 : (Int32 × Int32) → Option Int32) : Int32 × Int32 → Option Int32
  | (v2, v3) =>
    (if (M.1 0 2) ≤ v3 then
     some v2
     else
     (if x1 = (-1) then
     o_b1 (f_X3_joyOf fu M v3) fun (r6 : Int32) =>
     o_lt (v2 + r6) fun (v7 : Int32) =>
     o_lt (v3 + 1) fun (v8 : Int32) =>
     rec1 (v7, v8)
     else
     (if v3 = x1 then
     o_b1 (f_X3_joyOf fu M v3) fun (r12 : Int32) =>
     o_lt (v2 + r12) fun (v13 : Int32) =>
     o_lt (v3 + 1) fun (v14 : Int32) =>
     rec1 (v13, v14)
     else
     o_lt (v2 + 0) fun (v10 : Int32) =>
     o_lt (v3 + 1) fun (v11 : Int32) =>
     rec1 (v10, v11))))
def f_X3_joyBy (fu : Nat) (M : BC) (x1 : Int32) : Option Int32 :=
 o_lp (f_X3_joyBy_L4 M x1 fu) fu (0, 0)
abbrev rm_X3_joyBy : Room := { frames := 1, cells := 0, slots := 0, locals := 23 }
set_option maxHeartbeats 4000000 in
set_option maxRecDepth 100000 in
theorem m_X3_joyBy (l : Launch) (D : va_G) (g : Nat → ClassId) (sz : Nat) (adM : Nat → Nat) (kM : Option Nat) (tM : Option Nat) (fu : Nat) (M : BC) (x1 : Int32) (rO : Int32) (hf : f_X3_joyBy fu M x1 = some rO) : bMet (S := Unit) l yX3_joyBy (ws_ yX3_joyBy cX3_joyBy 4 (some .int)) rm_X3_joyBy D g sz [.ref (adM 0), .int x1] [mW g adM kM tM M] (fun _ => True) (fun _ => some (.int rO)) (fun _ => [mW g adM kM tM M]) := by
  refine b_met (by decide) (Nat.le_of_ble_eq_true rfl) ?_
  intro p e s m args below meth c A Q ls hx hb hml hr hlk hown hname hts hE hl hW
  revert hW; generalize s.heap = H; intro hW
  have hl : lv_has ls 4 [(0, .ref (adM 0)), (1, .int x1)] := hl
  rw [f_X3_joyBy] at hf
  refine lv_iconst (v := 0) hx hb dX3_joyBy_0 (by decide) ?_
  refine lv_istore_n (lv' := [(2, .int 0), (0, .ref (adM 0)), (1, .int x1)]) hx hb dX3_joyBy_1 rfl hl (by decide) rfl (fun ls hl => ?_)
  refine lv_iconst (v := 0) hx hb dX3_joyBy_2 (by decide) ?_
  refine lv_istore_n (lv' := [(3, .int 0), (2, .int 0), (0, .ref (adM 0)), (1, .int x1)]) hx hb dX3_joyBy_3 rfl hl (by decide) rfl (fun ls hl => ?_)
  obtain ⟨stp1, est1, hf⟩ := o_ln hf
  have L1 : ∀ (n : Nat) (v2 : Int32) (v3 : Int32) (H : Heap) (locs : List Loc) (ls : Array Slot), bW D g A s H locs [mW g adM kM tM M] → lv_has ls 4 [(3, .int v3), (2, .int v2), (0, .ref (adM 0)), (1, .int x1)] → o_lp stp1 n (v2, v3) = some rO → W p l e rm_X3_joyBy s m args below meth c H locs 0 0 Q (F0 m 4 ls []) := by
    intro n1
    induction n1 with
    | zero => intro v2 v3 H locs ls hW hl hf; exact (o_lz hf).elim
    | succ n1 ih1 =>
      intro v2 v3 H locs ls hW hl hf
      have hf := o_lu est1 hf
      rw [f_X3_joyBy_L4] at hf
      refine lv_iload_n hx hb dX3_joyBy_4 rfl (lv_at hl 0 rfl) ?_
      refine lv_aload_n hx hb dX3_joyBy_5 rfl (lv_at hl 2 rfl) ?_
      refine b_get hx hb hts in_X3 hown hW 0 0 3 11 rfl mW_0 rfl (by decide) ⟨rfl, rfl, rfl⟩ (hts _ q1470) mW_g11 dX3_joyBy_6 ?_
      refine lv_icmp_ge (tgt := 40) hx hb dX3_joyBy_9 (by decide) (fun c4 => ?_) (fun c4 => ?_)
      · have hf := o_t hf c4
        refine lv_iload_n hx hb dX3_joyBy_40 rfl (lv_at hl 1 rfl) ?_
        cases hf
        exact b_iret hx hb hr hlk hE hW () rfl trivial rfl dX3_joyBy_41
      · have hf := o_f hf c4
        refine lv_iload_n hx hb dX3_joyBy_12 rfl (lv_at hl 1 rfl) ?_
        refine lv_iload_n hx hb dX3_joyBy_13 rfl (lv_at hl 3 rfl) ?_
        refine lv_iconst (v := (-1)) hx hb dX3_joyBy_14 (by decide) ?_
        refine lv_icmp_eq (tgt := 23) hx hb dX3_joyBy_15 (by decide) (fun c5 => ?_) (fun c5 => ?_)
        · have hf := o_t hf c5
          refine lv_aload_n hx hb dX3_joyBy_23 rfl (lv_at hl 2 rfl) ?_
          refine lv_iload_n hx hb dX3_joyBy_24 rfl (lv_at hl 0 rfl) ?_
          obtain ⟨r6, hc6, hf⟩ := o_b1s hf
          have hp6 : List.Perm [mW g adM kM tM M] ([mW g adM kM tM M] ++ []) := b_perm [0] [] 1 rfl rfl rfl rfl
          refine b_call0 ⟨rfl, rfl⟩ (va_runV (As := [.int v3]) (rest := [.int v2]) ⟨hx, hb, hml, hown, hts⟩ (m_X3_joyOf l D g H.size adM kM tM fu M v3 r6 hc6) (cwV 1 hts (lw_V q1842 q1844 qs62 q79 q1845) rfl rfl rfl (by decide +kernel) ⟨Nat.le_of_ble_eq_true rfl, Nat.le_of_ble_eq_true rfl⟩) (b_preV (pp := 0) (q := 0) hW hp6 rfl mW_0 rfl) rfl rfl hl.1 rfl (lv_room (Nat.le_of_ble_eq_true rfl)) dX3_joyBy_25 ⟨Nat.le_of_ble_eq_true rfl, Nat.le_of_ble_eq_true rfl⟩) hW hp6 (fun _ _ H locs hW => ?_)
          have hW : bW D g A s H locs [mW g adM kM tM M] := hW
          refine lv_goto (tgt := 32) hx hb dX3_joyBy_28 (by decide) ?_
          refine lv_iadd hx hb dX3_joyBy_32 ?_
          obtain ⟨v7, ev7, hf⟩ := o_ls hf
          refine b_topi ev7 ?_
          refine lv_istore_n (lv' := [(2, .int v7), (3, .int v3), (0, .ref (adM 0)), (1, .int x1)]) hx hb dX3_joyBy_33 rfl hl (by decide) rfl (fun ls hl => ?_)
          obtain ⟨v8, ev8, hf⟩ := o_ls hf
          refine lv_iinc (v := v8) (lv' := [(3, .int v8), (2, .int v7), (0, .ref (adM 0)), (1, .int x1)]) hx hb dX3_joyBy_34 hl (k := 1) rfl ev8 (by decide) rfl (fun ls hl => ?_)
          refine lv_goto (tgt := 4) hx hb dX3_joyBy_37 (by decide) ?_
          exact ih1 _ _ _ _ _ hW (lv_sub hl [0, 1, 2, 3] rfl) hf
        · have hf := o_f hf c5
          refine lv_iload_n hx hb dX3_joyBy_18 rfl (lv_at hl 0 rfl) ?_
          refine lv_iload_n hx hb dX3_joyBy_19 rfl (lv_at hl 3 rfl) ?_
          refine lv_icmp_ne (tgt := 31) hx hb dX3_joyBy_20 (by decide) (fun c9 => ?_) (fun c9 => ?_)
          · have hf := o_f hf c9
            refine lv_iconst (v := 0) hx hb dX3_joyBy_31 (by decide) ?_
            refine lv_iadd hx hb dX3_joyBy_32 ?_
            obtain ⟨v10, ev10, hf⟩ := o_ls hf
            refine b_topi ev10 ?_
            refine lv_istore_n (lv' := [(2, .int v10), (3, .int v3), (0, .ref (adM 0)), (1, .int x1)]) hx hb dX3_joyBy_33 rfl hl (by decide) rfl (fun ls hl => ?_)
            obtain ⟨v11, ev11, hf⟩ := o_ls hf
            refine lv_iinc (v := v11) (lv' := [(3, .int v11), (2, .int v10), (0, .ref (adM 0)), (1, .int x1)]) hx hb dX3_joyBy_34 hl (k := 1) rfl ev11 (by decide) rfl (fun ls hl => ?_)
            refine lv_goto (tgt := 4) hx hb dX3_joyBy_37 (by decide) ?_
            exact ih1 _ _ _ _ _ hW (lv_sub hl [0, 1, 2, 3] rfl) hf
          · have hf := o_t hf c9
            refine lv_aload_n hx hb dX3_joyBy_23 rfl (lv_at hl 2 rfl) ?_
            refine lv_iload_n hx hb dX3_joyBy_24 rfl (lv_at hl 0 rfl) ?_
            obtain ⟨r12, hc12, hf⟩ := o_b1s hf
            have hp12 : List.Perm [mW g adM kM tM M] ([mW g adM kM tM M] ++ []) := b_perm [0] [] 1 rfl rfl rfl rfl
            refine b_call0 ⟨rfl, rfl⟩ (va_runV (As := [.int v3]) (rest := [.int v2]) ⟨hx, hb, hml, hown, hts⟩ (m_X3_joyOf l D g H.size adM kM tM fu M v3 r12 hc12) (cwV 1 hts (lw_V q1842 q1844 qs62 q79 q1845) rfl rfl rfl (by decide +kernel) ⟨Nat.le_of_ble_eq_true rfl, Nat.le_of_ble_eq_true rfl⟩) (b_preV (pp := 0) (q := 0) hW hp12 rfl mW_0 rfl) rfl rfl hl.1 rfl (lv_room (Nat.le_of_ble_eq_true rfl)) dX3_joyBy_25 ⟨Nat.le_of_ble_eq_true rfl, Nat.le_of_ble_eq_true rfl⟩) hW hp12 (fun _ _ H locs hW => ?_)
            have hW : bW D g A s H locs [mW g adM kM tM M] := hW
            refine lv_goto (tgt := 32) hx hb dX3_joyBy_28 (by decide) ?_
            refine lv_iadd hx hb dX3_joyBy_32 ?_
            obtain ⟨v13, ev13, hf⟩ := o_ls hf
            refine b_topi ev13 ?_
            refine lv_istore_n (lv' := [(2, .int v13), (3, .int v3), (0, .ref (adM 0)), (1, .int x1)]) hx hb dX3_joyBy_33 rfl hl (by decide) rfl (fun ls hl => ?_)
            obtain ⟨v14, ev14, hf⟩ := o_ls hf
            refine lv_iinc (v := v14) (lv' := [(3, .int v14), (2, .int v13), (0, .ref (adM 0)), (1, .int x1)]) hx hb dX3_joyBy_34 hl (k := 1) rfl ev14 (by decide) rfl (fun ls hl => ?_)
            refine lv_goto (tgt := 4) hx hb dX3_joyBy_37 (by decide) ?_
            exact ih1 _ _ _ _ _ hW (lv_sub hl [0, 1, 2, 3] rfl) hf
  exact L1 _ _ _ _ _ _ hW (lv_sub hl [0, 1, 2, 3] rfl) hf
def f_X3_joy (fu : Nat) (M : BC) (x1 : Int32) : Option (Int32 × BC) :=
 (if x1 = (-1) then
 o_b1 (f_X3_goThrough fu M) fun (M2 : BC) =>
 o_b1 (f_X3_joyBy fu M2 x1) fun (r3 : Int32) =>
 some (r3, M2)
 else
 o_b1 (f_X3_isGoer M x1) fun (r4 : Int32) =>
 (if r4 = 0 then
 o_b2 (f_X3_refuse M (-2)) fun (r8 : Int32) (M9 : BC) =>
 some ((-1000000) + r8, M9)
 else
 o_b1 (f_X3_goThrough fu M) fun (M6 : BC) =>
 o_b1 (f_X3_joyBy fu M6 x1) fun (r7 : Int32) =>
 some (r7, M6)))
abbrev rm_X3_joy : Room := { frames := 4, cells := 0, slots := 0, locals := 95 }
set_option maxHeartbeats 4000000 in
set_option maxRecDepth 100000 in
theorem m_X3_joy (l : Launch) (D : va_G) (g : Nat → ClassId) (sz : Nat) (adM : Nat → Nat) (kM : Option Nat) (tM : Option Nat) (fu : Nat) (M : BC) (x1 : Int32) (rO : Int32) (MO : BC) (hf : f_X3_joy fu M x1 = some (rO, MO)) : bMet (S := Unit) l yX3_joy (ws_ yX3_joy cX3_joy 2 (some .int)) rm_X3_joy D g sz [.ref (adM 0), .int x1] [mW g adM kM tM M] (fun _ => True) (fun _ => some (.int rO)) (fun _ => [mW g adM kM tM MO]) := by
  refine b_met (by decide) (Nat.le_of_ble_eq_true rfl) ?_
  intro p e s m args below meth c A Q ls hx hb hml hr hlk hown hname hts hE hl hW
  revert hW; generalize s.heap = H; intro hW
  have hl : lv_has ls 2 [(0, .ref (adM 0)), (1, .int x1)] := hl
  rw [f_X3_joy] at hf
  refine lv_iload_n hx hb dX3_joy_0 rfl (lv_at hl 1 rfl) ?_
  refine lv_iconst (v := (-1)) hx hb dX3_joy_1 (by decide) ?_
  refine lv_icmp_eq (tgt := 23) hx hb dX3_joy_2 (by decide) (fun c1 => ?_) (fun c1 => ?_)
  · have hf := o_t hf c1
    refine lv_aload_n hx hb dX3_joy_23 rfl (lv_at hl 0 rfl) ?_
    obtain ⟨M2, hc2, hf⟩ := o_b1s hf
    have hp2 : List.Perm [mW g adM kM tM M] ([mW g adM kM tM M] ++ []) := b_perm [0] [] 1 rfl rfl rfl rfl
    refine b_call0 ⟨rfl, rfl⟩ (va_runV (As := []) (rest := []) ⟨hx, hb, hml, hown, hts⟩ (m_X3_goThrough l D g H.size adM kM tM fu M M2 hc2) (cwV 0 hts (lw_V q1806 q1808 qs57 q79 q1809) rfl rfl rfl (by decide +kernel) ⟨Nat.le_of_ble_eq_true rfl, Nat.le_of_ble_eq_true rfl⟩) (b_preV (pp := 0) (q := 0) hW hp2 rfl mW_0 rfl) rfl rfl hl.1 rfl (lv_room (Nat.le_of_ble_eq_true rfl)) dX3_joy_24 ⟨Nat.le_of_ble_eq_true rfl, Nat.le_of_ble_eq_true rfl⟩) hW hp2 (fun _ _ H locs hW => ?_)
    have hW : bW D g A s H locs [mW g adM kM tM M2] := hW
    refine lv_aload_n hx hb dX3_joy_27 rfl (lv_at hl 0 rfl) ?_
    refine lv_iload_n hx hb dX3_joy_28 rfl (lv_at hl 1 rfl) ?_
    obtain ⟨r3, hc3, hf⟩ := o_b1s hf
    have hp3 : List.Perm [mW g adM kM tM M2] ([mW g adM kM tM M2] ++ []) := b_perm [0] [] 1 rfl rfl rfl rfl
    refine b_call0 ⟨rfl, rfl⟩ (va_runV (As := [.int x1]) (rest := []) ⟨hx, hb, hml, hown, hts⟩ (m_X3_joyBy l D g H.size adM kM tM fu M2 x1 r3 hc3) (cwV 1 hts (lw_V q1838 q1840 qs61 q79 q1841) rfl rfl rfl (by decide +kernel) ⟨Nat.le_of_ble_eq_true rfl, Nat.le_of_ble_eq_true rfl⟩) (b_preV (pp := 0) (q := 0) hW hp3 rfl mW_0 rfl) rfl rfl hl.1 rfl (lv_room (Nat.le_of_ble_eq_true rfl)) dX3_joy_29 ⟨Nat.le_of_ble_eq_true rfl, Nat.le_of_ble_eq_true rfl⟩) hW hp3 (fun _ _ H locs hW => ?_)
    have hW : bW D g A s H locs [mW g adM kM tM M2] := hW
    cases hf
    exact b_iret hx hb hr hlk hE hW () rfl trivial rfl dX3_joy_32
  · have hf := o_f hf c1
    refine lv_aload_n hx hb dX3_joy_5 rfl (lv_at hl 0 rfl) ?_
    refine lv_iload_n hx hb dX3_joy_6 rfl (lv_at hl 1 rfl) ?_
    obtain ⟨r4, hc4, hf⟩ := o_b1s hf
    have hp4 : List.Perm [mW g adM kM tM M] ([mW g adM kM tM M] ++ []) := b_perm [0] [] 1 rfl rfl rfl rfl
    refine b_call0 ⟨rfl, rfl⟩ (va_runV (As := [.int x1]) (rest := []) ⟨hx, hb, hml, hown, hts⟩ (m_X3_isGoer l D g H.size adM kM tM M x1 r4 hc4) (cwV 1 hts (lw_V q1603 q1605 qs35 q79 q1606) rfl rfl rfl (by decide +kernel) ⟨Nat.le_of_ble_eq_true rfl, Nat.le_of_ble_eq_true rfl⟩) (b_preV (pp := 0) (q := 0) hW hp4 rfl mW_0 rfl) rfl rfl hl.1 rfl (lv_room (Nat.le_of_ble_eq_true rfl)) dX3_joy_7 ⟨Nat.le_of_ble_eq_true rfl, Nat.le_of_ble_eq_true rfl⟩) hW hp4 (fun _ _ H locs hW => ?_)
    have hW : bW D g A s H locs [mW g adM kM tM M] := hW
    refine lv_if_ne (tgt := 23) hx hb dX3_joy_10 (by decide) (fun c5 => ?_) (fun c5 => ?_)
    · have hf := o_f hf c5
      refine lv_aload_n hx hb dX3_joy_23 rfl (lv_at hl 0 rfl) ?_
      obtain ⟨M6, hc6, hf⟩ := o_b1s hf
      have hp6 : List.Perm [mW g adM kM tM M] ([mW g adM kM tM M] ++ []) := b_perm [0] [] 1 rfl rfl rfl rfl
      refine b_call0 ⟨rfl, rfl⟩ (va_runV (As := []) (rest := []) ⟨hx, hb, hml, hown, hts⟩ (m_X3_goThrough l D g H.size adM kM tM fu M M6 hc6) (cwV 0 hts (lw_V q1806 q1808 qs57 q79 q1809) rfl rfl rfl (by decide +kernel) ⟨Nat.le_of_ble_eq_true rfl, Nat.le_of_ble_eq_true rfl⟩) (b_preV (pp := 0) (q := 0) hW hp6 rfl mW_0 rfl) rfl rfl hl.1 rfl (lv_room (Nat.le_of_ble_eq_true rfl)) dX3_joy_24 ⟨Nat.le_of_ble_eq_true rfl, Nat.le_of_ble_eq_true rfl⟩) hW hp6 (fun _ _ H locs hW => ?_)
      have hW : bW D g A s H locs [mW g adM kM tM M6] := hW
      refine lv_aload_n hx hb dX3_joy_27 rfl (lv_at hl 0 rfl) ?_
      refine lv_iload_n hx hb dX3_joy_28 rfl (lv_at hl 1 rfl) ?_
      obtain ⟨r7, hc7, hf⟩ := o_b1s hf
      have hp7 : List.Perm [mW g adM kM tM M6] ([mW g adM kM tM M6] ++ []) := b_perm [0] [] 1 rfl rfl rfl rfl
      refine b_call0 ⟨rfl, rfl⟩ (va_runV (As := [.int x1]) (rest := []) ⟨hx, hb, hml, hown, hts⟩ (m_X3_joyBy l D g H.size adM kM tM fu M6 x1 r7 hc7) (cwV 1 hts (lw_V q1838 q1840 qs61 q79 q1841) rfl rfl rfl (by decide +kernel) ⟨Nat.le_of_ble_eq_true rfl, Nat.le_of_ble_eq_true rfl⟩) (b_preV (pp := 0) (q := 0) hW hp7 rfl mW_0 rfl) rfl rfl hl.1 rfl (lv_room (Nat.le_of_ble_eq_true rfl)) dX3_joy_29 ⟨Nat.le_of_ble_eq_true rfl, Nat.le_of_ble_eq_true rfl⟩) hW hp7 (fun _ _ H locs hW => ?_)
      have hW : bW D g A s H locs [mW g adM kM tM M6] := hW
      cases hf
      exact b_iret hx hb hr hlk hE hW () rfl trivial rfl dX3_joy_32
    · have hf := o_t hf c5
      refine lv_ldc (v := (-1000000)) hx hb hown (hts _ q1801) dX3_joy_13 ?_
      refine lv_aload_n hx hb dX3_joy_15 rfl (lv_at hl 0 rfl) ?_
      refine lv_bipush (v := (-2)) hx hb dX3_joy_16 (by decide) ?_
      obtain ⟨r8, M9, hc9, hf⟩ := o_b2s hf
      have hp9 : List.Perm [mW g adM kM tM M] ([mW g adM kM tM M] ++ []) := b_perm [0] [] 1 rfl rfl rfl rfl
      refine b_call0 ⟨rfl, rfl⟩ (va_runV (As := [.int (-2)]) (rest := [.int (-1000000)]) ⟨hx, hb, hml, hown, hts⟩ (m_X3_refuse l D g H.size adM kM tM M (-2) r8 M9 hc9) (cwV 1 hts (lw_V q1572 q1574 qs33 q79 q1575) rfl rfl rfl (by decide +kernel) ⟨Nat.le_of_ble_eq_true rfl, Nat.le_of_ble_eq_true rfl⟩) (b_preV (pp := 0) (q := 0) hW hp9 rfl mW_0 rfl) rfl rfl hl.1 rfl (lv_room (Nat.le_of_ble_eq_true rfl)) dX3_joy_18 ⟨Nat.le_of_ble_eq_true rfl, Nat.le_of_ble_eq_true rfl⟩) hW hp9 (fun _ _ H locs hW => ?_)
      have hW : bW D g A s H locs [mW g adM kM tM M9] := hW
      refine lv_iadd hx hb dX3_joy_21 ?_
      cases hf
      exact b_iret hx hb hr hlk hE hW () rfl trivial rfl dX3_joy_22
def f_X3_taken (fu : Nat) (M : BC) (x1 : Int32) : Option (Int32 × BC) :=
 o_b1 (f_X3_isInn M x1) fun (r1 : Int32) =>
 (if r1 = 0 then
 o_b2 (f_X3_refuse M (-2)) fun (r6 : Int32) (M7 : BC) =>
 some (r6, M7)
 else
 o_b1 (f_X3_goThrough fu M) fun (M3 : BC) =>
 o_ck (inB x1 6) (o_b1 (f_X3_headsIn fu M3 x1) fun (r5 : Int32) =>
 some ((M3.1 (18 + ix x1) (ix 3)) * r5, M3)))
abbrev rm_X3_taken : Room := { frames := 4, cells := 0, slots := 0, locals := 95 }
set_option maxHeartbeats 4000000 in
set_option maxRecDepth 100000 in
theorem m_X3_taken (l : Launch) (D : va_G) (g : Nat → ClassId) (sz : Nat) (adM : Nat → Nat) (kM : Option Nat) (tM : Option Nat) (fu : Nat) (M : BC) (x1 : Int32) (rO : Int32) (MO : BC) (hf : f_X3_taken fu M x1 = some (rO, MO)) : bMet (S := Unit) l yX3_taken (ws_ yX3_taken cX3_taken 2 (some .int)) rm_X3_taken D g sz [.ref (adM 0), .int x1] [mW g adM kM tM M] (fun _ => True) (fun _ => some (.int rO)) (fun _ => [mW g adM kM tM MO]) := by
  refine b_met (by decide) (Nat.le_of_ble_eq_true rfl) ?_
  intro p e s m args below meth c A Q ls hx hb hml hr hlk hown hname hts hE hl hW
  revert hW; generalize s.heap = H; intro hW
  have hl : lv_has ls 2 [(0, .ref (adM 0)), (1, .int x1)] := hl
  rw [f_X3_taken] at hf
  refine lv_aload_n hx hb dX3_taken_0 rfl (lv_at hl 0 rfl) ?_
  refine lv_iload_n hx hb dX3_taken_1 rfl (lv_at hl 1 rfl) ?_
  obtain ⟨r1, hc1, hf⟩ := o_b1s hf
  have hp1 : List.Perm [mW g adM kM tM M] ([mW g adM kM tM M] ++ []) := b_perm [0] [] 1 rfl rfl rfl rfl
  refine b_call0 ⟨rfl, rfl⟩ (va_runV (As := [.int x1]) (rest := []) ⟨hx, hb, hml, hown, hts⟩ (m_X3_isInn l D g H.size adM kM tM M x1 r1 hc1) (cwV 1 hts (lw_V q1651 q1653 qs41 q79 q1654) rfl rfl rfl (by decide +kernel) ⟨Nat.le_of_ble_eq_true rfl, Nat.le_of_ble_eq_true rfl⟩) (b_preV (pp := 0) (q := 0) hW hp1 rfl mW_0 rfl) rfl rfl hl.1 rfl (lv_room (Nat.le_of_ble_eq_true rfl)) dX3_taken_2 ⟨Nat.le_of_ble_eq_true rfl, Nat.le_of_ble_eq_true rfl⟩) hW hp1 (fun _ _ H locs hW => ?_)
  have hW : bW D g A s H locs [mW g adM kM tM M] := hW
  refine lv_if_ne (tgt := 15) hx hb dX3_taken_5 (by decide) (fun c2 => ?_) (fun c2 => ?_)
  · have hf := o_f hf c2
    refine lv_aload_n hx hb dX3_taken_15 rfl (lv_at hl 0 rfl) ?_
    obtain ⟨M3, hc3, hf⟩ := o_b1s hf
    have hp3 : List.Perm [mW g adM kM tM M] ([mW g adM kM tM M] ++ []) := b_perm [0] [] 1 rfl rfl rfl rfl
    refine b_call0 ⟨rfl, rfl⟩ (va_runV (As := []) (rest := []) ⟨hx, hb, hml, hown, hts⟩ (m_X3_goThrough l D g H.size adM kM tM fu M M3 hc3) (cwV 0 hts (lw_V q1806 q1808 qs57 q79 q1809) rfl rfl rfl (by decide +kernel) ⟨Nat.le_of_ble_eq_true rfl, Nat.le_of_ble_eq_true rfl⟩) (b_preV (pp := 0) (q := 0) hW hp3 rfl mW_0 rfl) rfl rfl hl.1 rfl (lv_room (Nat.le_of_ble_eq_true rfl)) dX3_taken_16 ⟨Nat.le_of_ble_eq_true rfl, Nat.le_of_ble_eq_true rfl⟩) hW hp3 (fun _ _ H locs hW => ?_)
    have hW : bW D g A s H locs [mW g adM kM tM M3] := hW
    refine lv_aload_n hx hb dX3_taken_19 rfl (lv_at hl 0 rfl) ?_
    refine b_get hx hb hts in_X3 hown hW 0 0 3 10 rfl mW_0 rfl (by decide) ⟨rfl, rfl, rfl⟩ (hts _ q1469) mW_g10 dX3_taken_20 ?_
    refine lv_iload_n hx hb dX3_taken_23 rfl (lv_at hl 1 rfl) ?_
    obtain ⟨h4, hf⟩ := o_cs hf
    refine b_agrI hx hb hW 0 17 rfl mW_17 h4 dX3_taken_24 ?_
    refine lv_iconst (v := 3) hx hb dX3_taken_25 (by decide) ?_
    refine b_iald hx hb hW 0 (18 + ix x1) rfl (mW_r18 (inB_lt h4)) (by decide) dX3_taken_26 ?_
    refine lv_aload_n hx hb dX3_taken_27 rfl (lv_at hl 0 rfl) ?_
    refine lv_iload_n hx hb dX3_taken_28 rfl (lv_at hl 1 rfl) ?_
    obtain ⟨r5, hc5, hf⟩ := o_b1s hf
    have hp5 : List.Perm [mW g adM kM tM M3] ([mW g adM kM tM M3] ++ []) := b_perm [0] [] 1 rfl rfl rfl rfl
    refine b_call0 ⟨rfl, rfl⟩ (va_runV (As := [.int x1]) (rest := [.int (M3.1 (18 + ix x1) (ix 3))]) ⟨hx, hb, hml, hown, hts⟩ (m_X3_headsIn l D g H.size adM kM tM fu M3 x1 r5 hc5) (cwV 1 hts (lw_V q1822 q1824 qs60 q79 q1825) rfl rfl rfl (by decide +kernel) ⟨Nat.le_of_ble_eq_true rfl, Nat.le_of_ble_eq_true rfl⟩) (b_preV (pp := 0) (q := 0) hW hp5 rfl mW_0 rfl) rfl rfl hl.1 rfl (lv_room (Nat.le_of_ble_eq_true rfl)) dX3_taken_29 ⟨Nat.le_of_ble_eq_true rfl, Nat.le_of_ble_eq_true rfl⟩) hW hp5 (fun _ _ H locs hW => ?_)
    have hW : bW D g A s H locs [mW g adM kM tM M3] := hW
    refine lv_imul hx hb dX3_taken_32 ?_
    cases hf
    exact b_iret hx hb hr hlk hE hW () rfl trivial rfl dX3_taken_33
  · have hf := o_t hf c2
    refine lv_aload_n hx hb dX3_taken_8 rfl (lv_at hl 0 rfl) ?_
    refine lv_bipush (v := (-2)) hx hb dX3_taken_9 (by decide) ?_
    obtain ⟨r6, M7, hc7, hf⟩ := o_b2s hf
    have hp7 : List.Perm [mW g adM kM tM M] ([mW g adM kM tM M] ++ []) := b_perm [0] [] 1 rfl rfl rfl rfl
    refine b_call0 ⟨rfl, rfl⟩ (va_runV (As := [.int (-2)]) (rest := []) ⟨hx, hb, hml, hown, hts⟩ (m_X3_refuse l D g H.size adM kM tM M (-2) r6 M7 hc7) (cwV 1 hts (lw_V q1572 q1574 qs33 q79 q1575) rfl rfl rfl (by decide +kernel) ⟨Nat.le_of_ble_eq_true rfl, Nat.le_of_ble_eq_true rfl⟩) (b_preV (pp := 0) (q := 0) hW hp7 rfl mW_0 rfl) rfl rfl hl.1 rfl (lv_room (Nat.le_of_ble_eq_true rfl)) dX3_taken_11 ⟨Nat.le_of_ble_eq_true rfl, Nat.le_of_ble_eq_true rfl⟩) hW hp7 (fun _ _ H locs hW => ?_)
    have hW : bW D g A s H locs [mW g adM kM tM M7] := hW
    cases hf
    exact b_iret hx hb hr hlk hE hW () rfl trivial rfl dX3_taken_14
def f_X3_isByBook (M : BC) (x1 : Int32) : Option Int32 :=
 o_ck (inB x1 6) ((if (M.1 (25 + ix x1) (ix 0)) = 0 then
 some 0
 else
 (if (M.1 (25 + ix x1) (ix 0)) = 3 then
 some 0
 else
 some 1)))
abbrev rm_X3_isByBook : Room := { frames := 0, cells := 0, slots := 0, locals := 0 }
set_option maxHeartbeats 4000000 in
set_option maxRecDepth 100000 in
theorem m_X3_isByBook (l : Launch) (D : va_G) (g : Nat → ClassId) (sz : Nat) (adM : Nat → Nat) (kM : Option Nat) (tM : Option Nat) (M : BC) (x1 : Int32) (rO : Int32) (hf : f_X3_isByBook M x1 = some rO) : bMet (S := Unit) l yX3_isByBook (ws_ yX3_isByBook cX3_isByBook 2 (some .boolean)) rm_X3_isByBook D g sz [.ref (adM 0), .int x1] [mW g adM kM tM M] (fun _ => True) (fun _ => some (.int rO)) (fun _ => [mW g adM kM tM M]) := by
  refine b_met (by decide) (Nat.le_of_ble_eq_true rfl) ?_
  intro p e s m args below meth c A Q ls hx hb hml hr hlk hown hname hts hE hl hW
  revert hW; generalize s.heap = H; intro hW
  have hl : lv_has ls 2 [(0, .ref (adM 0)), (1, .int x1)] := hl
  rw [f_X3_isByBook] at hf
  refine lv_aload_n hx hb dX3_isByBook_0 rfl (lv_at hl 0 rfl) ?_
  refine b_get hx hb hts in_X3 hown hW 0 0 3 12 rfl mW_0 rfl (by decide) ⟨rfl, rfl, rfl⟩ (hts _ q1471) mW_g12 dX3_isByBook_1 ?_
  refine lv_iload_n hx hb dX3_isByBook_4 rfl (lv_at hl 1 rfl) ?_
  obtain ⟨h1, hf⟩ := o_cs hf
  refine b_agrI hx hb hW 0 24 rfl mW_24 h1 dX3_isByBook_5 ?_
  refine lv_iconst (v := 0) hx hb dX3_isByBook_6 (by decide) ?_
  refine b_iald hx hb hW 0 (25 + ix x1) rfl (mW_r25 (inB_lt h1)) (by decide) dX3_isByBook_7 ?_
  refine lv_if_eq (tgt := 27) hx hb dX3_isByBook_8 (by decide) (fun c2 => ?_) (fun c2 => ?_)
  · have hf := o_t hf c2
    refine lv_iconst (v := 0) hx hb dX3_isByBook_27 (by decide) ?_
    cases hf
    exact b_zret hx hb hr hlk hE hW () rfl trivial rfl (by decide) dX3_isByBook_28
  · have hf := o_f hf c2
    refine lv_aload_n hx hb dX3_isByBook_11 rfl (lv_at hl 0 rfl) ?_
    refine b_get hx hb hts in_X3 hown hW 0 0 3 12 rfl mW_0 rfl (by decide) ⟨rfl, rfl, rfl⟩ (hts _ q1471) mW_g12 dX3_isByBook_12 ?_
    refine lv_iload_n hx hb dX3_isByBook_15 rfl (lv_at hl 1 rfl) ?_
    refine b_agrI hx hb hW 0 24 rfl mW_24 h1 dX3_isByBook_16 ?_
    refine lv_iconst (v := 0) hx hb dX3_isByBook_17 (by decide) ?_
    refine b_iald hx hb hW 0 (25 + ix x1) rfl (mW_r25 (inB_lt h1)) (by decide) dX3_isByBook_18 ?_
    refine lv_iconst (v := 3) hx hb dX3_isByBook_19 (by decide) ?_
    refine lv_icmp_eq (tgt := 27) hx hb dX3_isByBook_20 (by decide) (fun c3 => ?_) (fun c3 => ?_)
    · have hf := o_t hf c3
      refine lv_iconst (v := 0) hx hb dX3_isByBook_27 (by decide) ?_
      cases hf
      exact b_zret hx hb hr hlk hE hW () rfl trivial rfl (by decide) dX3_isByBook_28
    · have hf := o_f hf c3
      refine lv_iconst (v := 1) hx hb dX3_isByBook_23 (by decide) ?_
      refine lv_goto (tgt := 28) hx hb dX3_isByBook_24 (by decide) ?_
      cases hf
      exact b_zret hx hb hr hlk hE hW () rfl trivial rfl (by decide) dX3_isByBook_28
def f_X3_crowd_L19 (M : BC) (x1 : Int32) (fu : Nat) (rec3 : (Int32 × Int32) → Option (Int32 × BC)) : Int32 × Int32 → Option (Int32 × BC)
  | (v4, v5) =>
    (if (M.1 0 2) ≤ v5 then
     some (v4, M)
     else
     o_b1 (f_X3_isByBook M v5) fun (r7 : Int32) =>
     (if r7 = 0 then
     o_lt (v4 + 0) fun (v9 : Int32) =>
     o_lt (v5 + 1) fun (v10 : Int32) =>
     rec3 (v9, v10)
     else
     o_b1 (f_X3_choiceOf fu M v5) fun (r11 : Int32) =>
     (if r11 = x1 then
     o_ck (inB v5 6) (o_lt (v4 + (M.1 (25 + ix v5) (ix 1))) fun (v16 : Int32) =>
     o_lt (v5 + 1) fun (v17 : Int32) =>
     rec3 (v16, v17))
     else
     o_lt (v4 + 0) fun (v13 : Int32) =>
     o_lt (v5 + 1) fun (v14 : Int32) =>
     rec3 (v13, v14))))
def f_X3_crowd (fu : Nat) (M : BC) (x1 : Int32) : Option (Int32 × BC) :=
 o_b1 (f_X3_isInn M x1) fun (r1 : Int32) =>
 (if r1 = 0 then
 o_b2 (f_X3_refuse M (-2)) fun (r18 : Int32) (M19 : BC) =>
 some (r18, M19)
 else
 o_lp (f_X3_crowd_L19 M x1 fu) fu (0, 0))
abbrev rm_X3_crowd : Room := { frames := 4, cells := 0, slots := 0, locals := 92 }
set_option maxHeartbeats 4000000 in
set_option maxRecDepth 100000 in
theorem m_X3_crowd (l : Launch) (D : va_G) (g : Nat → ClassId) (sz : Nat) (adM : Nat → Nat) (kM : Option Nat) (tM : Option Nat) (fu : Nat) (M : BC) (x1 : Int32) (rO : Int32) (MO : BC) (hf : f_X3_crowd fu M x1 = some (rO, MO)) : bMet (S := Unit) l yX3_crowd (ws_ yX3_crowd cX3_crowd 4 (some .int)) rm_X3_crowd D g sz [.ref (adM 0), .int x1] [mW g adM kM tM M] (fun _ => True) (fun _ => some (.int rO)) (fun _ => [mW g adM kM tM MO]) := by
  refine b_met (by decide) (Nat.le_of_ble_eq_true rfl) ?_
  intro p e s m args below meth c A Q ls hx hb hml hr hlk hown hname hts hE hl hW
  revert hW; generalize s.heap = H; intro hW
  have hl : lv_has ls 4 [(0, .ref (adM 0)), (1, .int x1)] := hl
  rw [f_X3_crowd] at hf
  refine lv_aload_n hx hb dX3_crowd_0 rfl (lv_at hl 0 rfl) ?_
  refine lv_iload_n hx hb dX3_crowd_1 rfl (lv_at hl 1 rfl) ?_
  obtain ⟨r1, hc1, hf⟩ := o_b1s hf
  have hp1 : List.Perm [mW g adM kM tM M] ([mW g adM kM tM M] ++ []) := b_perm [0] [] 1 rfl rfl rfl rfl
  refine b_call0 ⟨rfl, rfl⟩ (va_runV (As := [.int x1]) (rest := []) ⟨hx, hb, hml, hown, hts⟩ (m_X3_isInn l D g H.size adM kM tM M x1 r1 hc1) (cwV 1 hts (lw_V q1651 q1653 qs41 q79 q1654) rfl rfl rfl (by decide +kernel) ⟨Nat.le_of_ble_eq_true rfl, Nat.le_of_ble_eq_true rfl⟩) (b_preV (pp := 0) (q := 0) hW hp1 rfl mW_0 rfl) rfl rfl hl.1 rfl (lv_room (Nat.le_of_ble_eq_true rfl)) dX3_crowd_2 ⟨Nat.le_of_ble_eq_true rfl, Nat.le_of_ble_eq_true rfl⟩) hW hp1 (fun _ _ H locs hW => ?_)
  have hW : bW D g A s H locs [mW g adM kM tM M] := hW
  refine lv_if_ne (tgt := 15) hx hb dX3_crowd_5 (by decide) (fun c2 => ?_) (fun c2 => ?_)
  · have hf := o_f hf c2
    refine lv_iconst (v := 0) hx hb dX3_crowd_15 (by decide) ?_
    refine lv_istore_n (lv' := [(2, .int 0), (0, .ref (adM 0)), (1, .int x1)]) hx hb dX3_crowd_16 rfl hl (by decide) rfl (fun ls hl => ?_)
    refine lv_iconst (v := 0) hx hb dX3_crowd_17 (by decide) ?_
    refine lv_istore_n (lv' := [(3, .int 0), (2, .int 0), (0, .ref (adM 0)), (1, .int x1)]) hx hb dX3_crowd_18 rfl hl (by decide) rfl (fun ls hl => ?_)
    obtain ⟨stp3, est3, hf⟩ := o_ln hf
    have L3 : ∀ (n : Nat) (v4 : Int32) (v5 : Int32) (H : Heap) (locs : List Loc) (ls : Array Slot), bW D g A s H locs [mW g adM kM tM M] → lv_has ls 4 [(3, .int v5), (2, .int v4), (0, .ref (adM 0)), (1, .int x1)] → o_lp stp3 n (v4, v5) = some (rO, MO) → W p l e rm_X3_crowd s m args below meth c H locs 0 0 Q (F0 m 19 ls []) := by
      intro n3
      induction n3 with
      | zero => intro v4 v5 H locs ls hW hl hf; exact (o_lz hf).elim
      | succ n3 ih3 =>
        intro v4 v5 H locs ls hW hl hf
        have hf := o_lu est3 hf
        rw [f_X3_crowd_L19] at hf
        refine lv_iload_n hx hb dX3_crowd_19 rfl (lv_at hl 0 rfl) ?_
        refine lv_aload_n hx hb dX3_crowd_20 rfl (lv_at hl 2 rfl) ?_
        refine b_get hx hb hts in_X3 hown hW 0 0 3 11 rfl mW_0 rfl (by decide) ⟨rfl, rfl, rfl⟩ (hts _ q1470) mW_g11 dX3_crowd_21 ?_
        refine lv_icmp_ge (tgt := 65) hx hb dX3_crowd_24 (by decide) (fun c6 => ?_) (fun c6 => ?_)
        · have hf := o_t hf c6
          refine lv_iload_n hx hb dX3_crowd_65 rfl (lv_at hl 1 rfl) ?_
          cases hf
          exact b_iret hx hb hr hlk hE hW () rfl trivial rfl dX3_crowd_66
        · have hf := o_f hf c6
          refine lv_iload_n hx hb dX3_crowd_27 rfl (lv_at hl 1 rfl) ?_
          refine lv_aload_n hx hb dX3_crowd_28 rfl (lv_at hl 2 rfl) ?_
          refine lv_iload_n hx hb dX3_crowd_29 rfl (lv_at hl 0 rfl) ?_
          obtain ⟨r7, hc7, hf⟩ := o_b1s hf
          have hp7 : List.Perm [mW g adM kM tM M] ([mW g adM kM tM M] ++ []) := b_perm [0] [] 1 rfl rfl rfl rfl
          refine b_call0 ⟨rfl, rfl⟩ (va_runV (As := [.int v5]) (rest := [.int v4]) ⟨hx, hb, hml, hown, hts⟩ (m_X3_isByBook l D g H.size adM kM tM M v5 r7 hc7) (cwV 1 hts (lw_V q1854 q1856 qs63 q79 q1857) rfl rfl rfl (by decide +kernel) ⟨Nat.le_of_ble_eq_true rfl, Nat.le_of_ble_eq_true rfl⟩) (b_preV (pp := 0) (q := 0) hW hp7 rfl mW_0 rfl) rfl rfl hl.1 rfl (lv_room (Nat.le_of_ble_eq_true rfl)) dX3_crowd_30 ⟨Nat.le_of_ble_eq_true rfl, Nat.le_of_ble_eq_true rfl⟩) hW hp7 (fun _ _ H locs hW => ?_)
          have hW : bW D g A s H locs [mW g adM kM tM M] := hW
          refine lv_if_eq (tgt := 56) hx hb dX3_crowd_33 (by decide) (fun c8 => ?_) (fun c8 => ?_)
          · have hf := o_t hf c8
            refine lv_iconst (v := 0) hx hb dX3_crowd_56 (by decide) ?_
            refine lv_iadd hx hb dX3_crowd_57 ?_
            obtain ⟨v9, ev9, hf⟩ := o_ls hf
            refine b_topi ev9 ?_
            refine lv_istore_n (lv' := [(2, .int v9), (3, .int v5), (0, .ref (adM 0)), (1, .int x1)]) hx hb dX3_crowd_58 rfl hl (by decide) rfl (fun ls hl => ?_)
            obtain ⟨v10, ev10, hf⟩ := o_ls hf
            refine lv_iinc (v := v10) (lv' := [(3, .int v10), (2, .int v9), (0, .ref (adM 0)), (1, .int x1)]) hx hb dX3_crowd_59 hl (k := 1) rfl ev10 (by decide) rfl (fun ls hl => ?_)
            refine lv_goto (tgt := 19) hx hb dX3_crowd_62 (by decide) ?_
            exact ih3 _ _ _ _ _ hW (lv_sub hl [0, 1, 2, 3] rfl) hf
          · have hf := o_f hf c8
            refine lv_aload_n hx hb dX3_crowd_36 rfl (lv_at hl 2 rfl) ?_
            refine lv_iload_n hx hb dX3_crowd_37 rfl (lv_at hl 0 rfl) ?_
            obtain ⟨r11, hc11, hf⟩ := o_b1s hf
            have hp11 : List.Perm [mW g adM kM tM M] ([mW g adM kM tM M] ++ []) := b_perm [0] [] 1 rfl rfl rfl rfl
            refine b_call0 ⟨rfl, rfl⟩ (va_runV (As := [.int v5]) (rest := [.int v4]) ⟨hx, hb, hml, hown, hts⟩ (m_X3_choiceOf l D g H.size adM kM tM fu M v5 r11 hc11) (cwV 1 hts (lw_V q1615 q1617 qs36 q79 q1618) rfl rfl rfl (by decide +kernel) ⟨Nat.le_of_ble_eq_true rfl, Nat.le_of_ble_eq_true rfl⟩) (b_preV (pp := 0) (q := 0) hW hp11 rfl mW_0 rfl) rfl rfl hl.1 rfl (lv_room (Nat.le_of_ble_eq_true rfl)) dX3_crowd_38 ⟨Nat.le_of_ble_eq_true rfl, Nat.le_of_ble_eq_true rfl⟩) hW hp11 (fun _ _ H locs hW => ?_)
            have hW : bW D g A s H locs [mW g adM kM tM M] := hW
            refine lv_iload_n hx hb dX3_crowd_41 rfl (lv_at hl 3 rfl) ?_
            refine lv_icmp_ne (tgt := 56) hx hb dX3_crowd_42 (by decide) (fun c12 => ?_) (fun c12 => ?_)
            · have hf := o_f hf c12
              refine lv_iconst (v := 0) hx hb dX3_crowd_56 (by decide) ?_
              refine lv_iadd hx hb dX3_crowd_57 ?_
              obtain ⟨v13, ev13, hf⟩ := o_ls hf
              refine b_topi ev13 ?_
              refine lv_istore_n (lv' := [(2, .int v13), (3, .int v5), (0, .ref (adM 0)), (1, .int x1)]) hx hb dX3_crowd_58 rfl hl (by decide) rfl (fun ls hl => ?_)
              obtain ⟨v14, ev14, hf⟩ := o_ls hf
              refine lv_iinc (v := v14) (lv' := [(3, .int v14), (2, .int v13), (0, .ref (adM 0)), (1, .int x1)]) hx hb dX3_crowd_59 hl (k := 1) rfl ev14 (by decide) rfl (fun ls hl => ?_)
              refine lv_goto (tgt := 19) hx hb dX3_crowd_62 (by decide) ?_
              exact ih3 _ _ _ _ _ hW (lv_sub hl [0, 1, 2, 3] rfl) hf
            · have hf := o_t hf c12
              refine lv_aload_n hx hb dX3_crowd_45 rfl (lv_at hl 2 rfl) ?_
              refine b_get hx hb hts in_X3 hown hW 0 0 3 12 rfl mW_0 rfl (by decide) ⟨rfl, rfl, rfl⟩ (hts _ q1471) mW_g12 dX3_crowd_46 ?_
              refine lv_iload_n hx hb dX3_crowd_49 rfl (lv_at hl 0 rfl) ?_
              obtain ⟨h15, hf⟩ := o_cs hf
              refine b_agrI hx hb hW 0 24 rfl mW_24 h15 dX3_crowd_50 ?_
              refine lv_iconst (v := 1) hx hb dX3_crowd_51 (by decide) ?_
              refine b_iald hx hb hW 0 (25 + ix v5) rfl (mW_r25 (inB_lt h15)) (by decide) dX3_crowd_52 ?_
              refine lv_goto (tgt := 57) hx hb dX3_crowd_53 (by decide) ?_
              refine lv_iadd hx hb dX3_crowd_57 ?_
              obtain ⟨v16, ev16, hf⟩ := o_ls hf
              refine b_topi ev16 ?_
              refine lv_istore_n (lv' := [(2, .int v16), (3, .int v5), (0, .ref (adM 0)), (1, .int x1)]) hx hb dX3_crowd_58 rfl hl (by decide) rfl (fun ls hl => ?_)
              obtain ⟨v17, ev17, hf⟩ := o_ls hf
              refine lv_iinc (v := v17) (lv' := [(3, .int v17), (2, .int v16), (0, .ref (adM 0)), (1, .int x1)]) hx hb dX3_crowd_59 hl (k := 1) rfl ev17 (by decide) rfl (fun ls hl => ?_)
              refine lv_goto (tgt := 19) hx hb dX3_crowd_62 (by decide) ?_
              exact ih3 _ _ _ _ _ hW (lv_sub hl [0, 1, 2, 3] rfl) hf
    exact L3 _ _ _ _ _ _ hW (lv_sub hl [0, 1, 2, 3] rfl) hf
  · have hf := o_t hf c2
    refine lv_aload_n hx hb dX3_crowd_8 rfl (lv_at hl 0 rfl) ?_
    refine lv_bipush (v := (-2)) hx hb dX3_crowd_9 (by decide) ?_
    obtain ⟨r18, M19, hc19, hf⟩ := o_b2s hf
    have hp19 : List.Perm [mW g adM kM tM M] ([mW g adM kM tM M] ++ []) := b_perm [0] [] 1 rfl rfl rfl rfl
    refine b_call0 ⟨rfl, rfl⟩ (va_runV (As := [.int (-2)]) (rest := []) ⟨hx, hb, hml, hown, hts⟩ (m_X3_refuse l D g H.size adM kM tM M (-2) r18 M19 hc19) (cwV 1 hts (lw_V q1572 q1574 qs33 q79 q1575) rfl rfl rfl (by decide +kernel) ⟨Nat.le_of_ble_eq_true rfl, Nat.le_of_ble_eq_true rfl⟩) (b_preV (pp := 0) (q := 0) hW hp19 rfl mW_0 rfl) rfl rfl hl.1 rfl (lv_room (Nat.le_of_ble_eq_true rfl)) dX3_crowd_11 ⟨Nat.le_of_ble_eq_true rfl, Nat.le_of_ble_eq_true rfl⟩) hW hp19 (fun _ _ H locs hW => ?_)
    have hW : bW D g A s H locs [mW g adM kM tM M19] := hW
    cases hf
    exact b_iret hx hb hr hlk hE hW () rfl trivial rfl dX3_crowd_14
def f_X3_lean (M : BC) (x1 : Int32) : Option (Int32 × BC) :=
 o_b1 (f_X3_isInn M x1) fun (r1 : Int32) =>
 (if r1 = 0 then
 o_b2 (f_X3_refuse M (-2)) fun (r8 : Int32) (M9 : BC) =>
 some ((-1000000) + r8, M9)
 else
 o_ck (inB x1 6) ((if (M.1 (18 + ix x1) (ix 5)) = 0 then
 o_b2 (f_X3_refuse M (-5)) fun (r6 : Int32) (M7 : BC) =>
 some ((-1000000) + r6, M7)
 else
 o_ck (!decide ((M.1 (18 + ix x1) (ix 5)) = 0)) (some (((M.1 (18 + ix x1) (ix 6)) / (M.1 (18 + ix x1) (ix 5))) - (M.1 (18 + ix x1) (ix 0)), M)))))
abbrev rm_X3_lean : Room := { frames := 2, cells := 0, slots := 0, locals := 46 }
set_option maxHeartbeats 4000000 in
set_option maxRecDepth 100000 in
theorem m_X3_lean (l : Launch) (D : va_G) (g : Nat → ClassId) (sz : Nat) (adM : Nat → Nat) (kM : Option Nat) (tM : Option Nat) (M : BC) (x1 : Int32) (rO : Int32) (MO : BC) (hf : f_X3_lean M x1 = some (rO, MO)) : bMet (S := Unit) l yX3_lean (ws_ yX3_lean cX3_lean 2 (some .int)) rm_X3_lean D g sz [.ref (adM 0), .int x1] [mW g adM kM tM M] (fun _ => True) (fun _ => some (.int rO)) (fun _ => [mW g adM kM tM MO]) := by
  refine b_met (by decide) (Nat.le_of_ble_eq_true rfl) ?_
  intro p e s m args below meth c A Q ls hx hb hml hr hlk hown hname hts hE hl hW
  revert hW; generalize s.heap = H; intro hW
  have hl : lv_has ls 2 [(0, .ref (adM 0)), (1, .int x1)] := hl
  rw [f_X3_lean] at hf
  refine lv_aload_n hx hb dX3_lean_0 rfl (lv_at hl 0 rfl) ?_
  refine lv_iload_n hx hb dX3_lean_1 rfl (lv_at hl 1 rfl) ?_
  obtain ⟨r1, hc1, hf⟩ := o_b1s hf
  have hp1 : List.Perm [mW g adM kM tM M] ([mW g adM kM tM M] ++ []) := b_perm [0] [] 1 rfl rfl rfl rfl
  refine b_call0 ⟨rfl, rfl⟩ (va_runV (As := [.int x1]) (rest := []) ⟨hx, hb, hml, hown, hts⟩ (m_X3_isInn l D g H.size adM kM tM M x1 r1 hc1) (cwV 1 hts (lw_V q1651 q1653 qs41 q79 q1654) rfl rfl rfl (by decide +kernel) ⟨Nat.le_of_ble_eq_true rfl, Nat.le_of_ble_eq_true rfl⟩) (b_preV (pp := 0) (q := 0) hW hp1 rfl mW_0 rfl) rfl rfl hl.1 rfl (lv_room (Nat.le_of_ble_eq_true rfl)) dX3_lean_2 ⟨Nat.le_of_ble_eq_true rfl, Nat.le_of_ble_eq_true rfl⟩) hW hp1 (fun _ _ H locs hW => ?_)
  have hW : bW D g A s H locs [mW g adM kM tM M] := hW
  refine lv_if_ne (tgt := 18) hx hb dX3_lean_5 (by decide) (fun c2 => ?_) (fun c2 => ?_)
  · have hf := o_f hf c2
    refine lv_aload_n hx hb dX3_lean_18 rfl (lv_at hl 0 rfl) ?_
    refine b_get hx hb hts in_X3 hown hW 0 0 3 10 rfl mW_0 rfl (by decide) ⟨rfl, rfl, rfl⟩ (hts _ q1469) mW_g10 dX3_lean_19 ?_
    refine lv_iload_n hx hb dX3_lean_22 rfl (lv_at hl 1 rfl) ?_
    obtain ⟨h3, hf⟩ := o_cs hf
    refine b_agrI hx hb hW 0 17 rfl mW_17 h3 dX3_lean_23 ?_
    refine lv_iconst (v := 5) hx hb dX3_lean_24 (by decide) ?_
    refine b_iald hx hb hW 0 (18 + ix x1) rfl (mW_r18 (inB_lt h3)) (by decide) dX3_lean_25 ?_
    refine lv_if_ne (tgt := 41) hx hb dX3_lean_26 (by decide) (fun c4 => ?_) (fun c4 => ?_)
    · have hf := o_f hf c4
      refine lv_aload_n hx hb dX3_lean_41 rfl (lv_at hl 0 rfl) ?_
      refine b_get hx hb hts in_X3 hown hW 0 0 3 10 rfl mW_0 rfl (by decide) ⟨rfl, rfl, rfl⟩ (hts _ q1469) mW_g10 dX3_lean_42 ?_
      refine lv_iload_n hx hb dX3_lean_45 rfl (lv_at hl 1 rfl) ?_
      refine b_agrI hx hb hW 0 17 rfl mW_17 h3 dX3_lean_46 ?_
      refine lv_bipush (v := 6) hx hb dX3_lean_47 (by decide) ?_
      refine b_iald hx hb hW 0 (18 + ix x1) rfl (mW_r18 (inB_lt h3)) (by decide) dX3_lean_49 ?_
      refine lv_aload_n hx hb dX3_lean_50 rfl (lv_at hl 0 rfl) ?_
      refine b_get hx hb hts in_X3 hown hW 0 0 3 10 rfl mW_0 rfl (by decide) ⟨rfl, rfl, rfl⟩ (hts _ q1469) mW_g10 dX3_lean_51 ?_
      refine lv_iload_n hx hb dX3_lean_54 rfl (lv_at hl 1 rfl) ?_
      refine b_agrI hx hb hW 0 17 rfl mW_17 h3 dX3_lean_55 ?_
      refine lv_iconst (v := 5) hx hb dX3_lean_56 (by decide) ?_
      refine b_iald hx hb hW 0 (18 + ix x1) rfl (mW_r18 (inB_lt h3)) (by decide) dX3_lean_57 ?_
      obtain ⟨h5, hf⟩ := o_cs hf
      refine lv_idiv hx hb dX3_lean_58 (o_nz h5) ?_
      refine lv_aload_n hx hb dX3_lean_59 rfl (lv_at hl 0 rfl) ?_
      refine b_get hx hb hts in_X3 hown hW 0 0 3 10 rfl mW_0 rfl (by decide) ⟨rfl, rfl, rfl⟩ (hts _ q1469) mW_g10 dX3_lean_60 ?_
      refine lv_iload_n hx hb dX3_lean_63 rfl (lv_at hl 1 rfl) ?_
      refine b_agrI hx hb hW 0 17 rfl mW_17 h3 dX3_lean_64 ?_
      refine lv_iconst (v := 0) hx hb dX3_lean_65 (by decide) ?_
      refine b_iald hx hb hW 0 (18 + ix x1) rfl (mW_r18 (inB_lt h3)) (by decide) dX3_lean_66 ?_
      refine lv_isub hx hb dX3_lean_67 ?_
      cases hf
      exact b_iret hx hb hr hlk hE hW () rfl trivial rfl dX3_lean_68
    · have hf := o_t hf c4
      refine lv_ldc (v := (-1000000)) hx hb hown (hts _ q1801) dX3_lean_29 ?_
      refine lv_aload_n hx hb dX3_lean_31 rfl (lv_at hl 0 rfl) ?_
      refine lv_bipush (v := (-5)) hx hb dX3_lean_32 (by decide) ?_
      obtain ⟨r6, M7, hc7, hf⟩ := o_b2s hf
      have hp7 : List.Perm [mW g adM kM tM M] ([mW g adM kM tM M] ++ []) := b_perm [0] [] 1 rfl rfl rfl rfl
      refine b_call0 ⟨rfl, rfl⟩ (va_runV (As := [.int (-5)]) (rest := [.int (-1000000)]) ⟨hx, hb, hml, hown, hts⟩ (m_X3_refuse l D g H.size adM kM tM M (-5) r6 M7 hc7) (cwV 1 hts (lw_V q1572 q1574 qs33 q79 q1575) rfl rfl rfl (by decide +kernel) ⟨Nat.le_of_ble_eq_true rfl, Nat.le_of_ble_eq_true rfl⟩) (b_preV (pp := 0) (q := 0) hW hp7 rfl mW_0 rfl) rfl rfl hl.1 rfl (lv_room (Nat.le_of_ble_eq_true rfl)) dX3_lean_34 ⟨Nat.le_of_ble_eq_true rfl, Nat.le_of_ble_eq_true rfl⟩) hW hp7 (fun _ _ H locs hW => ?_)
      have hW : bW D g A s H locs [mW g adM kM tM M7] := hW
      refine lv_iadd hx hb dX3_lean_37 ?_
      refine lv_goto (tgt := 68) hx hb dX3_lean_38 (by decide) ?_
      cases hf
      exact b_iret hx hb hr hlk hE hW () rfl trivial rfl dX3_lean_68
  · have hf := o_t hf c2
    refine lv_ldc (v := (-1000000)) hx hb hown (hts _ q1801) dX3_lean_8 ?_
    refine lv_aload_n hx hb dX3_lean_10 rfl (lv_at hl 0 rfl) ?_
    refine lv_bipush (v := (-2)) hx hb dX3_lean_11 (by decide) ?_
    obtain ⟨r8, M9, hc9, hf⟩ := o_b2s hf
    have hp9 : List.Perm [mW g adM kM tM M] ([mW g adM kM tM M] ++ []) := b_perm [0] [] 1 rfl rfl rfl rfl
    refine b_call0 ⟨rfl, rfl⟩ (va_runV (As := [.int (-2)]) (rest := [.int (-1000000)]) ⟨hx, hb, hml, hown, hts⟩ (m_X3_refuse l D g H.size adM kM tM M (-2) r8 M9 hc9) (cwV 1 hts (lw_V q1572 q1574 qs33 q79 q1575) rfl rfl rfl (by decide +kernel) ⟨Nat.le_of_ble_eq_true rfl, Nat.le_of_ble_eq_true rfl⟩) (b_preV (pp := 0) (q := 0) hW hp9 rfl mW_0 rfl) rfl rfl hl.1 rfl (lv_room (Nat.le_of_ble_eq_true rfl)) dX3_lean_13 ⟨Nat.le_of_ble_eq_true rfl, Nat.le_of_ble_eq_true rfl⟩) hW hp9 (fun _ _ H locs hW => ?_)
    have hW : bW D g A s H locs [mW g adM kM tM M9] := hW
    refine lv_iadd hx hb dX3_lean_16 ?_
    cases hf
    exact b_iret hx hb hr hlk hE hW () rfl trivial rfl dX3_lean_17
def f_X3_truestOf_L4 (M : BC) (rec1 : (Int32 × Int32) → Option Int32) : Int32 × Int32 → Option Int32
  | (v2, v3) =>
    (if (M.1 0 1) ≤ v3 then
     some v2
     else
     (if v2 = (-1) then
     o_lt (v3 + 1) fun (v6 : Int32) =>
     rec1 (v3, v6)
     else
     o_ck (inB v3 6) (o_ck (inB v2 6) ((if ((M.1 (18 + ix v3) (ix 0)) - (M.1 (18 + ix v3) (ix 3))) ≤ ((M.1 (18 + ix v2) (ix 0)) - (M.1 (18 + ix v2) (ix 3))) then
     o_lt (v3 + 1) fun (v10 : Int32) =>
     rec1 (v2, v10)
     else
     o_lt (v3 + 1) fun (v11 : Int32) =>
     rec1 (v3, v11))))))
def f_X3_truestOf (fu : Nat) (M : BC) : Option Int32 :=
 o_lp (f_X3_truestOf_L4 M) fu ((-1), 0)
abbrev rm_X3_truestOf : Room := { frames := 0, cells := 0, slots := 0, locals := 0 }
set_option maxHeartbeats 4000000 in
set_option maxRecDepth 100000 in
theorem m_X3_truestOf (l : Launch) (D : va_G) (g : Nat → ClassId) (sz : Nat) (adM : Nat → Nat) (kM : Option Nat) (tM : Option Nat) (fu : Nat) (M : BC) (rO : Int32) (hf : f_X3_truestOf fu M = some rO) : bMet (S := Unit) l yX3_truestOf (ws_ yX3_truestOf cX3_truestOf 3 (some .int)) rm_X3_truestOf D g sz [.ref (adM 0)] [mW g adM kM tM M] (fun _ => True) (fun _ => some (.int rO)) (fun _ => [mW g adM kM tM M]) := by
  refine b_met (by decide) (Nat.le_of_ble_eq_true rfl) ?_
  intro p e s m args below meth c A Q ls hx hb hml hr hlk hown hname hts hE hl hW
  revert hW; generalize s.heap = H; intro hW
  have hl : lv_has ls 3 [(0, .ref (adM 0))] := hl
  rw [f_X3_truestOf] at hf
  refine lv_iconst (v := (-1)) hx hb dX3_truestOf_0 (by decide) ?_
  refine lv_istore_n (lv' := [(1, .int (-1)), (0, .ref (adM 0))]) hx hb dX3_truestOf_1 rfl hl (by decide) rfl (fun ls hl => ?_)
  refine lv_iconst (v := 0) hx hb dX3_truestOf_2 (by decide) ?_
  refine lv_istore_n (lv' := [(2, .int 0), (1, .int (-1)), (0, .ref (adM 0))]) hx hb dX3_truestOf_3 rfl hl (by decide) rfl (fun ls hl => ?_)
  obtain ⟨stp1, est1, hf⟩ := o_ln hf
  have L1 : ∀ (n : Nat) (v2 : Int32) (v3 : Int32) (H : Heap) (locs : List Loc) (ls : Array Slot), bW D g A s H locs [mW g adM kM tM M] → lv_has ls 3 [(2, .int v3), (1, .int v2), (0, .ref (adM 0))] → o_lp stp1 n (v2, v3) = some rO → W p l e rm_X3_truestOf s m args below meth c H locs 0 0 Q (F0 m 4 ls []) := by
    intro n1
    induction n1 with
    | zero => intro v2 v3 H locs ls hW hl hf; exact (o_lz hf).elim
    | succ n1 ih1 =>
      intro v2 v3 H locs ls hW hl hf
      have hf := o_lu est1 hf
      rw [f_X3_truestOf_L4] at hf
      refine lv_iload_n hx hb dX3_truestOf_4 rfl (lv_at hl 0 rfl) ?_
      refine lv_aload_n hx hb dX3_truestOf_5 rfl (lv_at hl 2 rfl) ?_
      refine b_get hx hb hts in_X3 hown hW 0 0 3 9 rfl mW_0 rfl (by decide) ⟨rfl, rfl, rfl⟩ (hts _ q1468) mW_g9 dX3_truestOf_6 ?_
      refine lv_icmp_ge (tgt := 66) hx hb dX3_truestOf_9 (by decide) (fun c4 => ?_) (fun c4 => ?_)
      · have hf := o_t hf c4
        refine lv_iload_n hx hb dX3_truestOf_66 rfl (lv_at hl 1 rfl) ?_
        cases hf
        exact b_iret hx hb hr hlk hE hW () rfl trivial rfl dX3_truestOf_67
      · have hf := o_f hf c4
        refine lv_iload_n hx hb dX3_truestOf_12 rfl (lv_at hl 1 rfl) ?_
        refine lv_iconst (v := (-1)) hx hb dX3_truestOf_13 (by decide) ?_
        refine lv_icmp_eq (tgt := 54) hx hb dX3_truestOf_14 (by decide) (fun c5 => ?_) (fun c5 => ?_)
        · have hf := o_t hf c5
          refine lv_iload_n hx hb dX3_truestOf_54 rfl (lv_at hl 0 rfl) ?_
          refine lv_goto (tgt := 59) hx hb dX3_truestOf_55 (by decide) ?_
          refine lv_istore_n (lv' := [(1, .int v3), (2, .int v3), (0, .ref (adM 0))]) hx hb dX3_truestOf_59 rfl hl (by decide) rfl (fun ls hl => ?_)
          obtain ⟨v6, ev6, hf⟩ := o_ls hf
          refine lv_iinc (v := v6) (lv' := [(2, .int v6), (1, .int v3), (0, .ref (adM 0))]) hx hb dX3_truestOf_60 hl (k := 1) rfl ev6 (by decide) rfl (fun ls hl => ?_)
          refine lv_goto (tgt := 4) hx hb dX3_truestOf_63 (by decide) ?_
          exact ih1 _ _ _ _ _ hW (lv_sub hl [0, 1, 2] rfl) hf
        · have hf := o_f hf c5
          refine lv_aload_n hx hb dX3_truestOf_17 rfl (lv_at hl 2 rfl) ?_
          refine b_get hx hb hts in_X3 hown hW 0 0 3 10 rfl mW_0 rfl (by decide) ⟨rfl, rfl, rfl⟩ (hts _ q1469) mW_g10 dX3_truestOf_18 ?_
          refine lv_iload_n hx hb dX3_truestOf_21 rfl (lv_at hl 0 rfl) ?_
          obtain ⟨h7, hf⟩ := o_cs hf
          refine b_agrI hx hb hW 0 17 rfl mW_17 h7 dX3_truestOf_22 ?_
          refine lv_iconst (v := 0) hx hb dX3_truestOf_23 (by decide) ?_
          refine b_iald hx hb hW 0 (18 + ix v3) rfl (mW_r18 (inB_lt h7)) (by decide) dX3_truestOf_24 ?_
          refine lv_aload_n hx hb dX3_truestOf_25 rfl (lv_at hl 2 rfl) ?_
          refine b_get hx hb hts in_X3 hown hW 0 0 3 10 rfl mW_0 rfl (by decide) ⟨rfl, rfl, rfl⟩ (hts _ q1469) mW_g10 dX3_truestOf_26 ?_
          refine lv_iload_n hx hb dX3_truestOf_29 rfl (lv_at hl 0 rfl) ?_
          refine b_agrI hx hb hW 0 17 rfl mW_17 h7 dX3_truestOf_30 ?_
          refine lv_iconst (v := 3) hx hb dX3_truestOf_31 (by decide) ?_
          refine b_iald hx hb hW 0 (18 + ix v3) rfl (mW_r18 (inB_lt h7)) (by decide) dX3_truestOf_32 ?_
          refine lv_isub hx hb dX3_truestOf_33 ?_
          refine lv_aload_n hx hb dX3_truestOf_34 rfl (lv_at hl 2 rfl) ?_
          refine b_get hx hb hts in_X3 hown hW 0 0 3 10 rfl mW_0 rfl (by decide) ⟨rfl, rfl, rfl⟩ (hts _ q1469) mW_g10 dX3_truestOf_35 ?_
          refine lv_iload_n hx hb dX3_truestOf_38 rfl (lv_at hl 1 rfl) ?_
          obtain ⟨h8, hf⟩ := o_cs hf
          refine b_agrI hx hb hW 0 17 rfl mW_17 h8 dX3_truestOf_39 ?_
          refine lv_iconst (v := 0) hx hb dX3_truestOf_40 (by decide) ?_
          refine b_iald hx hb hW 0 (18 + ix v2) rfl (mW_r18 (inB_lt h8)) (by decide) dX3_truestOf_41 ?_
          refine lv_aload_n hx hb dX3_truestOf_42 rfl (lv_at hl 2 rfl) ?_
          refine b_get hx hb hts in_X3 hown hW 0 0 3 10 rfl mW_0 rfl (by decide) ⟨rfl, rfl, rfl⟩ (hts _ q1469) mW_g10 dX3_truestOf_43 ?_
          refine lv_iload_n hx hb dX3_truestOf_46 rfl (lv_at hl 1 rfl) ?_
          refine b_agrI hx hb hW 0 17 rfl mW_17 h8 dX3_truestOf_47 ?_
          refine lv_iconst (v := 3) hx hb dX3_truestOf_48 (by decide) ?_
          refine b_iald hx hb hW 0 (18 + ix v2) rfl (mW_r18 (inB_lt h8)) (by decide) dX3_truestOf_49 ?_
          refine lv_isub hx hb dX3_truestOf_50 ?_
          refine lv_icmp_le (tgt := 58) hx hb dX3_truestOf_51 (by decide) (fun c9 => ?_) (fun c9 => ?_)
          · have hf := o_t hf c9
            refine lv_iload_n hx hb dX3_truestOf_58 rfl (lv_at hl 1 rfl) ?_
            refine lv_istore_n (lv' := [(1, .int v2), (2, .int v3), (0, .ref (adM 0))]) hx hb dX3_truestOf_59 rfl hl (by decide) rfl (fun ls hl => ?_)
            obtain ⟨v10, ev10, hf⟩ := o_ls hf
            refine lv_iinc (v := v10) (lv' := [(2, .int v10), (1, .int v2), (0, .ref (adM 0))]) hx hb dX3_truestOf_60 hl (k := 1) rfl ev10 (by decide) rfl (fun ls hl => ?_)
            refine lv_goto (tgt := 4) hx hb dX3_truestOf_63 (by decide) ?_
            exact ih1 _ _ _ _ _ hW (lv_sub hl [0, 1, 2] rfl) hf
          · have hf := o_f hf c9
            refine lv_iload_n hx hb dX3_truestOf_54 rfl (lv_at hl 0 rfl) ?_
            refine lv_goto (tgt := 59) hx hb dX3_truestOf_55 (by decide) ?_
            refine lv_istore_n (lv' := [(1, .int v3), (2, .int v3), (0, .ref (adM 0))]) hx hb dX3_truestOf_59 rfl hl (by decide) rfl (fun ls hl => ?_)
            obtain ⟨v11, ev11, hf⟩ := o_ls hf
            refine lv_iinc (v := v11) (lv' := [(2, .int v11), (1, .int v3), (0, .ref (adM 0))]) hx hb dX3_truestOf_60 hl (k := 1) rfl ev11 (by decide) rfl (fun ls hl => ?_)
            refine lv_goto (tgt := 4) hx hb dX3_truestOf_63 (by decide) ?_
            exact ih1 _ _ _ _ _ hW (lv_sub hl [0, 1, 2] rfl) hf
  exact L1 _ _ _ _ _ _ hW (lv_sub hl [0, 1, 2] rfl) hf
def f_X3_truest (fu : Nat) (M : BC) : Option (Int32 × BC) :=
 o_b1 (f_X3_truestOf fu M) fun (r1 : Int32) =>
 (if r1 = (-1) then
 o_b2 (f_X3_refuse M (-5)) fun (r3 : Int32) (M4 : BC) =>
 some (r3, M4)
 else
 some (r1, M))
abbrev rm_X3_truest : Room := { frames := 1, cells := 0, slots := 0, locals := 22 }
set_option maxHeartbeats 4000000 in
set_option maxRecDepth 100000 in
theorem m_X3_truest (l : Launch) (D : va_G) (g : Nat → ClassId) (sz : Nat) (adM : Nat → Nat) (kM : Option Nat) (tM : Option Nat) (fu : Nat) (M : BC) (rO : Int32) (MO : BC) (hf : f_X3_truest fu M = some (rO, MO)) : bMet (S := Unit) l yX3_truest (ws_ yX3_truest cX3_truest 2 (some .int)) rm_X3_truest D g sz [.ref (adM 0)] [mW g adM kM tM M] (fun _ => True) (fun _ => some (.int rO)) (fun _ => [mW g adM kM tM MO]) := by
  refine b_met (by decide) (Nat.le_of_ble_eq_true rfl) ?_
  intro p e s m args below meth c A Q ls hx hb hml hr hlk hown hname hts hE hl hW
  revert hW; generalize s.heap = H; intro hW
  have hl : lv_has ls 2 [(0, .ref (adM 0))] := hl
  rw [f_X3_truest] at hf
  refine lv_aload_n hx hb dX3_truest_0 rfl (lv_at hl 0 rfl) ?_
  obtain ⟨r1, hc1, hf⟩ := o_b1s hf
  have hp1 : List.Perm [mW g adM kM tM M] ([mW g adM kM tM M] ++ []) := b_perm [0] [] 1 rfl rfl rfl rfl
  refine b_call0 ⟨rfl, rfl⟩ (va_runV (As := []) (rest := []) ⟨hx, hb, hml, hown, hts⟩ (m_X3_truestOf l D g H.size adM kM tM fu M r1 hc1) (cwV 0 hts (lw_V q1866 q1868 qs64 q79 q1869) rfl rfl rfl (by decide +kernel) ⟨Nat.le_of_ble_eq_true rfl, Nat.le_of_ble_eq_true rfl⟩) (b_preV (pp := 0) (q := 0) hW hp1 rfl mW_0 rfl) rfl rfl hl.1 rfl (lv_room (Nat.le_of_ble_eq_true rfl)) dX3_truest_1 ⟨Nat.le_of_ble_eq_true rfl, Nat.le_of_ble_eq_true rfl⟩) hW hp1 (fun _ _ H locs hW => ?_)
  have hW : bW D g A s H locs [mW g adM kM tM M] := hW
  refine lv_istore_n (lv' := [(1, .int r1), (0, .ref (adM 0))]) hx hb dX3_truest_4 rfl hl (by decide) rfl (fun ls hl => ?_)
  refine lv_iload_n hx hb dX3_truest_5 rfl (lv_at hl 0 rfl) ?_
  refine lv_iconst (v := (-1)) hx hb dX3_truest_6 (by decide) ?_
  refine lv_icmp_ne (tgt := 19) hx hb dX3_truest_7 (by decide) (fun c2 => ?_) (fun c2 => ?_)
  · have hf := o_f hf c2
    refine lv_iload_n hx hb dX3_truest_19 rfl (lv_at hl 0 rfl) ?_
    cases hf
    exact b_iret hx hb hr hlk hE hW () rfl trivial rfl dX3_truest_20
  · have hf := o_t hf c2
    refine lv_aload_n hx hb dX3_truest_10 rfl (lv_at hl 1 rfl) ?_
    refine lv_bipush (v := (-5)) hx hb dX3_truest_11 (by decide) ?_
    obtain ⟨r3, M4, hc4, hf⟩ := o_b2s hf
    have hp4 : List.Perm [mW g adM kM tM M] ([mW g adM kM tM M] ++ []) := b_perm [0] [] 1 rfl rfl rfl rfl
    refine b_call0 ⟨rfl, rfl⟩ (va_runV (As := [.int (-5)]) (rest := []) ⟨hx, hb, hml, hown, hts⟩ (m_X3_refuse l D g H.size adM kM tM M (-5) r3 M4 hc4) (cwV 1 hts (lw_V q1572 q1574 qs33 q79 q1575) rfl rfl rfl (by decide +kernel) ⟨Nat.le_of_ble_eq_true rfl, Nat.le_of_ble_eq_true rfl⟩) (b_preV (pp := 0) (q := 0) hW hp4 rfl mW_0 rfl) rfl rfl hl.1 rfl (lv_room (Nat.le_of_ble_eq_true rfl)) dX3_truest_13 ⟨Nat.le_of_ble_eq_true rfl, Nat.le_of_ble_eq_true rfl⟩) hW hp4 (fun _ _ H locs hW => ?_)
    have hW : bW D g A s H locs [mW g adM kM tM M4] := hW
    refine lv_goto (tgt := 20) hx hb dX3_truest_16 (by decide) ?_
    cases hf
    exact b_iret hx hb hr hlk hE hW () rfl trivial rfl dX3_truest_20
def f_X3_wrongBy (M : BC) (x1 : Int32) : Option Int32 :=
 o_ck (inB x1 6) (o_lt ((M.1 (18 + ix x1) (ix 4)) - (M.1 (18 + ix x1) (ix 0))) fun (v2 : Int32) =>
 (if (0 : Int32) ≤ v2 then
 some v2
 else
 some (-v2)))
abbrev rm_X3_wrongBy : Room := { frames := 0, cells := 0, slots := 0, locals := 0 }
set_option maxHeartbeats 4000000 in
set_option maxRecDepth 100000 in
theorem m_X3_wrongBy (l : Launch) (D : va_G) (g : Nat → ClassId) (sz : Nat) (adM : Nat → Nat) (kM : Option Nat) (tM : Option Nat) (M : BC) (x1 : Int32) (rO : Int32) (hf : f_X3_wrongBy M x1 = some rO) : bMet (S := Unit) l yX3_wrongBy (ws_ yX3_wrongBy cX3_wrongBy 3 (some .int)) rm_X3_wrongBy D g sz [.ref (adM 0), .int x1] [mW g adM kM tM M] (fun _ => True) (fun _ => some (.int rO)) (fun _ => [mW g adM kM tM M]) := by
  refine b_met (by decide) (Nat.le_of_ble_eq_true rfl) ?_
  intro p e s m args below meth c A Q ls hx hb hml hr hlk hown hname hts hE hl hW
  revert hW; generalize s.heap = H; intro hW
  have hl : lv_has ls 3 [(0, .ref (adM 0)), (1, .int x1)] := hl
  rw [f_X3_wrongBy] at hf
  refine lv_aload_n hx hb dX3_wrongBy_0 rfl (lv_at hl 0 rfl) ?_
  refine b_get hx hb hts in_X3 hown hW 0 0 3 10 rfl mW_0 rfl (by decide) ⟨rfl, rfl, rfl⟩ (hts _ q1469) mW_g10 dX3_wrongBy_1 ?_
  refine lv_iload_n hx hb dX3_wrongBy_4 rfl (lv_at hl 1 rfl) ?_
  obtain ⟨h1, hf⟩ := o_cs hf
  refine b_agrI hx hb hW 0 17 rfl mW_17 h1 dX3_wrongBy_5 ?_
  refine lv_iconst (v := 4) hx hb dX3_wrongBy_6 (by decide) ?_
  refine b_iald hx hb hW 0 (18 + ix x1) rfl (mW_r18 (inB_lt h1)) (by decide) dX3_wrongBy_7 ?_
  refine lv_aload_n hx hb dX3_wrongBy_8 rfl (lv_at hl 0 rfl) ?_
  refine b_get hx hb hts in_X3 hown hW 0 0 3 10 rfl mW_0 rfl (by decide) ⟨rfl, rfl, rfl⟩ (hts _ q1469) mW_g10 dX3_wrongBy_9 ?_
  refine lv_iload_n hx hb dX3_wrongBy_12 rfl (lv_at hl 1 rfl) ?_
  refine b_agrI hx hb hW 0 17 rfl mW_17 h1 dX3_wrongBy_13 ?_
  refine lv_iconst (v := 0) hx hb dX3_wrongBy_14 (by decide) ?_
  refine b_iald hx hb hW 0 (18 + ix x1) rfl (mW_r18 (inB_lt h1)) (by decide) dX3_wrongBy_15 ?_
  refine lv_isub hx hb dX3_wrongBy_16 ?_
  obtain ⟨v2, ev2, hf⟩ := o_ls hf
  refine b_topi ev2 ?_
  refine lv_istore_n (lv' := [(2, .int v2), (0, .ref (adM 0)), (1, .int x1)]) hx hb dX3_wrongBy_17 rfl hl (by decide) rfl (fun ls hl => ?_)
  refine lv_iload_n hx hb dX3_wrongBy_18 rfl (lv_at hl 0 rfl) ?_
  refine lv_if_ge (tgt := 27) hx hb dX3_wrongBy_19 (by decide) (fun c3 => ?_) (fun c3 => ?_)
  · have hf := o_t hf c3
    refine lv_iload_n hx hb dX3_wrongBy_27 rfl (lv_at hl 0 rfl) ?_
    cases hf
    exact b_iret hx hb hr hlk hE hW () rfl trivial rfl dX3_wrongBy_28
  · have hf := o_f hf c3
    refine lv_iload_n hx hb dX3_wrongBy_22 rfl (lv_at hl 0 rfl) ?_
    refine lv_ineg hx hb dX3_wrongBy_23 ?_
    refine lv_goto (tgt := 28) hx hb dX3_wrongBy_24 (by decide) ?_
    cases hf
    exact b_iret hx hb hr hlk hE hW () rfl trivial rfl dX3_wrongBy_28
def f_X3_oldest_L4 (M : BC) (rec1 : (Int32 × Int32) → Option Int32) : Int32 × Int32 → Option Int32
  | (v2, v3) =>
    (if (M.1 0 1) ≤ v3 then
     some v2
     else
     o_ck (inB v3 6) ((if (M.1 (18 + ix v3) (ix 4)) = (-1) then
     o_lt (v3 + 1) fun (v7 : Int32) =>
     rec1 (v2, v7)
     else
     (if v2 = (-1) then
     o_lt (v3 + 1) fun (v9 : Int32) =>
     rec1 (v3, v9)
     else
     o_b1 (f_X3_wrongBy M v3) fun (r10 : Int32) =>
     o_b1 (f_X3_wrongBy M v2) fun (r11 : Int32) =>
     (if r10 ≤ r11 then
     o_lt (v3 + 1) fun (v13 : Int32) =>
     rec1 (v2, v13)
     else
     o_lt (v3 + 1) fun (v14 : Int32) =>
     rec1 (v3, v14))))))
def f_X3_oldest (fu : Nat) (M : BC) : Option Int32 :=
 o_lp (f_X3_oldest_L4 M) fu ((-1), 0)
abbrev rm_X3_oldest : Room := { frames := 1, cells := 0, slots := 0, locals := 22 }
set_option maxHeartbeats 4000000 in
set_option maxRecDepth 100000 in
theorem m_X3_oldest (l : Launch) (D : va_G) (g : Nat → ClassId) (sz : Nat) (adM : Nat → Nat) (kM : Option Nat) (tM : Option Nat) (fu : Nat) (M : BC) (rO : Int32) (hf : f_X3_oldest fu M = some rO) : bMet (S := Unit) l yX3_oldest (ws_ yX3_oldest cX3_oldest 4 (some .int)) rm_X3_oldest D g sz [.ref (adM 0)] [mW g adM kM tM M] (fun _ => True) (fun _ => some (.int rO)) (fun _ => [mW g adM kM tM M]) := by
  refine b_met (by decide) (Nat.le_of_ble_eq_true rfl) ?_
  intro p e s m args below meth c A Q ls hx hb hml hr hlk hown hname hts hE hl hW
  revert hW; generalize s.heap = H; intro hW
  have hl : lv_has ls 4 [(0, .ref (adM 0))] := hl
  rw [f_X3_oldest] at hf
  refine lv_iconst (v := (-1)) hx hb dX3_oldest_0 (by decide) ?_
  refine lv_istore_n (lv' := [(1, .int (-1)), (0, .ref (adM 0))]) hx hb dX3_oldest_1 rfl hl (by decide) rfl (fun ls hl => ?_)
  refine lv_iconst (v := 0) hx hb dX3_oldest_2 (by decide) ?_
  refine lv_istore_n (lv' := [(2, .int 0), (1, .int (-1)), (0, .ref (adM 0))]) hx hb dX3_oldest_3 rfl hl (by decide) rfl (fun ls hl => ?_)
  obtain ⟨stp1, est1, hf⟩ := o_ln hf
  have L1 : ∀ (n : Nat) (v2 : Int32) (v3 : Int32) (H : Heap) (locs : List Loc) (ls : Array Slot), bW D g A s H locs [mW g adM kM tM M] → lv_has ls 4 [(2, .int v3), (1, .int v2), (0, .ref (adM 0))] → o_lp stp1 n (v2, v3) = some rO → W p l e rm_X3_oldest s m args below meth c H locs 0 0 Q (F0 m 4 ls []) := by
    intro n1
    induction n1 with
    | zero => intro v2 v3 H locs ls hW hl hf; exact (o_lz hf).elim
    | succ n1 ih1 =>
      intro v2 v3 H locs ls hW hl hf
      have hf := o_lu est1 hf
      rw [f_X3_oldest_L4] at hf
      refine lv_iload_n hx hb dX3_oldest_4 rfl (lv_at hl 0 rfl) ?_
      refine lv_aload_n hx hb dX3_oldest_5 rfl (lv_at hl 2 rfl) ?_
      refine b_get hx hb hts in_X3 hown hW 0 0 3 9 rfl mW_0 rfl (by decide) ⟨rfl, rfl, rfl⟩ (hts _ q1468) mW_g9 dX3_oldest_6 ?_
      refine lv_icmp_ge (tgt := 64) hx hb dX3_oldest_9 (by decide) (fun c4 => ?_) (fun c4 => ?_)
      · have hf := o_t hf c4
        refine lv_iload_n hx hb dX3_oldest_64 rfl (lv_at hl 1 rfl) ?_
        cases hf
        exact b_iret hx hb hr hlk hE hW () rfl trivial rfl dX3_oldest_65
      · have hf := o_f hf c4
        refine lv_aload_n hx hb dX3_oldest_12 rfl (lv_at hl 2 rfl) ?_
        refine b_get hx hb hts in_X3 hown hW 0 0 3 10 rfl mW_0 rfl (by decide) ⟨rfl, rfl, rfl⟩ (hts _ q1469) mW_g10 dX3_oldest_13 ?_
        refine lv_iload_n hx hb dX3_oldest_16 rfl (lv_at hl 0 rfl) ?_
        obtain ⟨h5, hf⟩ := o_cs hf
        refine b_agrI hx hb hW 0 17 rfl mW_17 h5 dX3_oldest_17 ?_
        refine lv_iconst (v := 4) hx hb dX3_oldest_18 (by decide) ?_
        refine b_iald hx hb hW 0 (18 + ix v3) rfl (mW_r18 (inB_lt h5)) (by decide) dX3_oldest_19 ?_
        refine lv_iconst (v := (-1)) hx hb dX3_oldest_20 (by decide) ?_
        refine lv_icmp_eq (tgt := 28) hx hb dX3_oldest_21 (by decide) (fun c6 => ?_) (fun c6 => ?_)
        · have hf := o_t hf c6
          refine lv_iconst (v := 0) hx hb dX3_oldest_28 (by decide) ?_
          refine lv_istore_n (lv' := [(3, .int 0), (2, .int v3), (1, .int v2), (0, .ref (adM 0))]) hx hb dX3_oldest_29 rfl hl (by decide) rfl (fun ls hl => ?_)
          refine lv_iload_n hx hb dX3_oldest_30 rfl (lv_at hl 0 rfl) ?_
          refine lv_if_eq (tgt := 56) hx hb dX3_oldest_31 (by decide) (fun hc => ?_) (fun hc => absurd hc (by decide))
          refine lv_iload_n hx hb dX3_oldest_56 rfl (lv_at hl 2 rfl) ?_
          refine lv_istore_n (lv' := [(1, .int v2), (3, .int 0), (2, .int v3), (0, .ref (adM 0))]) hx hb dX3_oldest_57 rfl hl (by decide) rfl (fun ls hl => ?_)
          obtain ⟨v7, ev7, hf⟩ := o_ls hf
          refine lv_iinc (v := v7) (lv' := [(2, .int v7), (1, .int v2), (3, .int 0), (0, .ref (adM 0))]) hx hb dX3_oldest_58 hl (k := 2) rfl ev7 (by decide) rfl (fun ls hl => ?_)
          refine lv_goto (tgt := 4) hx hb dX3_oldest_61 (by decide) ?_
          exact ih1 _ _ _ _ _ hW (lv_sub hl [0, 1, 3] rfl) hf
        · have hf := o_f hf c6
          refine lv_iconst (v := 1) hx hb dX3_oldest_24 (by decide) ?_
          refine lv_goto (tgt := 29) hx hb dX3_oldest_25 (by decide) ?_
          refine lv_istore_n (lv' := [(3, .int 1), (2, .int v3), (1, .int v2), (0, .ref (adM 0))]) hx hb dX3_oldest_29 rfl hl (by decide) rfl (fun ls hl => ?_)
          refine lv_iload_n hx hb dX3_oldest_30 rfl (lv_at hl 0 rfl) ?_
          refine lv_if_eq (tgt := 56) hx hb dX3_oldest_31 (by decide) (fun hc => absurd hc (by decide)) (fun hc => ?_)
          refine lv_iload_n hx hb dX3_oldest_34 rfl (lv_at hl 2 rfl) ?_
          refine lv_iconst (v := (-1)) hx hb dX3_oldest_35 (by decide) ?_
          refine lv_icmp_eq (tgt := 52) hx hb dX3_oldest_36 (by decide) (fun c8 => ?_) (fun c8 => ?_)
          · have hf := o_t hf c8
            refine lv_iload_n hx hb dX3_oldest_52 rfl (lv_at hl 1 rfl) ?_
            refine lv_goto (tgt := 57) hx hb dX3_oldest_53 (by decide) ?_
            refine lv_istore_n (lv' := [(1, .int v3), (3, .int 1), (2, .int v3), (0, .ref (adM 0))]) hx hb dX3_oldest_57 rfl hl (by decide) rfl (fun ls hl => ?_)
            obtain ⟨v9, ev9, hf⟩ := o_ls hf
            refine lv_iinc (v := v9) (lv' := [(2, .int v9), (1, .int v3), (3, .int 1), (0, .ref (adM 0))]) hx hb dX3_oldest_58 hl (k := 2) rfl ev9 (by decide) rfl (fun ls hl => ?_)
            refine lv_goto (tgt := 4) hx hb dX3_oldest_61 (by decide) ?_
            exact ih1 _ _ _ _ _ hW (lv_sub hl [0, 1, 3] rfl) hf
          · have hf := o_f hf c8
            refine lv_aload_n hx hb dX3_oldest_39 rfl (lv_at hl 3 rfl) ?_
            refine lv_iload_n hx hb dX3_oldest_40 rfl (lv_at hl 1 rfl) ?_
            obtain ⟨r10, hc10, hf⟩ := o_b1s hf
            have hp10 : List.Perm [mW g adM kM tM M] ([mW g adM kM tM M] ++ []) := b_perm [0] [] 1 rfl rfl rfl rfl
            refine b_call0 ⟨rfl, rfl⟩ (va_runV (As := [.int v3]) (rest := []) ⟨hx, hb, hml, hown, hts⟩ (m_X3_wrongBy l D g H.size adM kM tM M v3 r10 hc10) (cwV 1 hts (lw_V q1874 q1876 qs65 q79 q1877) rfl rfl rfl (by decide +kernel) ⟨Nat.le_of_ble_eq_true rfl, Nat.le_of_ble_eq_true rfl⟩) (b_preV (pp := 0) (q := 0) hW hp10 rfl mW_0 rfl) rfl rfl hl.1 rfl (lv_room (Nat.le_of_ble_eq_true rfl)) dX3_oldest_41 ⟨Nat.le_of_ble_eq_true rfl, Nat.le_of_ble_eq_true rfl⟩) hW hp10 (fun _ _ H locs hW => ?_)
            have hW : bW D g A s H locs [mW g adM kM tM M] := hW
            refine lv_aload_n hx hb dX3_oldest_44 rfl (lv_at hl 3 rfl) ?_
            refine lv_iload_n hx hb dX3_oldest_45 rfl (lv_at hl 2 rfl) ?_
            obtain ⟨r11, hc11, hf⟩ := o_b1s hf
            have hp11 : List.Perm [mW g adM kM tM M] ([mW g adM kM tM M] ++ []) := b_perm [0] [] 1 rfl rfl rfl rfl
            refine b_call0 ⟨rfl, rfl⟩ (va_runV (As := [.int v2]) (rest := [.int r10]) ⟨hx, hb, hml, hown, hts⟩ (m_X3_wrongBy l D g H.size adM kM tM M v2 r11 hc11) (cwV 1 hts (lw_V q1874 q1876 qs65 q79 q1877) rfl rfl rfl (by decide +kernel) ⟨Nat.le_of_ble_eq_true rfl, Nat.le_of_ble_eq_true rfl⟩) (b_preV (pp := 0) (q := 0) hW hp11 rfl mW_0 rfl) rfl rfl hl.1 rfl (lv_room (Nat.le_of_ble_eq_true rfl)) dX3_oldest_46 ⟨Nat.le_of_ble_eq_true rfl, Nat.le_of_ble_eq_true rfl⟩) hW hp11 (fun _ _ H locs hW => ?_)
            have hW : bW D g A s H locs [mW g adM kM tM M] := hW
            refine lv_icmp_le (tgt := 56) hx hb dX3_oldest_49 (by decide) (fun c12 => ?_) (fun c12 => ?_)
            · have hf := o_t hf c12
              refine lv_iload_n hx hb dX3_oldest_56 rfl (lv_at hl 2 rfl) ?_
              refine lv_istore_n (lv' := [(1, .int v2), (3, .int 1), (2, .int v3), (0, .ref (adM 0))]) hx hb dX3_oldest_57 rfl hl (by decide) rfl (fun ls hl => ?_)
              obtain ⟨v13, ev13, hf⟩ := o_ls hf
              refine lv_iinc (v := v13) (lv' := [(2, .int v13), (1, .int v2), (3, .int 1), (0, .ref (adM 0))]) hx hb dX3_oldest_58 hl (k := 2) rfl ev13 (by decide) rfl (fun ls hl => ?_)
              refine lv_goto (tgt := 4) hx hb dX3_oldest_61 (by decide) ?_
              exact ih1 _ _ _ _ _ hW (lv_sub hl [0, 1, 3] rfl) hf
            · have hf := o_f hf c12
              refine lv_iload_n hx hb dX3_oldest_52 rfl (lv_at hl 1 rfl) ?_
              refine lv_goto (tgt := 57) hx hb dX3_oldest_53 (by decide) ?_
              refine lv_istore_n (lv' := [(1, .int v3), (3, .int 1), (2, .int v3), (0, .ref (adM 0))]) hx hb dX3_oldest_57 rfl hl (by decide) rfl (fun ls hl => ?_)
              obtain ⟨v14, ev14, hf⟩ := o_ls hf
              refine lv_iinc (v := v14) (lv' := [(2, .int v14), (1, .int v3), (3, .int 1), (0, .ref (adM 0))]) hx hb dX3_oldest_58 hl (k := 2) rfl ev14 (by decide) rfl (fun ls hl => ?_)
              refine lv_goto (tgt := 4) hx hb dX3_oldest_61 (by decide) ?_
              exact ih1 _ _ _ _ _ hW (lv_sub hl [0, 1, 3] rfl) hf
  exact L1 _ _ _ _ _ _ hW (lv_sub hl [0, 1, 2] rfl) hf
def f_X3_enough_L29 (x1 : Int32) (fu : Nat) (v4 : Int32) (rec5 : (Int32 × Int32 × BC) → Option (Int32 × BC)) : Int32 × Int32 × BC → Option (Int32 × BC)
  | (v6, v7, M8) =>
    (if (20 : Int32) < v7 then
     o_lt (bI M8 (18 + ix x1) (upd (M8.1 (18 + ix x1)) (ix 2) v4)) fun (M10 : BC) =>
     some (v6, M10)
     else
     (if v6 = (-1) then
     o_lt (bI M8 (18 + ix x1) (upd (M8.1 (18 + ix x1)) (ix 2) v7)) fun (M13 : BC) =>
     o_b1 (f_X3_goThrough fu M13) fun (M14 : BC) =>
     (if (M14.1 40 (ix x1)) ≤ 0 then
     o_lt (v7 + 1) fun (v16 : Int32) =>
     rec5 ((-1), v16, M14)
     else
     o_lt (v7 + 1) fun (v17 : Int32) =>
     rec5 (v7, v17, M14))
     else
     o_lt (bI M8 (18 + ix x1) (upd (M8.1 (18 + ix x1)) (ix 2) v4)) fun (M12 : BC) =>
     some (v6, M12)))
def f_X3_enough (fu : Nat) (M : BC) (x1 : Int32) : Option (Int32 × BC) :=
 o_b1 (f_X3_isInn M x1) fun (r1 : Int32) =>
 (if r1 = 0 then
 o_b2 (f_X3_refuse M (-2)) fun (r18 : Int32) (M19 : BC) =>
 some (r18, M19)
 else
 o_ck (inB x1 6) (o_lt (M.1 (18 + ix x1) (ix 2)) fun (v4 : Int32) =>
 o_lp (f_X3_enough_L29 x1 fu v4) fu ((-1), 1, M)))
abbrev rm_X3_enough : Room := { frames := 4, cells := 0, slots := 0, locals := 95 }
set_option maxHeartbeats 4000000 in
set_option maxRecDepth 100000 in
theorem m_X3_enough (l : Launch) (D : va_G) (g : Nat → ClassId) (sz : Nat) (adM : Nat → Nat) (kM : Option Nat) (tM : Option Nat) (fu : Nat) (M : BC) (x1 : Int32) (rO : Int32) (MO : BC) (hf : f_X3_enough fu M x1 = some (rO, MO)) : bMet (S := Unit) l yX3_enough (ws_ yX3_enough cX3_enough 5 (some .int)) rm_X3_enough D g sz [.ref (adM 0), .int x1] [mW g adM kM tM M] (fun _ => True) (fun _ => some (.int rO)) (fun _ => [mW g adM kM tM MO]) := by
  refine b_met (by decide) (Nat.le_of_ble_eq_true rfl) ?_
  intro p e s m args below meth c A Q ls hx hb hml hr hlk hown hname hts hE hl hW
  revert hW; generalize s.heap = H; intro hW
  have hl : lv_has ls 5 [(0, .ref (adM 0)), (1, .int x1)] := hl
  rw [f_X3_enough] at hf
  refine lv_aload_n hx hb dX3_enough_0 rfl (lv_at hl 0 rfl) ?_
  refine lv_iload_n hx hb dX3_enough_1 rfl (lv_at hl 1 rfl) ?_
  obtain ⟨r1, hc1, hf⟩ := o_b1s hf
  have hp1 : List.Perm [mW g adM kM tM M] ([mW g adM kM tM M] ++ []) := b_perm [0] [] 1 rfl rfl rfl rfl
  refine b_call0 ⟨rfl, rfl⟩ (va_runV (As := [.int x1]) (rest := []) ⟨hx, hb, hml, hown, hts⟩ (m_X3_isInn l D g H.size adM kM tM M x1 r1 hc1) (cwV 1 hts (lw_V q1651 q1653 qs41 q79 q1654) rfl rfl rfl (by decide +kernel) ⟨Nat.le_of_ble_eq_true rfl, Nat.le_of_ble_eq_true rfl⟩) (b_preV (pp := 0) (q := 0) hW hp1 rfl mW_0 rfl) rfl rfl hl.1 rfl (lv_room (Nat.le_of_ble_eq_true rfl)) dX3_enough_2 ⟨Nat.le_of_ble_eq_true rfl, Nat.le_of_ble_eq_true rfl⟩) hW hp1 (fun _ _ H locs hW => ?_)
  have hW : bW D g A s H locs [mW g adM kM tM M] := hW
  refine lv_if_ne (tgt := 15) hx hb dX3_enough_5 (by decide) (fun c2 => ?_) (fun c2 => ?_)
  · have hf := o_f hf c2
    refine lv_aload_n hx hb dX3_enough_15 rfl (lv_at hl 0 rfl) ?_
    refine b_get hx hb hts in_X3 hown hW 0 0 3 10 rfl mW_0 rfl (by decide) ⟨rfl, rfl, rfl⟩ (hts _ q1469) mW_g10 dX3_enough_16 ?_
    refine lv_iload_n hx hb dX3_enough_19 rfl (lv_at hl 1 rfl) ?_
    obtain ⟨h3, hf⟩ := o_cs hf
    refine b_agrI hx hb hW 0 17 rfl mW_17 h3 dX3_enough_20 ?_
    refine lv_iconst (v := 2) hx hb dX3_enough_21 (by decide) ?_
    refine b_iald hx hb hW 0 (18 + ix x1) rfl (mW_r18 (inB_lt h3)) (by decide) dX3_enough_22 ?_
    obtain ⟨v4, ev4, hf⟩ := o_ls hf
    refine b_topi ev4 ?_
    refine lv_istore_n (lv' := [(2, .int v4), (0, .ref (adM 0)), (1, .int x1)]) hx hb dX3_enough_23 rfl hl (by decide) rfl (fun ls hl => ?_)
    refine lv_iconst (v := (-1)) hx hb dX3_enough_24 (by decide) ?_
    refine lv_istore_n (lv' := [(3, .int (-1)), (2, .int v4), (0, .ref (adM 0)), (1, .int x1)]) hx hb dX3_enough_25 rfl hl (by decide) rfl (fun ls hl => ?_)
    refine lv_iconst (v := 1) hx hb dX3_enough_26 (by decide) ?_
    refine lv_istore (lv' := [(4, .int 1), (3, .int (-1)), (2, .int v4), (0, .ref (adM 0)), (1, .int x1)]) hx hb dX3_enough_27 hl (by decide) rfl (fun ls hl => ?_)
    obtain ⟨stp5, est5, hf⟩ := o_ln hf
    have L5 : ∀ (n : Nat) (v6 : Int32) (v7 : Int32) (M8 : BC) (H : Heap) (locs : List Loc) (ls : Array Slot), bW D g A s H locs [mW g adM kM tM M8] → lv_has ls 5 [(4, .int v7), (3, .int v6), (2, .int v4), (0, .ref (adM 0)), (1, .int x1)] → o_lp stp5 n (v6, v7, M8) = some (rO, MO) → W p l e rm_X3_enough s m args below meth c H locs 0 0 Q (F0 m 29 ls []) := by
      intro n5
      induction n5 with
      | zero => intro v6 v7 M8 H locs ls hW hl hf; exact (o_lz hf).elim
      | succ n5 ih5 =>
        intro v6 v7 M8 H locs ls hW hl hf
        have hf := o_lu est5 hf
        rw [f_X3_enough_L29] at hf
        refine lv_iload hx hb dX3_enough_29 (lv_at hl 0 rfl) ?_
        refine lv_bipush (v := 20) hx hb dX3_enough_31 (by decide) ?_
        refine lv_icmp_gt (tgt := 77) hx hb dX3_enough_33 (by decide) (fun c9 => ?_) (fun c9 => ?_)
        · have hf := o_t hf c9
          refine lv_aload_n hx hb dX3_enough_77 rfl (lv_at hl 3 rfl) ?_
          refine b_get hx hb hts in_X3 hown hW 0 0 3 10 rfl mW_0 rfl (by decide) ⟨rfl, rfl, rfl⟩ (hts _ q1469) mW_g10 dX3_enough_78 ?_
          refine lv_iload_n hx hb dX3_enough_81 rfl (lv_at hl 4 rfl) ?_
          refine b_agrI hx hb hW 0 17 rfl mW_17 h3 dX3_enough_82 ?_
          refine lv_iconst (v := 2) hx hb dX3_enough_83 (by decide) ?_
          refine lv_iload_n hx hb dX3_enough_84 rfl (lv_at hl 2 rfl) ?_
          obtain ⟨M10, eM10, hf⟩ := o_ls hf
          refine b_iast hx hb hW 0 (18 + ix x1) rfl (mW_r18 (inB_lt h3)) (mW_rs18 (inB_lt h3) eM10) rfl (by decide) dX3_enough_85 (fun H locs hW => ?_)
          have hW : bW D g A s H locs [mW g adM kM tM M10] := hW
          refine lv_iload_n hx hb dX3_enough_86 rfl (lv_at hl 1 rfl) ?_
          cases hf
          exact b_iret hx hb hr hlk hE hW () rfl trivial rfl dX3_enough_87
        · have hf := o_f hf c9
          refine lv_iload_n hx hb dX3_enough_36 rfl (lv_at hl 1 rfl) ?_
          refine lv_iconst (v := (-1)) hx hb dX3_enough_37 (by decide) ?_
          refine lv_icmp_ne (tgt := 77) hx hb dX3_enough_38 (by decide) (fun c11 => ?_) (fun c11 => ?_)
          · have hf := o_f hf c11
            refine lv_aload_n hx hb dX3_enough_77 rfl (lv_at hl 3 rfl) ?_
            refine b_get hx hb hts in_X3 hown hW 0 0 3 10 rfl mW_0 rfl (by decide) ⟨rfl, rfl, rfl⟩ (hts _ q1469) mW_g10 dX3_enough_78 ?_
            refine lv_iload_n hx hb dX3_enough_81 rfl (lv_at hl 4 rfl) ?_
            refine b_agrI hx hb hW 0 17 rfl mW_17 h3 dX3_enough_82 ?_
            refine lv_iconst (v := 2) hx hb dX3_enough_83 (by decide) ?_
            refine lv_iload_n hx hb dX3_enough_84 rfl (lv_at hl 2 rfl) ?_
            obtain ⟨M12, eM12, hf⟩ := o_ls hf
            refine b_iast hx hb hW 0 (18 + ix x1) rfl (mW_r18 (inB_lt h3)) (mW_rs18 (inB_lt h3) eM12) rfl (by decide) dX3_enough_85 (fun H locs hW => ?_)
            have hW : bW D g A s H locs [mW g adM kM tM M12] := hW
            refine lv_iload_n hx hb dX3_enough_86 rfl (lv_at hl 1 rfl) ?_
            cases hf
            exact b_iret hx hb hr hlk hE hW () rfl trivial rfl dX3_enough_87
          · have hf := o_t hf c11
            refine lv_aload_n hx hb dX3_enough_41 rfl (lv_at hl 3 rfl) ?_
            refine b_get hx hb hts in_X3 hown hW 0 0 3 10 rfl mW_0 rfl (by decide) ⟨rfl, rfl, rfl⟩ (hts _ q1469) mW_g10 dX3_enough_42 ?_
            refine lv_iload_n hx hb dX3_enough_45 rfl (lv_at hl 4 rfl) ?_
            refine b_agrI hx hb hW 0 17 rfl mW_17 h3 dX3_enough_46 ?_
            refine lv_iconst (v := 2) hx hb dX3_enough_47 (by decide) ?_
            refine lv_iload hx hb dX3_enough_48 (lv_at hl 0 rfl) ?_
            obtain ⟨M13, eM13, hf⟩ := o_ls hf
            refine b_iast hx hb hW 0 (18 + ix x1) rfl (mW_r18 (inB_lt h3)) (mW_rs18 (inB_lt h3) eM13) rfl (by decide) dX3_enough_50 (fun H locs hW => ?_)
            have hW : bW D g A s H locs [mW g adM kM tM M13] := hW
            refine lv_aload_n hx hb dX3_enough_51 rfl (lv_at hl 3 rfl) ?_
            obtain ⟨M14, hc14, hf⟩ := o_b1s hf
            have hp14 : List.Perm [mW g adM kM tM M13] ([mW g adM kM tM M13] ++ []) := b_perm [0] [] 1 rfl rfl rfl rfl
            refine b_call0 ⟨rfl, rfl⟩ (va_runV (As := []) (rest := []) ⟨hx, hb, hml, hown, hts⟩ (m_X3_goThrough l D g H.size adM kM tM fu M13 M14 hc14) (cwV 0 hts (lw_V q1806 q1808 qs57 q79 q1809) rfl rfl rfl (by decide +kernel) ⟨Nat.le_of_ble_eq_true rfl, Nat.le_of_ble_eq_true rfl⟩) (b_preV (pp := 0) (q := 0) hW hp14 rfl mW_0 rfl) rfl rfl hl.1 rfl (lv_room (Nat.le_of_ble_eq_true rfl)) dX3_enough_52 ⟨Nat.le_of_ble_eq_true rfl, Nat.le_of_ble_eq_true rfl⟩) hW hp14 (fun _ _ H locs hW => ?_)
            have hW : bW D g A s H locs [mW g adM kM tM M14] := hW
            refine lv_aload_n hx hb dX3_enough_55 rfl (lv_at hl 3 rfl) ?_
            refine b_get hx hb hts in_X3 hown hW 0 0 3 27 rfl mW_0 rfl (by decide) ⟨rfl, rfl, rfl⟩ (hts _ q1486) mW_g27 dX3_enough_56 ?_
            refine lv_iload_n hx hb dX3_enough_59 rfl (lv_at hl 4 rfl) ?_
            refine b_iald hx hb hW 0 40 rfl mW_40 h3 dX3_enough_60 ?_
            refine lv_if_le (tgt := 69) hx hb dX3_enough_61 (by decide) (fun c15 => ?_) (fun c15 => ?_)
            · have hf := o_t hf c15
              refine lv_iconst (v := (-1)) hx hb dX3_enough_69 (by decide) ?_
              refine lv_istore_n (lv' := [(3, .int (-1)), (4, .int v7), (2, .int v4), (0, .ref (adM 0)), (1, .int x1)]) hx hb dX3_enough_70 rfl hl (by decide) rfl (fun ls hl => ?_)
              obtain ⟨v16, ev16, hf⟩ := o_ls hf
              refine lv_iinc (v := v16) (lv' := [(4, .int v16), (3, .int (-1)), (2, .int v4), (0, .ref (adM 0)), (1, .int x1)]) hx hb dX3_enough_71 hl (k := 1) rfl ev16 (by decide) rfl (fun ls hl => ?_)
              refine lv_goto (tgt := 29) hx hb dX3_enough_74 (by decide) ?_
              exact ih5 _ _ _ _ _ _ hW (lv_sub hl [0, 1, 2, 3, 4] rfl) hf
            · have hf := o_f hf c15
              refine lv_iload hx hb dX3_enough_64 (lv_at hl 0 rfl) ?_
              refine lv_goto (tgt := 70) hx hb dX3_enough_66 (by decide) ?_
              refine lv_istore_n (lv' := [(3, .int v7), (4, .int v7), (2, .int v4), (0, .ref (adM 0)), (1, .int x1)]) hx hb dX3_enough_70 rfl hl (by decide) rfl (fun ls hl => ?_)
              obtain ⟨v17, ev17, hf⟩ := o_ls hf
              refine lv_iinc (v := v17) (lv' := [(4, .int v17), (3, .int v7), (2, .int v4), (0, .ref (adM 0)), (1, .int x1)]) hx hb dX3_enough_71 hl (k := 1) rfl ev17 (by decide) rfl (fun ls hl => ?_)
              refine lv_goto (tgt := 29) hx hb dX3_enough_74 (by decide) ?_
              exact ih5 _ _ _ _ _ _ hW (lv_sub hl [0, 1, 2, 3, 4] rfl) hf
    exact L5 _ _ _ _ _ _ _ hW (lv_sub hl [0, 1, 2, 3, 4] rfl) hf
  · have hf := o_t hf c2
    refine lv_aload_n hx hb dX3_enough_8 rfl (lv_at hl 0 rfl) ?_
    refine lv_bipush (v := (-2)) hx hb dX3_enough_9 (by decide) ?_
    obtain ⟨r18, M19, hc19, hf⟩ := o_b2s hf
    have hp19 : List.Perm [mW g adM kM tM M] ([mW g adM kM tM M] ++ []) := b_perm [0] [] 1 rfl rfl rfl rfl
    refine b_call0 ⟨rfl, rfl⟩ (va_runV (As := [.int (-2)]) (rest := []) ⟨hx, hb, hml, hown, hts⟩ (m_X3_refuse l D g H.size adM kM tM M (-2) r18 M19 hc19) (cwV 1 hts (lw_V q1572 q1574 qs33 q79 q1575) rfl rfl rfl (by decide +kernel) ⟨Nat.le_of_ble_eq_true rfl, Nat.le_of_ble_eq_true rfl⟩) (b_preV (pp := 0) (q := 0) hW hp19 rfl mW_0 rfl) rfl rfl hl.1 rfl (lv_room (Nat.le_of_ble_eq_true rfl)) dX3_enough_11 ⟨Nat.le_of_ble_eq_true rfl, Nat.le_of_ble_eq_true rfl⟩) hW hp19 (fun _ _ H locs hW => ?_)
    have hW : bW D g A s H locs [mW g adM kM tM M19] := hW
    cases hf
    exact b_iret hx hb hr hlk hE hW () rfl trivial rfl dX3_enough_14
def f_X3_better_L32 (x1 : Int32) (fu : Nat) (v4 : Int32) (rec5 : (Int32 × Int32 × Int32 × BC) → Option (Int32 × BC)) : Int32 × Int32 × Int32 × BC → Option (Int32 × BC)
  | (v6, v7, v8, M9) =>
    (if (5 : Int32) < v8 then
     o_lt (bI M9 (25 + ix x1) (upd (M9.1 (25 + ix x1)) (ix 0) v4)) fun (M11 : BC) =>
     some (v6, M11)
     else
     o_lt (bI M9 (25 + ix x1) (upd (M9.1 (25 + ix x1)) (ix 0) v8)) fun (M12 : BC) =>
     o_b1 (f_X3_goThrough fu M12) fun (M13 : BC) =>
     o_b1 (f_X3_joyOf fu M13 x1) fun (r14 : Int32) =>
     (if v8 = 0 then
     o_lt (v8 + 1) fun (v16 : Int32) =>
     rec5 (v8, r14, v16, M13)
     else
     (if r14 ≤ v7 then
     o_lt (v8 + 1) fun (v18 : Int32) =>
     rec5 (v6, v7, v18, M13)
     else
     o_lt (v8 + 1) fun (v19 : Int32) =>
     rec5 (v8, r14, v19, M13))))
def f_X3_better (fu : Nat) (M : BC) (x1 : Int32) : Option (Int32 × BC) :=
 o_b1 (f_X3_isGoer M x1) fun (r1 : Int32) =>
 (if r1 = 0 then
 o_b2 (f_X3_refuse M (-2)) fun (r20 : Int32) (M21 : BC) =>
 some (r20, M21)
 else
 o_ck (inB x1 6) (o_lt (M.1 (25 + ix x1) (ix 0)) fun (v4 : Int32) =>
 o_lp (f_X3_better_L32 x1 fu v4) fu (0, 0, 0, M)))
abbrev rm_X3_better : Room := { frames := 4, cells := 0, slots := 0, locals := 95 }
set_option maxHeartbeats 4000000 in
set_option maxRecDepth 100000 in
theorem m_X3_better (l : Launch) (D : va_G) (g : Nat → ClassId) (sz : Nat) (adM : Nat → Nat) (kM : Option Nat) (tM : Option Nat) (fu : Nat) (M : BC) (x1 : Int32) (rO : Int32) (MO : BC) (hf : f_X3_better fu M x1 = some (rO, MO)) : bMet (S := Unit) l yX3_better (ws_ yX3_better cX3_better 7 (some .int)) rm_X3_better D g sz [.ref (adM 0), .int x1] [mW g adM kM tM M] (fun _ => True) (fun _ => some (.int rO)) (fun _ => [mW g adM kM tM MO]) := by
  refine b_met (by decide) (Nat.le_of_ble_eq_true rfl) ?_
  intro p e s m args below meth c A Q ls hx hb hml hr hlk hown hname hts hE hl hW
  revert hW; generalize s.heap = H; intro hW
  have hl : lv_has ls 7 [(0, .ref (adM 0)), (1, .int x1)] := hl
  rw [f_X3_better] at hf
  refine lv_aload_n hx hb dX3_better_0 rfl (lv_at hl 0 rfl) ?_
  refine lv_iload_n hx hb dX3_better_1 rfl (lv_at hl 1 rfl) ?_
  obtain ⟨r1, hc1, hf⟩ := o_b1s hf
  have hp1 : List.Perm [mW g adM kM tM M] ([mW g adM kM tM M] ++ []) := b_perm [0] [] 1 rfl rfl rfl rfl
  refine b_call0 ⟨rfl, rfl⟩ (va_runV (As := [.int x1]) (rest := []) ⟨hx, hb, hml, hown, hts⟩ (m_X3_isGoer l D g H.size adM kM tM M x1 r1 hc1) (cwV 1 hts (lw_V q1603 q1605 qs35 q79 q1606) rfl rfl rfl (by decide +kernel) ⟨Nat.le_of_ble_eq_true rfl, Nat.le_of_ble_eq_true rfl⟩) (b_preV (pp := 0) (q := 0) hW hp1 rfl mW_0 rfl) rfl rfl hl.1 rfl (lv_room (Nat.le_of_ble_eq_true rfl)) dX3_better_2 ⟨Nat.le_of_ble_eq_true rfl, Nat.le_of_ble_eq_true rfl⟩) hW hp1 (fun _ _ H locs hW => ?_)
  have hW : bW D g A s H locs [mW g adM kM tM M] := hW
  refine lv_if_ne (tgt := 15) hx hb dX3_better_5 (by decide) (fun c2 => ?_) (fun c2 => ?_)
  · have hf := o_f hf c2
    refine lv_aload_n hx hb dX3_better_15 rfl (lv_at hl 0 rfl) ?_
    refine b_get hx hb hts in_X3 hown hW 0 0 3 12 rfl mW_0 rfl (by decide) ⟨rfl, rfl, rfl⟩ (hts _ q1471) mW_g12 dX3_better_16 ?_
    refine lv_iload_n hx hb dX3_better_19 rfl (lv_at hl 1 rfl) ?_
    obtain ⟨h3, hf⟩ := o_cs hf
    refine b_agrI hx hb hW 0 24 rfl mW_24 h3 dX3_better_20 ?_
    refine lv_iconst (v := 0) hx hb dX3_better_21 (by decide) ?_
    refine b_iald hx hb hW 0 (25 + ix x1) rfl (mW_r25 (inB_lt h3)) (by decide) dX3_better_22 ?_
    obtain ⟨v4, ev4, hf⟩ := o_ls hf
    refine b_topi ev4 ?_
    refine lv_istore_n (lv' := [(2, .int v4), (0, .ref (adM 0)), (1, .int x1)]) hx hb dX3_better_23 rfl hl (by decide) rfl (fun ls hl => ?_)
    refine lv_iconst (v := 0) hx hb dX3_better_24 (by decide) ?_
    refine lv_istore_n (lv' := [(3, .int 0), (2, .int v4), (0, .ref (adM 0)), (1, .int x1)]) hx hb dX3_better_25 rfl hl (by decide) rfl (fun ls hl => ?_)
    refine lv_iconst (v := 0) hx hb dX3_better_26 (by decide) ?_
    refine lv_istore (lv' := [(4, .int 0), (3, .int 0), (2, .int v4), (0, .ref (adM 0)), (1, .int x1)]) hx hb dX3_better_27 hl (by decide) rfl (fun ls hl => ?_)
    refine lv_iconst (v := 0) hx hb dX3_better_29 (by decide) ?_
    refine lv_istore (lv' := [(5, .int 0), (4, .int 0), (3, .int 0), (2, .int v4), (0, .ref (adM 0)), (1, .int x1)]) hx hb dX3_better_30 hl (by decide) rfl (fun ls hl => ?_)
    obtain ⟨stp5, est5, hf⟩ := o_ln hf
    have L5 : ∀ (n : Nat) (v6 : Int32) (v7 : Int32) (v8 : Int32) (M9 : BC) (H : Heap) (locs : List Loc) (ls : Array Slot), bW D g A s H locs [mW g adM kM tM M9] → lv_has ls 7 [(5, .int v8), (4, .int v7), (3, .int v6), (2, .int v4), (0, .ref (adM 0)), (1, .int x1)] → o_lp stp5 n (v6, v7, v8, M9) = some (rO, MO) → W p l e rm_X3_better s m args below meth c H locs 0 0 Q (F0 m 32 ls []) := by
      intro n5
      induction n5 with
      | zero => intro v6 v7 v8 M9 H locs ls hW hl hf; exact (o_lz hf).elim
      | succ n5 ih5 =>
        intro v6 v7 v8 M9 H locs ls hW hl hf
        have hf := o_lu est5 hf
        rw [f_X3_better_L32] at hf
        refine lv_iload hx hb dX3_better_32 (lv_at hl 0 rfl) ?_
        refine lv_iconst (v := 5) hx hb dX3_better_34 (by decide) ?_
        refine lv_icmp_gt (tgt := 84) hx hb dX3_better_35 (by decide) (fun c10 => ?_) (fun c10 => ?_)
        · have hf := o_t hf c10
          refine lv_aload_n hx hb dX3_better_84 rfl (lv_at hl 4 rfl) ?_
          refine b_get hx hb hts in_X3 hown hW 0 0 3 12 rfl mW_0 rfl (by decide) ⟨rfl, rfl, rfl⟩ (hts _ q1471) mW_g12 dX3_better_85 ?_
          refine lv_iload_n hx hb dX3_better_88 rfl (lv_at hl 5 rfl) ?_
          refine b_agrI hx hb hW 0 24 rfl mW_24 h3 dX3_better_89 ?_
          refine lv_iconst (v := 0) hx hb dX3_better_90 (by decide) ?_
          refine lv_iload_n hx hb dX3_better_91 rfl (lv_at hl 3 rfl) ?_
          obtain ⟨M11, eM11, hf⟩ := o_ls hf
          refine b_iast hx hb hW 0 (25 + ix x1) rfl (mW_r25 (inB_lt h3)) (mW_rs25 (inB_lt h3) eM11) rfl (by decide) dX3_better_92 (fun H locs hW => ?_)
          have hW : bW D g A s H locs [mW g adM kM tM M11] := hW
          refine lv_iload_n hx hb dX3_better_93 rfl (lv_at hl 2 rfl) ?_
          cases hf
          exact b_iret hx hb hr hlk hE hW () rfl trivial rfl dX3_better_94
        · have hf := o_f hf c10
          refine lv_aload_n hx hb dX3_better_38 rfl (lv_at hl 4 rfl) ?_
          refine b_get hx hb hts in_X3 hown hW 0 0 3 12 rfl mW_0 rfl (by decide) ⟨rfl, rfl, rfl⟩ (hts _ q1471) mW_g12 dX3_better_39 ?_
          refine lv_iload_n hx hb dX3_better_42 rfl (lv_at hl 5 rfl) ?_
          refine b_agrI hx hb hW 0 24 rfl mW_24 h3 dX3_better_43 ?_
          refine lv_iconst (v := 0) hx hb dX3_better_44 (by decide) ?_
          refine lv_iload hx hb dX3_better_45 (lv_at hl 0 rfl) ?_
          obtain ⟨M12, eM12, hf⟩ := o_ls hf
          refine b_iast hx hb hW 0 (25 + ix x1) rfl (mW_r25 (inB_lt h3)) (mW_rs25 (inB_lt h3) eM12) rfl (by decide) dX3_better_47 (fun H locs hW => ?_)
          have hW : bW D g A s H locs [mW g adM kM tM M12] := hW
          refine lv_aload_n hx hb dX3_better_48 rfl (lv_at hl 4 rfl) ?_
          obtain ⟨M13, hc13, hf⟩ := o_b1s hf
          have hp13 : List.Perm [mW g adM kM tM M12] ([mW g adM kM tM M12] ++ []) := b_perm [0] [] 1 rfl rfl rfl rfl
          refine b_call0 ⟨rfl, rfl⟩ (va_runV (As := []) (rest := []) ⟨hx, hb, hml, hown, hts⟩ (m_X3_goThrough l D g H.size adM kM tM fu M12 M13 hc13) (cwV 0 hts (lw_V q1806 q1808 qs57 q79 q1809) rfl rfl rfl (by decide +kernel) ⟨Nat.le_of_ble_eq_true rfl, Nat.le_of_ble_eq_true rfl⟩) (b_preV (pp := 0) (q := 0) hW hp13 rfl mW_0 rfl) rfl rfl hl.1 rfl (lv_room (Nat.le_of_ble_eq_true rfl)) dX3_better_49 ⟨Nat.le_of_ble_eq_true rfl, Nat.le_of_ble_eq_true rfl⟩) hW hp13 (fun _ _ H locs hW => ?_)
          have hW : bW D g A s H locs [mW g adM kM tM M13] := hW
          refine lv_aload_n hx hb dX3_better_52 rfl (lv_at hl 4 rfl) ?_
          refine lv_iload_n hx hb dX3_better_53 rfl (lv_at hl 5 rfl) ?_
          obtain ⟨r14, hc14, hf⟩ := o_b1s hf
          have hp14 : List.Perm [mW g adM kM tM M13] ([mW g adM kM tM M13] ++ []) := b_perm [0] [] 1 rfl rfl rfl rfl
          refine b_call0 ⟨rfl, rfl⟩ (va_runV (As := [.int x1]) (rest := []) ⟨hx, hb, hml, hown, hts⟩ (m_X3_joyOf l D g H.size adM kM tM fu M13 x1 r14 hc14) (cwV 1 hts (lw_V q1842 q1844 qs62 q79 q1845) rfl rfl rfl (by decide +kernel) ⟨Nat.le_of_ble_eq_true rfl, Nat.le_of_ble_eq_true rfl⟩) (b_preV (pp := 0) (q := 0) hW hp14 rfl mW_0 rfl) rfl rfl hl.1 rfl (lv_room (Nat.le_of_ble_eq_true rfl)) dX3_better_54 ⟨Nat.le_of_ble_eq_true rfl, Nat.le_of_ble_eq_true rfl⟩) hW hp14 (fun _ _ H locs hW => ?_)
          have hW : bW D g A s H locs [mW g adM kM tM M13] := hW
          refine lv_istore (lv' := [(6, .int r14), (5, .int v8), (4, .int v7), (3, .int v6), (2, .int v4), (0, .ref (adM 0)), (1, .int x1)]) hx hb dX3_better_57 hl (by decide) rfl (fun ls hl => ?_)
          refine lv_iload hx hb dX3_better_59 (lv_at hl 1 rfl) ?_
          refine lv_if_eq (tgt := 71) hx hb dX3_better_61 (by decide) (fun c15 => ?_) (fun c15 => ?_)
          · have hf := o_t hf c15
            refine lv_iload hx hb dX3_better_71 (lv_at hl 1 rfl) ?_
            refine lv_istore_n (lv' := [(3, .int v8), (6, .int r14), (5, .int v8), (4, .int v7), (2, .int v4), (0, .ref (adM 0)), (1, .int x1)]) hx hb dX3_better_73 rfl hl (by decide) rfl (fun ls hl => ?_)
            refine lv_iload hx hb dX3_better_74 (lv_at hl 1 rfl) ?_
            refine lv_istore (lv' := [(4, .int r14), (3, .int v8), (6, .int r14), (5, .int v8), (2, .int v4), (0, .ref (adM 0)), (1, .int x1)]) hx hb dX3_better_76 hl (by decide) rfl (fun ls hl => ?_)
            obtain ⟨v16, ev16, hf⟩ := o_ls hf
            refine lv_iinc (v := v16) (lv' := [(5, .int v16), (4, .int r14), (3, .int v8), (6, .int r14), (2, .int v4), (0, .ref (adM 0)), (1, .int x1)]) hx hb dX3_better_78 hl (k := 3) rfl ev16 (by decide) rfl (fun ls hl => ?_)
            refine lv_goto (tgt := 32) hx hb dX3_better_81 (by decide) ?_
            exact ih5 _ _ _ _ _ _ _ hW (lv_sub hl [0, 1, 2, 4, 5, 6] rfl) hf
          · have hf := o_f hf c15
            refine lv_iload hx hb dX3_better_64 (lv_at hl 0 rfl) ?_
            refine lv_iload hx hb dX3_better_66 (lv_at hl 2 rfl) ?_
            refine lv_icmp_le (tgt := 78) hx hb dX3_better_68 (by decide) (fun c17 => ?_) (fun c17 => ?_)
            · have hf := o_t hf c17
              obtain ⟨v18, ev18, hf⟩ := o_ls hf
              refine lv_iinc (v := v18) (lv' := [(5, .int v18), (6, .int r14), (4, .int v7), (3, .int v6), (2, .int v4), (0, .ref (adM 0)), (1, .int x1)]) hx hb dX3_better_78 hl (k := 1) rfl ev18 (by decide) rfl (fun ls hl => ?_)
              refine lv_goto (tgt := 32) hx hb dX3_better_81 (by decide) ?_
              exact ih5 _ _ _ _ _ _ _ hW (lv_sub hl [0, 2, 3, 4, 5, 6] rfl) hf
            · have hf := o_f hf c17
              refine lv_iload hx hb dX3_better_71 (lv_at hl 1 rfl) ?_
              refine lv_istore_n (lv' := [(3, .int v8), (6, .int r14), (5, .int v8), (4, .int v7), (2, .int v4), (0, .ref (adM 0)), (1, .int x1)]) hx hb dX3_better_73 rfl hl (by decide) rfl (fun ls hl => ?_)
              refine lv_iload hx hb dX3_better_74 (lv_at hl 1 rfl) ?_
              refine lv_istore (lv' := [(4, .int r14), (3, .int v8), (6, .int r14), (5, .int v8), (2, .int v4), (0, .ref (adM 0)), (1, .int x1)]) hx hb dX3_better_76 hl (by decide) rfl (fun ls hl => ?_)
              obtain ⟨v19, ev19, hf⟩ := o_ls hf
              refine lv_iinc (v := v19) (lv' := [(5, .int v19), (4, .int r14), (3, .int v8), (6, .int r14), (2, .int v4), (0, .ref (adM 0)), (1, .int x1)]) hx hb dX3_better_78 hl (k := 3) rfl ev19 (by decide) rfl (fun ls hl => ?_)
              refine lv_goto (tgt := 32) hx hb dX3_better_81 (by decide) ?_
              exact ih5 _ _ _ _ _ _ _ hW (lv_sub hl [0, 1, 2, 4, 5, 6] rfl) hf
    exact L5 _ _ _ _ _ _ _ _ hW (lv_sub hl [0, 1, 2, 3, 4, 5] rfl) hf
  · have hf := o_t hf c2
    refine lv_aload_n hx hb dX3_better_8 rfl (lv_at hl 0 rfl) ?_
    refine lv_bipush (v := (-2)) hx hb dX3_better_9 (by decide) ?_
    obtain ⟨r20, M21, hc21, hf⟩ := o_b2s hf
    have hp21 : List.Perm [mW g adM kM tM M] ([mW g adM kM tM M] ++ []) := b_perm [0] [] 1 rfl rfl rfl rfl
    refine b_call0 ⟨rfl, rfl⟩ (va_runV (As := [.int (-2)]) (rest := []) ⟨hx, hb, hml, hown, hts⟩ (m_X3_refuse l D g H.size adM kM tM M (-2) r20 M21 hc21) (cwV 1 hts (lw_V q1572 q1574 qs33 q79 q1575) rfl rfl rfl (by decide +kernel) ⟨Nat.le_of_ble_eq_true rfl, Nat.le_of_ble_eq_true rfl⟩) (b_preV (pp := 0) (q := 0) hW hp21 rfl mW_0 rfl) rfl rfl hl.1 rfl (lv_room (Nat.le_of_ble_eq_true rfl)) dX3_better_11 ⟨Nat.le_of_ble_eq_true rfl, Nat.le_of_ble_eq_true rfl⟩) hW hp21 (fun _ _ H locs hW => ?_)
    have hW : bW D g A s H locs [mW g adM kM tM M21] := hW
    cases hf
    exact b_iret hx hb hr hlk hE hW () rfl trivial rfl dX3_better_14
def f_X3_isChoice_L2 (M : BC) (x1 : Int32) (fu : Nat) (rec1 : Int32 → Option Int32) (v2 : Int32) : Option Int32 :=
 (if (M.1 0 2) ≤ v2 then
 some 0
 else
 o_b1 (f_X3_isByBook M v2) fun (r4 : Int32) =>
 (if r4 = 0 then
 o_lt (v2 + 1) fun (v6 : Int32) =>
 rec1 v6
 else
 o_b1 (f_X3_choiceOf fu M v2) fun (r7 : Int32) =>
 (if r7 = x1 then
 some 1
 else
 o_lt (v2 + 1) fun (v9 : Int32) =>
 rec1 v9)))
def f_X3_isChoice (fu : Nat) (M : BC) (x1 : Int32) : Option Int32 :=
 o_lp (f_X3_isChoice_L2 M x1 fu) fu 0
abbrev rm_X3_isChoice : Room := { frames := 4, cells := 0, slots := 0, locals := 92 }
set_option maxHeartbeats 4000000 in
set_option maxRecDepth 100000 in
theorem m_X3_isChoice (l : Launch) (D : va_G) (g : Nat → ClassId) (sz : Nat) (adM : Nat → Nat) (kM : Option Nat) (tM : Option Nat) (fu : Nat) (M : BC) (x1 : Int32) (rO : Int32) (hf : f_X3_isChoice fu M x1 = some rO) : bMet (S := Unit) l yX3_isChoice (ws_ yX3_isChoice cX3_isChoice 3 (some .boolean)) rm_X3_isChoice D g sz [.ref (adM 0), .int x1] [mW g adM kM tM M] (fun _ => True) (fun _ => some (.int rO)) (fun _ => [mW g adM kM tM M]) := by
  refine b_met (by decide) (Nat.le_of_ble_eq_true rfl) ?_
  intro p e s m args below meth c A Q ls hx hb hml hr hlk hown hname hts hE hl hW
  revert hW; generalize s.heap = H; intro hW
  have hl : lv_has ls 3 [(0, .ref (adM 0)), (1, .int x1)] := hl
  rw [f_X3_isChoice] at hf
  refine lv_iconst (v := 0) hx hb dX3_isChoice_0 (by decide) ?_
  refine lv_istore_n (lv' := [(2, .int 0), (0, .ref (adM 0)), (1, .int x1)]) hx hb dX3_isChoice_1 rfl hl (by decide) rfl (fun ls hl => ?_)
  obtain ⟨stp1, est1, hf⟩ := o_ln hf
  have L1 : ∀ (n : Nat) (v2 : Int32) (H : Heap) (locs : List Loc) (ls : Array Slot), bW D g A s H locs [mW g adM kM tM M] → lv_has ls 3 [(2, .int v2), (0, .ref (adM 0)), (1, .int x1)] → o_lp stp1 n v2 = some rO → W p l e rm_X3_isChoice s m args below meth c H locs 0 0 Q (F0 m 2 ls []) := by
    intro n1
    induction n1 with
    | zero => intro v2 H locs ls hW hl hf; exact (o_lz hf).elim
    | succ n1 ih1 =>
      intro v2 H locs ls hW hl hf
      have hf := o_lu est1 hf
      rw [f_X3_isChoice_L2] at hf
      refine lv_iload_n hx hb dX3_isChoice_2 rfl (lv_at hl 0 rfl) ?_
      refine lv_aload_n hx hb dX3_isChoice_3 rfl (lv_at hl 1 rfl) ?_
      refine b_get hx hb hts in_X3 hown hW 0 0 3 11 rfl mW_0 rfl (by decide) ⟨rfl, rfl, rfl⟩ (hts _ q1470) mW_g11 dX3_isChoice_4 ?_
      refine lv_icmp_ge (tgt := 35) hx hb dX3_isChoice_7 (by decide) (fun c3 => ?_) (fun c3 => ?_)
      · have hf := o_t hf c3
        refine lv_iconst (v := 0) hx hb dX3_isChoice_35 (by decide) ?_
        cases hf
        exact b_zret hx hb hr hlk hE hW () rfl trivial rfl (by decide) dX3_isChoice_36
      · have hf := o_f hf c3
        refine lv_aload_n hx hb dX3_isChoice_10 rfl (lv_at hl 1 rfl) ?_
        refine lv_iload_n hx hb dX3_isChoice_11 rfl (lv_at hl 0 rfl) ?_
        obtain ⟨r4, hc4, hf⟩ := o_b1s hf
        have hp4 : List.Perm [mW g adM kM tM M] ([mW g adM kM tM M] ++ []) := b_perm [0] [] 1 rfl rfl rfl rfl
        refine b_call0 ⟨rfl, rfl⟩ (va_runV (As := [.int v2]) (rest := []) ⟨hx, hb, hml, hown, hts⟩ (m_X3_isByBook l D g H.size adM kM tM M v2 r4 hc4) (cwV 1 hts (lw_V q1854 q1856 qs63 q79 q1857) rfl rfl rfl (by decide +kernel) ⟨Nat.le_of_ble_eq_true rfl, Nat.le_of_ble_eq_true rfl⟩) (b_preV (pp := 0) (q := 0) hW hp4 rfl mW_0 rfl) rfl rfl hl.1 rfl (lv_room (Nat.le_of_ble_eq_true rfl)) dX3_isChoice_12 ⟨Nat.le_of_ble_eq_true rfl, Nat.le_of_ble_eq_true rfl⟩) hW hp4 (fun _ _ H locs hW => ?_)
        have hW : bW D g A s H locs [mW g adM kM tM M] := hW
        refine lv_if_eq (tgt := 29) hx hb dX3_isChoice_15 (by decide) (fun c5 => ?_) (fun c5 => ?_)
        · have hf := o_t hf c5
          obtain ⟨v6, ev6, hf⟩ := o_ls hf
          refine lv_iinc (v := v6) (lv' := [(2, .int v6), (0, .ref (adM 0)), (1, .int x1)]) hx hb dX3_isChoice_29 hl (k := 0) rfl ev6 (by decide) rfl (fun ls hl => ?_)
          refine lv_goto (tgt := 2) hx hb dX3_isChoice_32 (by decide) ?_
          exact ih1 _ _ _ _ hW (lv_sub hl [0, 1, 2] rfl) hf
        · have hf := o_f hf c5
          refine lv_aload_n hx hb dX3_isChoice_18 rfl (lv_at hl 1 rfl) ?_
          refine lv_iload_n hx hb dX3_isChoice_19 rfl (lv_at hl 0 rfl) ?_
          obtain ⟨r7, hc7, hf⟩ := o_b1s hf
          have hp7 : List.Perm [mW g adM kM tM M] ([mW g adM kM tM M] ++ []) := b_perm [0] [] 1 rfl rfl rfl rfl
          refine b_call0 ⟨rfl, rfl⟩ (va_runV (As := [.int v2]) (rest := []) ⟨hx, hb, hml, hown, hts⟩ (m_X3_choiceOf l D g H.size adM kM tM fu M v2 r7 hc7) (cwV 1 hts (lw_V q1615 q1617 qs36 q79 q1618) rfl rfl rfl (by decide +kernel) ⟨Nat.le_of_ble_eq_true rfl, Nat.le_of_ble_eq_true rfl⟩) (b_preV (pp := 0) (q := 0) hW hp7 rfl mW_0 rfl) rfl rfl hl.1 rfl (lv_room (Nat.le_of_ble_eq_true rfl)) dX3_isChoice_20 ⟨Nat.le_of_ble_eq_true rfl, Nat.le_of_ble_eq_true rfl⟩) hW hp7 (fun _ _ H locs hW => ?_)
          have hW : bW D g A s H locs [mW g adM kM tM M] := hW
          refine lv_iload_n hx hb dX3_isChoice_23 rfl (lv_at hl 2 rfl) ?_
          refine lv_icmp_ne (tgt := 29) hx hb dX3_isChoice_24 (by decide) (fun c8 => ?_) (fun c8 => ?_)
          · have hf := o_f hf c8
            obtain ⟨v9, ev9, hf⟩ := o_ls hf
            refine lv_iinc (v := v9) (lv' := [(2, .int v9), (0, .ref (adM 0)), (1, .int x1)]) hx hb dX3_isChoice_29 hl (k := 0) rfl ev9 (by decide) rfl (fun ls hl => ?_)
            refine lv_goto (tgt := 2) hx hb dX3_isChoice_32 (by decide) ?_
            exact ih1 _ _ _ _ hW (lv_sub hl [0, 1, 2] rfl) hf
          · have hf := o_t hf c8
            refine lv_iconst (v := 1) hx hb dX3_isChoice_27 (by decide) ?_
            cases hf
            exact b_zret hx hb hr hlk hE hW () rfl trivial rfl (by decide) dX3_isChoice_28
  exact L1 _ _ _ _ _ hW (lv_sub hl [0, 1, 2] rfl) hf
def f_X3_trust_L26 (x1 : Int32) (fu : Nat) (v3 : Int32) (rec4 : (Int32 × Int32 × BC) → Option (Int32 × BC)) : Int32 × Int32 × BC → Option (Int32 × BC)
  | (v5, v6, M7) =>
    (if v6 < 0 then
     o_lt (bI M7 0 (upd (M7.1 0) 3 v3)) fun (M9 : BC) =>
     some (v5, M9)
     else
     (if v5 = (-1) then
     o_lt (bI M7 0 (upd (M7.1 0) 3 v6)) fun (M12 : BC) =>
     o_b1 (f_X3_isChoice fu M12 x1) fun (r13 : Int32) =>
     (if r13 = 0 then
     o_lt (v6 + (-1)) fun (v15 : Int32) =>
     rec4 ((-1), v15, M12)
     else
     o_lt (v6 + (-1)) fun (v16 : Int32) =>
     rec4 (v6, v16, M12))
     else
     o_lt (bI M7 0 (upd (M7.1 0) 3 v3)) fun (M11 : BC) =>
     some (v5, M11)))
def f_X3_trust (fu : Nat) (M : BC) (x1 : Int32) : Option (Int32 × BC) :=
 o_b1 (f_X3_isInn M x1) fun (r1 : Int32) =>
 (if r1 = 0 then
 o_b2 (f_X3_refuse M (-2)) fun (r17 : Int32) (M18 : BC) =>
 some (r17, M18)
 else
 o_lt (M.1 0 3) fun (v3 : Int32) =>
 o_lp (f_X3_trust_L26 x1 fu v3) fu ((-1), 99, M))
abbrev rm_X3_trust : Room := { frames := 5, cells := 0, slots := 0, locals := 114 }
set_option maxHeartbeats 4000000 in
set_option maxRecDepth 100000 in
theorem m_X3_trust (l : Launch) (D : va_G) (g : Nat → ClassId) (sz : Nat) (adM : Nat → Nat) (kM : Option Nat) (tM : Option Nat) (fu : Nat) (M : BC) (x1 : Int32) (rO : Int32) (MO : BC) (hf : f_X3_trust fu M x1 = some (rO, MO)) : bMet (S := Unit) l yX3_trust (ws_ yX3_trust cX3_trust 5 (some .int)) rm_X3_trust D g sz [.ref (adM 0), .int x1] [mW g adM kM tM M] (fun _ => True) (fun _ => some (.int rO)) (fun _ => [mW g adM kM tM MO]) := by
  refine b_met (by decide) (Nat.le_of_ble_eq_true rfl) ?_
  intro p e s m args below meth c A Q ls hx hb hml hr hlk hown hname hts hE hl hW
  revert hW; generalize s.heap = H; intro hW
  have hl : lv_has ls 5 [(0, .ref (adM 0)), (1, .int x1)] := hl
  rw [f_X3_trust] at hf
  refine lv_aload_n hx hb dX3_trust_0 rfl (lv_at hl 0 rfl) ?_
  refine lv_iload_n hx hb dX3_trust_1 rfl (lv_at hl 1 rfl) ?_
  obtain ⟨r1, hc1, hf⟩ := o_b1s hf
  have hp1 : List.Perm [mW g adM kM tM M] ([mW g adM kM tM M] ++ []) := b_perm [0] [] 1 rfl rfl rfl rfl
  refine b_call0 ⟨rfl, rfl⟩ (va_runV (As := [.int x1]) (rest := []) ⟨hx, hb, hml, hown, hts⟩ (m_X3_isInn l D g H.size adM kM tM M x1 r1 hc1) (cwV 1 hts (lw_V q1651 q1653 qs41 q79 q1654) rfl rfl rfl (by decide +kernel) ⟨Nat.le_of_ble_eq_true rfl, Nat.le_of_ble_eq_true rfl⟩) (b_preV (pp := 0) (q := 0) hW hp1 rfl mW_0 rfl) rfl rfl hl.1 rfl (lv_room (Nat.le_of_ble_eq_true rfl)) dX3_trust_2 ⟨Nat.le_of_ble_eq_true rfl, Nat.le_of_ble_eq_true rfl⟩) hW hp1 (fun _ _ H locs hW => ?_)
  have hW : bW D g A s H locs [mW g adM kM tM M] := hW
  refine lv_if_ne (tgt := 15) hx hb dX3_trust_5 (by decide) (fun c2 => ?_) (fun c2 => ?_)
  · have hf := o_f hf c2
    refine lv_aload_n hx hb dX3_trust_15 rfl (lv_at hl 0 rfl) ?_
    refine b_get hx hb hts in_X3 hown hW 0 0 3 13 rfl mW_0 rfl (by decide) ⟨rfl, rfl, rfl⟩ (hts _ q1472) mW_g13 dX3_trust_16 ?_
    obtain ⟨v3, ev3, hf⟩ := o_ls hf
    refine b_topi ev3 ?_
    refine lv_istore_n (lv' := [(2, .int v3), (0, .ref (adM 0)), (1, .int x1)]) hx hb dX3_trust_19 rfl hl (by decide) rfl (fun ls hl => ?_)
    refine lv_iconst (v := (-1)) hx hb dX3_trust_20 (by decide) ?_
    refine lv_istore_n (lv' := [(3, .int (-1)), (2, .int v3), (0, .ref (adM 0)), (1, .int x1)]) hx hb dX3_trust_21 rfl hl (by decide) rfl (fun ls hl => ?_)
    refine lv_bipush (v := 99) hx hb dX3_trust_22 (by decide) ?_
    refine lv_istore (lv' := [(4, .int 99), (3, .int (-1)), (2, .int v3), (0, .ref (adM 0)), (1, .int x1)]) hx hb dX3_trust_24 hl (by decide) rfl (fun ls hl => ?_)
    obtain ⟨stp4, est4, hf⟩ := o_ln hf
    have L4 : ∀ (n : Nat) (v5 : Int32) (v6 : Int32) (M7 : BC) (H : Heap) (locs : List Loc) (ls : Array Slot), bW D g A s H locs [mW g adM kM tM M7] → lv_has ls 5 [(4, .int v6), (3, .int v5), (2, .int v3), (0, .ref (adM 0)), (1, .int x1)] → o_lp stp4 n (v5, v6, M7) = some (rO, MO) → W p l e rm_X3_trust s m args below meth c H locs 0 0 Q (F0 m 26 ls []) := by
      intro n4
      induction n4 with
      | zero => intro v5 v6 M7 H locs ls hW hl hf; exact (o_lz hf).elim
      | succ n4 ih4 =>
        intro v5 v6 M7 H locs ls hW hl hf
        have hf := o_lu est4 hf
        rw [f_X3_trust_L26] at hf
        refine lv_iload hx hb dX3_trust_26 (lv_at hl 0 rfl) ?_
        refine lv_if_lt (tgt := 63) hx hb dX3_trust_28 (by decide) (fun c8 => ?_) (fun c8 => ?_)
        · have hf := o_t hf c8
          refine lv_aload_n hx hb dX3_trust_63 rfl (lv_at hl 3 rfl) ?_
          refine lv_iload_n hx hb dX3_trust_64 rfl (lv_at hl 2 rfl) ?_
          obtain ⟨M9, eM9, hf⟩ := o_ls hf
          refine b_put hx hb hts in_X3 tyX3 tyX3_ok nmX3 hown hW 0 0 3 13 rfl mW_0 (mW_p13 eM9) rfl rfl (by decide) ⟨rfl, rfl, rfl⟩ (hts _ q1472) rfl (ty := .int) rfl rfl rfl (by rw [mW_l]; decide) dX3_trust_65 (fun H locs hW => ?_)
          have hW : bW D g A s H locs [mW g adM kM tM M9] := hW
          refine lv_iload_n hx hb dX3_trust_68 rfl (lv_at hl 1 rfl) ?_
          cases hf
          exact b_iret hx hb hr hlk hE hW () rfl trivial rfl dX3_trust_69
        · have hf := o_f hf c8
          refine lv_iload_n hx hb dX3_trust_31 rfl (lv_at hl 1 rfl) ?_
          refine lv_iconst (v := (-1)) hx hb dX3_trust_32 (by decide) ?_
          refine lv_icmp_ne (tgt := 63) hx hb dX3_trust_33 (by decide) (fun c10 => ?_) (fun c10 => ?_)
          · have hf := o_f hf c10
            refine lv_aload_n hx hb dX3_trust_63 rfl (lv_at hl 3 rfl) ?_
            refine lv_iload_n hx hb dX3_trust_64 rfl (lv_at hl 2 rfl) ?_
            obtain ⟨M11, eM11, hf⟩ := o_ls hf
            refine b_put hx hb hts in_X3 tyX3 tyX3_ok nmX3 hown hW 0 0 3 13 rfl mW_0 (mW_p13 eM11) rfl rfl (by decide) ⟨rfl, rfl, rfl⟩ (hts _ q1472) rfl (ty := .int) rfl rfl rfl (by rw [mW_l]; decide) dX3_trust_65 (fun H locs hW => ?_)
            have hW : bW D g A s H locs [mW g adM kM tM M11] := hW
            refine lv_iload_n hx hb dX3_trust_68 rfl (lv_at hl 1 rfl) ?_
            cases hf
            exact b_iret hx hb hr hlk hE hW () rfl trivial rfl dX3_trust_69
          · have hf := o_t hf c10
            refine lv_aload_n hx hb dX3_trust_36 rfl (lv_at hl 3 rfl) ?_
            refine lv_iload hx hb dX3_trust_37 (lv_at hl 0 rfl) ?_
            obtain ⟨M12, eM12, hf⟩ := o_ls hf
            refine b_put hx hb hts in_X3 tyX3 tyX3_ok nmX3 hown hW 0 0 3 13 rfl mW_0 (mW_p13 eM12) rfl rfl (by decide) ⟨rfl, rfl, rfl⟩ (hts _ q1472) rfl (ty := .int) rfl rfl rfl (by rw [mW_l]; decide) dX3_trust_39 (fun H locs hW => ?_)
            have hW : bW D g A s H locs [mW g adM kM tM M12] := hW
            refine lv_aload_n hx hb dX3_trust_42 rfl (lv_at hl 3 rfl) ?_
            refine lv_iload_n hx hb dX3_trust_43 rfl (lv_at hl 4 rfl) ?_
            obtain ⟨r13, hc13, hf⟩ := o_b1s hf
            have hp13 : List.Perm [mW g adM kM tM M12] ([mW g adM kM tM M12] ++ []) := b_perm [0] [] 1 rfl rfl rfl rfl
            refine b_call0 ⟨rfl, rfl⟩ (va_runV (As := [.int x1]) (rest := []) ⟨hx, hb, hml, hown, hts⟩ (m_X3_isChoice l D g H.size adM kM tM fu M12 x1 r13 hc13) (cwV 1 hts (lw_V q1890 q1892 qs66 q79 q1893) rfl rfl rfl (by decide +kernel) ⟨Nat.le_of_ble_eq_true rfl, Nat.le_of_ble_eq_true rfl⟩) (b_preV (pp := 0) (q := 0) hW hp13 rfl mW_0 rfl) rfl rfl hl.1 rfl (lv_room (Nat.le_of_ble_eq_true rfl)) dX3_trust_44 ⟨Nat.le_of_ble_eq_true rfl, Nat.le_of_ble_eq_true rfl⟩) hW hp13 (fun _ _ H locs hW => ?_)
            have hW : bW D g A s H locs [mW g adM kM tM M12] := hW
            refine lv_if_eq (tgt := 55) hx hb dX3_trust_47 (by decide) (fun c14 => ?_) (fun c14 => ?_)
            · have hf := o_t hf c14
              refine lv_iconst (v := (-1)) hx hb dX3_trust_55 (by decide) ?_
              refine lv_istore_n (lv' := [(3, .int (-1)), (4, .int v6), (2, .int v3), (0, .ref (adM 0)), (1, .int x1)]) hx hb dX3_trust_56 rfl hl (by decide) rfl (fun ls hl => ?_)
              obtain ⟨v15, ev15, hf⟩ := o_ls hf
              refine lv_iinc (v := v15) (lv' := [(4, .int v15), (3, .int (-1)), (2, .int v3), (0, .ref (adM 0)), (1, .int x1)]) hx hb dX3_trust_57 hl (k := 1) rfl ev15 (by decide) rfl (fun ls hl => ?_)
              refine lv_goto (tgt := 26) hx hb dX3_trust_60 (by decide) ?_
              exact ih4 _ _ _ _ _ _ hW (lv_sub hl [0, 1, 2, 3, 4] rfl) hf
            · have hf := o_f hf c14
              refine lv_iload hx hb dX3_trust_50 (lv_at hl 0 rfl) ?_
              refine lv_goto (tgt := 56) hx hb dX3_trust_52 (by decide) ?_
              refine lv_istore_n (lv' := [(3, .int v6), (4, .int v6), (2, .int v3), (0, .ref (adM 0)), (1, .int x1)]) hx hb dX3_trust_56 rfl hl (by decide) rfl (fun ls hl => ?_)
              obtain ⟨v16, ev16, hf⟩ := o_ls hf
              refine lv_iinc (v := v16) (lv' := [(4, .int v16), (3, .int v6), (2, .int v3), (0, .ref (adM 0)), (1, .int x1)]) hx hb dX3_trust_57 hl (k := 1) rfl ev16 (by decide) rfl (fun ls hl => ?_)
              refine lv_goto (tgt := 26) hx hb dX3_trust_60 (by decide) ?_
              exact ih4 _ _ _ _ _ _ hW (lv_sub hl [0, 1, 2, 3, 4] rfl) hf
    exact L4 _ _ _ _ _ _ _ hW (lv_sub hl [0, 1, 2, 3, 4] rfl) hf
  · have hf := o_t hf c2
    refine lv_aload_n hx hb dX3_trust_8 rfl (lv_at hl 0 rfl) ?_
    refine lv_bipush (v := (-2)) hx hb dX3_trust_9 (by decide) ?_
    obtain ⟨r17, M18, hc18, hf⟩ := o_b2s hf
    have hp18 : List.Perm [mW g adM kM tM M] ([mW g adM kM tM M] ++ []) := b_perm [0] [] 1 rfl rfl rfl rfl
    refine b_call0 ⟨rfl, rfl⟩ (va_runV (As := [.int (-2)]) (rest := []) ⟨hx, hb, hml, hown, hts⟩ (m_X3_refuse l D g H.size adM kM tM M (-2) r17 M18 hc18) (cwV 1 hts (lw_V q1572 q1574 qs33 q79 q1575) rfl rfl rfl (by decide +kernel) ⟨Nat.le_of_ble_eq_true rfl, Nat.le_of_ble_eq_true rfl⟩) (b_preV (pp := 0) (q := 0) hW hp18 rfl mW_0 rfl) rfl rfl hl.1 rfl (lv_room (Nat.le_of_ble_eq_true rfl)) dX3_trust_11 ⟨Nat.le_of_ble_eq_true rfl, Nat.le_of_ble_eq_true rfl⟩) hW hp18 (fun _ _ H locs hW => ?_)
    have hW : bW D g A s H locs [mW g adM kM tM M18] := hW
    cases hf
    exact b_iret hx hb hr hlk hE hW () rfl trivial rfl dX3_trust_14
def f_X3_share (fu : Nat) (M : BC) (x1 : Int32) : Option (Int32 × BC) :=
 o_b1 (f_X3_isGoer M x1) fun (r1 : Int32) =>
 (if r1 = 0 then
 o_b2 (f_X3_refuse M (-2)) fun (r11 : Int32) (M12 : BC) =>
 some (r11, M12)
 else
 o_b1 (f_X3_truestOf fu M) fun (r3 : Int32) =>
 (if r3 = (-1) then
 o_b2 (f_X3_refuse M (-5)) fun (r9 : Int32) (M10 : BC) =>
 some (r9, M10)
 else
 o_b1 (f_X3_goThrough fu M) fun (M5 : BC) =>
 o_ck (inB x1 6) (o_ck (inB r3 6) (o_ck (!decide ((M5.1 (25 + ix x1) (ix 1)) = 0)) (some ((100 * (M5.1 (33 + ix x1) (ix r3))) / (M5.1 (25 + ix x1) (ix 1)), M5))))))
abbrev rm_X3_share : Room := { frames := 4, cells := 0, slots := 0, locals := 95 }
set_option maxHeartbeats 4000000 in
set_option maxRecDepth 100000 in
theorem m_X3_share (l : Launch) (D : va_G) (g : Nat → ClassId) (sz : Nat) (adM : Nat → Nat) (kM : Option Nat) (tM : Option Nat) (fu : Nat) (M : BC) (x1 : Int32) (rO : Int32) (MO : BC) (hf : f_X3_share fu M x1 = some (rO, MO)) : bMet (S := Unit) l yX3_share (ws_ yX3_share cX3_share 3 (some .int)) rm_X3_share D g sz [.ref (adM 0), .int x1] [mW g adM kM tM M] (fun _ => True) (fun _ => some (.int rO)) (fun _ => [mW g adM kM tM MO]) := by
  refine b_met (by decide) (Nat.le_of_ble_eq_true rfl) ?_
  intro p e s m args below meth c A Q ls hx hb hml hr hlk hown hname hts hE hl hW
  revert hW; generalize s.heap = H; intro hW
  have hl : lv_has ls 3 [(0, .ref (adM 0)), (1, .int x1)] := hl
  rw [f_X3_share] at hf
  refine lv_aload_n hx hb dX3_share_0 rfl (lv_at hl 0 rfl) ?_
  refine lv_iload_n hx hb dX3_share_1 rfl (lv_at hl 1 rfl) ?_
  obtain ⟨r1, hc1, hf⟩ := o_b1s hf
  have hp1 : List.Perm [mW g adM kM tM M] ([mW g adM kM tM M] ++ []) := b_perm [0] [] 1 rfl rfl rfl rfl
  refine b_call0 ⟨rfl, rfl⟩ (va_runV (As := [.int x1]) (rest := []) ⟨hx, hb, hml, hown, hts⟩ (m_X3_isGoer l D g H.size adM kM tM M x1 r1 hc1) (cwV 1 hts (lw_V q1603 q1605 qs35 q79 q1606) rfl rfl rfl (by decide +kernel) ⟨Nat.le_of_ble_eq_true rfl, Nat.le_of_ble_eq_true rfl⟩) (b_preV (pp := 0) (q := 0) hW hp1 rfl mW_0 rfl) rfl rfl hl.1 rfl (lv_room (Nat.le_of_ble_eq_true rfl)) dX3_share_2 ⟨Nat.le_of_ble_eq_true rfl, Nat.le_of_ble_eq_true rfl⟩) hW hp1 (fun _ _ H locs hW => ?_)
  have hW : bW D g A s H locs [mW g adM kM tM M] := hW
  refine lv_if_ne (tgt := 15) hx hb dX3_share_5 (by decide) (fun c2 => ?_) (fun c2 => ?_)
  · have hf := o_f hf c2
    refine lv_aload_n hx hb dX3_share_15 rfl (lv_at hl 0 rfl) ?_
    obtain ⟨r3, hc3, hf⟩ := o_b1s hf
    have hp3 : List.Perm [mW g adM kM tM M] ([mW g adM kM tM M] ++ []) := b_perm [0] [] 1 rfl rfl rfl rfl
    refine b_call0 ⟨rfl, rfl⟩ (va_runV (As := []) (rest := []) ⟨hx, hb, hml, hown, hts⟩ (m_X3_truestOf l D g H.size adM kM tM fu M r3 hc3) (cwV 0 hts (lw_V q1866 q1868 qs64 q79 q1869) rfl rfl rfl (by decide +kernel) ⟨Nat.le_of_ble_eq_true rfl, Nat.le_of_ble_eq_true rfl⟩) (b_preV (pp := 0) (q := 0) hW hp3 rfl mW_0 rfl) rfl rfl hl.1 rfl (lv_room (Nat.le_of_ble_eq_true rfl)) dX3_share_16 ⟨Nat.le_of_ble_eq_true rfl, Nat.le_of_ble_eq_true rfl⟩) hW hp3 (fun _ _ H locs hW => ?_)
    have hW : bW D g A s H locs [mW g adM kM tM M] := hW
    refine lv_istore_n (lv' := [(2, .int r3), (0, .ref (adM 0)), (1, .int x1)]) hx hb dX3_share_19 rfl hl (by decide) rfl (fun ls hl => ?_)
    refine lv_iload_n hx hb dX3_share_20 rfl (lv_at hl 0 rfl) ?_
    refine lv_iconst (v := (-1)) hx hb dX3_share_21 (by decide) ?_
    refine lv_icmp_ne (tgt := 32) hx hb dX3_share_22 (by decide) (fun c4 => ?_) (fun c4 => ?_)
    · have hf := o_f hf c4
      refine lv_aload_n hx hb dX3_share_32 rfl (lv_at hl 1 rfl) ?_
      obtain ⟨M5, hc5, hf⟩ := o_b1s hf
      have hp5 : List.Perm [mW g adM kM tM M] ([mW g adM kM tM M] ++ []) := b_perm [0] [] 1 rfl rfl rfl rfl
      refine b_call0 ⟨rfl, rfl⟩ (va_runV (As := []) (rest := []) ⟨hx, hb, hml, hown, hts⟩ (m_X3_goThrough l D g H.size adM kM tM fu M M5 hc5) (cwV 0 hts (lw_V q1806 q1808 qs57 q79 q1809) rfl rfl rfl (by decide +kernel) ⟨Nat.le_of_ble_eq_true rfl, Nat.le_of_ble_eq_true rfl⟩) (b_preV (pp := 0) (q := 0) hW hp5 rfl mW_0 rfl) rfl rfl hl.1 rfl (lv_room (Nat.le_of_ble_eq_true rfl)) dX3_share_33 ⟨Nat.le_of_ble_eq_true rfl, Nat.le_of_ble_eq_true rfl⟩) hW hp5 (fun _ _ H locs hW => ?_)
      have hW : bW D g A s H locs [mW g adM kM tM M5] := hW
      refine lv_bipush (v := 100) hx hb dX3_share_36 (by decide) ?_
      refine lv_aload_n hx hb dX3_share_38 rfl (lv_at hl 1 rfl) ?_
      refine b_get hx hb hts in_X3 hown hW 0 0 3 25 rfl mW_0 rfl (by decide) ⟨rfl, rfl, rfl⟩ (hts _ q1484) mW_g25 dX3_share_39 ?_
      refine lv_iload_n hx hb dX3_share_42 rfl (lv_at hl 2 rfl) ?_
      obtain ⟨h6, hf⟩ := o_cs hf
      refine b_agrI hx hb hW 0 32 rfl mW_32 h6 dX3_share_43 ?_
      refine lv_iload_n hx hb dX3_share_44 rfl (lv_at hl 0 rfl) ?_
      obtain ⟨h7, hf⟩ := o_cs hf
      refine b_iald hx hb hW 0 (33 + ix x1) rfl (mW_r33 (inB_lt h6)) h7 dX3_share_45 ?_
      refine lv_imul hx hb dX3_share_46 ?_
      refine lv_aload_n hx hb dX3_share_47 rfl (lv_at hl 1 rfl) ?_
      refine b_get hx hb hts in_X3 hown hW 0 0 3 12 rfl mW_0 rfl (by decide) ⟨rfl, rfl, rfl⟩ (hts _ q1471) mW_g12 dX3_share_48 ?_
      refine lv_iload_n hx hb dX3_share_51 rfl (lv_at hl 2 rfl) ?_
      refine b_agrI hx hb hW 0 24 rfl mW_24 h6 dX3_share_52 ?_
      refine lv_iconst (v := 1) hx hb dX3_share_53 (by decide) ?_
      refine b_iald hx hb hW 0 (25 + ix x1) rfl (mW_r25 (inB_lt h6)) (by decide) dX3_share_54 ?_
      obtain ⟨h8, hf⟩ := o_cs hf
      refine lv_idiv hx hb dX3_share_55 (o_nz h8) ?_
      cases hf
      exact b_iret hx hb hr hlk hE hW () rfl trivial rfl dX3_share_56
    · have hf := o_t hf c4
      refine lv_aload_n hx hb dX3_share_25 rfl (lv_at hl 1 rfl) ?_
      refine lv_bipush (v := (-5)) hx hb dX3_share_26 (by decide) ?_
      obtain ⟨r9, M10, hc10, hf⟩ := o_b2s hf
      have hp10 : List.Perm [mW g adM kM tM M] ([mW g adM kM tM M] ++ []) := b_perm [0] [] 1 rfl rfl rfl rfl
      refine b_call0 ⟨rfl, rfl⟩ (va_runV (As := [.int (-5)]) (rest := []) ⟨hx, hb, hml, hown, hts⟩ (m_X3_refuse l D g H.size adM kM tM M (-5) r9 M10 hc10) (cwV 1 hts (lw_V q1572 q1574 qs33 q79 q1575) rfl rfl rfl (by decide +kernel) ⟨Nat.le_of_ble_eq_true rfl, Nat.le_of_ble_eq_true rfl⟩) (b_preV (pp := 0) (q := 0) hW hp10 rfl mW_0 rfl) rfl rfl hl.1 rfl (lv_room (Nat.le_of_ble_eq_true rfl)) dX3_share_28 ⟨Nat.le_of_ble_eq_true rfl, Nat.le_of_ble_eq_true rfl⟩) hW hp10 (fun _ _ H locs hW => ?_)
      have hW : bW D g A s H locs [mW g adM kM tM M10] := hW
      cases hf
      exact b_iret hx hb hr hlk hE hW () rfl trivial rfl dX3_share_31
  · have hf := o_t hf c2
    refine lv_aload_n hx hb dX3_share_8 rfl (lv_at hl 0 rfl) ?_
    refine lv_bipush (v := (-2)) hx hb dX3_share_9 (by decide) ?_
    obtain ⟨r11, M12, hc12, hf⟩ := o_b2s hf
    have hp12 : List.Perm [mW g adM kM tM M] ([mW g adM kM tM M] ++ []) := b_perm [0] [] 1 rfl rfl rfl rfl
    refine b_call0 ⟨rfl, rfl⟩ (va_runV (As := [.int (-2)]) (rest := []) ⟨hx, hb, hml, hown, hts⟩ (m_X3_refuse l D g H.size adM kM tM M (-2) r11 M12 hc12) (cwV 1 hts (lw_V q1572 q1574 qs33 q79 q1575) rfl rfl rfl (by decide +kernel) ⟨Nat.le_of_ble_eq_true rfl, Nat.le_of_ble_eq_true rfl⟩) (b_preV (pp := 0) (q := 0) hW hp12 rfl mW_0 rfl) rfl rfl hl.1 rfl (lv_room (Nat.le_of_ble_eq_true rfl)) dX3_share_11 ⟨Nat.le_of_ble_eq_true rfl, Nat.le_of_ble_eq_true rfl⟩) hW hp12 (fun _ _ H locs hW => ?_)
    have hW : bW D g A s H locs [mW g adM kM tM M12] := hW
    cases hf
    exact b_iret hx hb hr hlk hE hW () rfl trivial rfl dX3_share_14
def f_X3_nine (M : BC) (x1 : Int32) (x2 : Int32) (x3 : Int32) : Option (Int32 × BC) :=
 o_b1 (f_X3_isInn M x1) fun (r1 : Int32) =>
 (if r1 = 0 then
 o_b2 (f_X3_refuse M (-2)) fun (r3 : Int32) (M4 : BC) =>
 some ((-1000000) + r3, M4)
 else
 o_b1 (f_X3_in x2.toInt64 1 40) fun (r5 : Int32) =>
 (if r5 = 0 then
 o_b2 (f_X3_refuse M (-2)) fun (r7 : Int32) (M8 : BC) =>
 some ((-1000000) + r7, M8)
 else
 o_b1 (f_X3_in x3.toInt64 0 100) fun (r9 : Int32) =>
 (if r9 = 0 then
 o_b2 (f_X3_refuse M (-2)) fun (r13 : Int32) (M14 : BC) =>
 some ((-1000000) + r13, M14)
 else
 o_ck (inB x1 6) (o_ck (!decide (((M.1 (18 + ix x1) (ix 5)) + x2) = 0)) (some ((((M.1 (18 + ix x1) (ix 6)) + (x2 * x3)) / ((M.1 (18 + ix x1) (ix 5)) + x2)) - (M.1 (18 + ix x1) (ix 0)), M))))))
abbrev rm_X3_nine : Room := { frames := 2, cells := 0, slots := 0, locals := 46 }
set_option maxHeartbeats 4000000 in
set_option maxRecDepth 100000 in
theorem m_X3_nine (l : Launch) (D : va_G) (g : Nat → ClassId) (sz : Nat) (adM : Nat → Nat) (kM : Option Nat) (tM : Option Nat) (M : BC) (x1 : Int32) (x2 : Int32) (x3 : Int32) (rO : Int32) (MO : BC) (hf : f_X3_nine M x1 x2 x3 = some (rO, MO)) : bMet (S := Unit) l yX3_nine (ws_ yX3_nine cX3_nine 4 (some .int)) rm_X3_nine D g sz [.ref (adM 0), .int x1, .int x2, .int x3] [mW g adM kM tM M] (fun _ => True) (fun _ => some (.int rO)) (fun _ => [mW g adM kM tM MO]) := by
  refine b_met (by decide) (Nat.le_of_ble_eq_true rfl) ?_
  intro p e s m args below meth c A Q ls hx hb hml hr hlk hown hname hts hE hl hW
  revert hW; generalize s.heap = H; intro hW
  have hl : lv_has ls 4 [(0, .ref (adM 0)), (1, .int x1), (2, .int x2), (3, .int x3)] := hl
  rw [f_X3_nine] at hf
  refine lv_aload_n hx hb dX3_nine_0 rfl (lv_at hl 0 rfl) ?_
  refine lv_iload_n hx hb dX3_nine_1 rfl (lv_at hl 1 rfl) ?_
  obtain ⟨r1, hc1, hf⟩ := o_b1s hf
  have hp1 : List.Perm [mW g adM kM tM M] ([mW g adM kM tM M] ++ []) := b_perm [0] [] 1 rfl rfl rfl rfl
  refine b_call0 ⟨rfl, rfl⟩ (va_runV (As := [.int x1]) (rest := []) ⟨hx, hb, hml, hown, hts⟩ (m_X3_isInn l D g H.size adM kM tM M x1 r1 hc1) (cwV 1 hts (lw_V q1651 q1653 qs41 q79 q1654) rfl rfl rfl (by decide +kernel) ⟨Nat.le_of_ble_eq_true rfl, Nat.le_of_ble_eq_true rfl⟩) (b_preV (pp := 0) (q := 0) hW hp1 rfl mW_0 rfl) rfl rfl hl.1 rfl (lv_room (Nat.le_of_ble_eq_true rfl)) dX3_nine_2 ⟨Nat.le_of_ble_eq_true rfl, Nat.le_of_ble_eq_true rfl⟩) hW hp1 (fun _ _ H locs hW => ?_)
  have hW : bW D g A s H locs [mW g adM kM tM M] := hW
  refine lv_if_eq (tgt := 32) hx hb dX3_nine_5 (by decide) (fun c2 => ?_) (fun c2 => ?_)
  · have hf := o_t hf c2
    refine lv_ldc (v := (-1000000)) hx hb hown (hts _ q1801) dX3_nine_32 ?_
    refine lv_aload_n hx hb dX3_nine_34 rfl (lv_at hl 0 rfl) ?_
    refine lv_bipush (v := (-2)) hx hb dX3_nine_35 (by decide) ?_
    obtain ⟨r3, M4, hc4, hf⟩ := o_b2s hf
    have hp4 : List.Perm [mW g adM kM tM M] ([mW g adM kM tM M] ++ []) := b_perm [0] [] 1 rfl rfl rfl rfl
    refine b_call0 ⟨rfl, rfl⟩ (va_runV (As := [.int (-2)]) (rest := [.int (-1000000)]) ⟨hx, hb, hml, hown, hts⟩ (m_X3_refuse l D g H.size adM kM tM M (-2) r3 M4 hc4) (cwV 1 hts (lw_V q1572 q1574 qs33 q79 q1575) rfl rfl rfl (by decide +kernel) ⟨Nat.le_of_ble_eq_true rfl, Nat.le_of_ble_eq_true rfl⟩) (b_preV (pp := 0) (q := 0) hW hp4 rfl mW_0 rfl) rfl rfl hl.1 rfl (lv_room (Nat.le_of_ble_eq_true rfl)) dX3_nine_37 ⟨Nat.le_of_ble_eq_true rfl, Nat.le_of_ble_eq_true rfl⟩) hW hp4 (fun _ _ H locs hW => ?_)
    have hW : bW D g A s H locs [mW g adM kM tM M4] := hW
    refine lv_iadd hx hb dX3_nine_40 ?_
    cases hf
    exact b_iret hx hb hr hlk hE hW () rfl trivial rfl dX3_nine_41
  · have hf := o_f hf c2
    refine lv_iload_n hx hb dX3_nine_8 rfl (lv_at hl 2 rfl) ?_
    refine lv_i2l hx hb dX3_nine_9 rfl ?_
    refine lv_lconst (v := 1) hx hb dX3_nine_10 (by decide) ?_
    refine lv_ldc2 (v := 40) hx hb hown (hts _ q1571) dX3_nine_11 ?_
    obtain ⟨r5, hc5, hf⟩ := o_b1s hf
    have hp5 : List.Perm [mW g adM kM tM M] ([] ++ [mW g adM kM tM M]) := b_perm [] [0] 1 rfl rfl rfl rfl
    refine b_call0 ⟨rfl, rfl⟩ (va_runS (As := [.long x2.toInt64, .long 1, .long 40]) (rest := []) ⟨hx, hb, hml, hown, hts⟩ (m_X3_in l D g H.size x2.toInt64 1 40 r5 hc5) (va_cwS 3 hts (lw_S q1567 q1568 q79 q1569) rfl rfl rfl (by decide +kernel) ⟨Nat.le_of_ble_eq_true rfl, Nat.le_of_ble_eq_true rfl⟩) (b_preS hW hp5) rfl rfl hl.1 rfl (lv_room (Nat.le_of_ble_eq_true rfl)) dX3_nine_14 ⟨Nat.le_of_ble_eq_true rfl, Nat.le_of_ble_eq_true rfl⟩) hW hp5 (fun _ _ H locs hW => ?_)
    have hW : bW D g A s H locs [mW g adM kM tM M] := hW
    refine lv_if_eq (tgt := 32) hx hb dX3_nine_17 (by decide) (fun c6 => ?_) (fun c6 => ?_)
    · have hf := o_t hf c6
      refine lv_ldc (v := (-1000000)) hx hb hown (hts _ q1801) dX3_nine_32 ?_
      refine lv_aload_n hx hb dX3_nine_34 rfl (lv_at hl 0 rfl) ?_
      refine lv_bipush (v := (-2)) hx hb dX3_nine_35 (by decide) ?_
      obtain ⟨r7, M8, hc8, hf⟩ := o_b2s hf
      have hp8 : List.Perm [mW g adM kM tM M] ([mW g adM kM tM M] ++ []) := b_perm [0] [] 1 rfl rfl rfl rfl
      refine b_call0 ⟨rfl, rfl⟩ (va_runV (As := [.int (-2)]) (rest := [.int (-1000000)]) ⟨hx, hb, hml, hown, hts⟩ (m_X3_refuse l D g H.size adM kM tM M (-2) r7 M8 hc8) (cwV 1 hts (lw_V q1572 q1574 qs33 q79 q1575) rfl rfl rfl (by decide +kernel) ⟨Nat.le_of_ble_eq_true rfl, Nat.le_of_ble_eq_true rfl⟩) (b_preV (pp := 0) (q := 0) hW hp8 rfl mW_0 rfl) rfl rfl hl.1 rfl (lv_room (Nat.le_of_ble_eq_true rfl)) dX3_nine_37 ⟨Nat.le_of_ble_eq_true rfl, Nat.le_of_ble_eq_true rfl⟩) hW hp8 (fun _ _ H locs hW => ?_)
      have hW : bW D g A s H locs [mW g adM kM tM M8] := hW
      refine lv_iadd hx hb dX3_nine_40 ?_
      cases hf
      exact b_iret hx hb hr hlk hE hW () rfl trivial rfl dX3_nine_41
    · have hf := o_f hf c6
      refine lv_iload_n hx hb dX3_nine_20 rfl (lv_at hl 3 rfl) ?_
      refine lv_i2l hx hb dX3_nine_21 rfl ?_
      refine lv_lconst (v := 0) hx hb dX3_nine_22 (by decide) ?_
      refine lv_ldc2 (v := 100) hx hb hown (hts _ q1635) dX3_nine_23 ?_
      obtain ⟨r9, hc9, hf⟩ := o_b1s hf
      have hp9 : List.Perm [mW g adM kM tM M] ([] ++ [mW g adM kM tM M]) := b_perm [] [0] 1 rfl rfl rfl rfl
      refine b_call0 ⟨rfl, rfl⟩ (va_runS (As := [.long x3.toInt64, .long 0, .long 100]) (rest := []) ⟨hx, hb, hml, hown, hts⟩ (m_X3_in l D g H.size x3.toInt64 0 100 r9 hc9) (va_cwS 3 hts (lw_S q1567 q1568 q79 q1569) rfl rfl rfl (by decide +kernel) ⟨Nat.le_of_ble_eq_true rfl, Nat.le_of_ble_eq_true rfl⟩) (b_preS hW hp9) rfl rfl hl.1 rfl (lv_room (Nat.le_of_ble_eq_true rfl)) dX3_nine_26 ⟨Nat.le_of_ble_eq_true rfl, Nat.le_of_ble_eq_true rfl⟩) hW hp9 (fun _ _ H locs hW => ?_)
      have hW : bW D g A s H locs [mW g adM kM tM M] := hW
      refine lv_if_ne (tgt := 42) hx hb dX3_nine_29 (by decide) (fun c10 => ?_) (fun c10 => ?_)
      · have hf := o_f hf c10
        refine lv_aload_n hx hb dX3_nine_42 rfl (lv_at hl 0 rfl) ?_
        refine b_get hx hb hts in_X3 hown hW 0 0 3 10 rfl mW_0 rfl (by decide) ⟨rfl, rfl, rfl⟩ (hts _ q1469) mW_g10 dX3_nine_43 ?_
        refine lv_iload_n hx hb dX3_nine_46 rfl (lv_at hl 1 rfl) ?_
        obtain ⟨h11, hf⟩ := o_cs hf
        refine b_agrI hx hb hW 0 17 rfl mW_17 h11 dX3_nine_47 ?_
        refine lv_bipush (v := 6) hx hb dX3_nine_48 (by decide) ?_
        refine b_iald hx hb hW 0 (18 + ix x1) rfl (mW_r18 (inB_lt h11)) (by decide) dX3_nine_50 ?_
        refine lv_iload_n hx hb dX3_nine_51 rfl (lv_at hl 2 rfl) ?_
        refine lv_iload_n hx hb dX3_nine_52 rfl (lv_at hl 3 rfl) ?_
        refine lv_imul hx hb dX3_nine_53 ?_
        refine lv_iadd hx hb dX3_nine_54 ?_
        refine lv_aload_n hx hb dX3_nine_55 rfl (lv_at hl 0 rfl) ?_
        refine b_get hx hb hts in_X3 hown hW 0 0 3 10 rfl mW_0 rfl (by decide) ⟨rfl, rfl, rfl⟩ (hts _ q1469) mW_g10 dX3_nine_56 ?_
        refine lv_iload_n hx hb dX3_nine_59 rfl (lv_at hl 1 rfl) ?_
        refine b_agrI hx hb hW 0 17 rfl mW_17 h11 dX3_nine_60 ?_
        refine lv_iconst (v := 5) hx hb dX3_nine_61 (by decide) ?_
        refine b_iald hx hb hW 0 (18 + ix x1) rfl (mW_r18 (inB_lt h11)) (by decide) dX3_nine_62 ?_
        refine lv_iload_n hx hb dX3_nine_63 rfl (lv_at hl 2 rfl) ?_
        refine lv_iadd hx hb dX3_nine_64 ?_
        obtain ⟨h12, hf⟩ := o_cs hf
        refine lv_idiv hx hb dX3_nine_65 (o_nz h12) ?_
        refine lv_aload_n hx hb dX3_nine_66 rfl (lv_at hl 0 rfl) ?_
        refine b_get hx hb hts in_X3 hown hW 0 0 3 10 rfl mW_0 rfl (by decide) ⟨rfl, rfl, rfl⟩ (hts _ q1469) mW_g10 dX3_nine_67 ?_
        refine lv_iload_n hx hb dX3_nine_70 rfl (lv_at hl 1 rfl) ?_
        refine b_agrI hx hb hW 0 17 rfl mW_17 h11 dX3_nine_71 ?_
        refine lv_iconst (v := 0) hx hb dX3_nine_72 (by decide) ?_
        refine b_iald hx hb hW 0 (18 + ix x1) rfl (mW_r18 (inB_lt h11)) (by decide) dX3_nine_73 ?_
        refine lv_isub hx hb dX3_nine_74 ?_
        cases hf
        exact b_iret hx hb hr hlk hE hW () rfl trivial rfl dX3_nine_75
      · have hf := o_t hf c10
        refine lv_ldc (v := (-1000000)) hx hb hown (hts _ q1801) dX3_nine_32 ?_
        refine lv_aload_n hx hb dX3_nine_34 rfl (lv_at hl 0 rfl) ?_
        refine lv_bipush (v := (-2)) hx hb dX3_nine_35 (by decide) ?_
        obtain ⟨r13, M14, hc14, hf⟩ := o_b2s hf
        have hp14 : List.Perm [mW g adM kM tM M] ([mW g adM kM tM M] ++ []) := b_perm [0] [] 1 rfl rfl rfl rfl
        refine b_call0 ⟨rfl, rfl⟩ (va_runV (As := [.int (-2)]) (rest := [.int (-1000000)]) ⟨hx, hb, hml, hown, hts⟩ (m_X3_refuse l D g H.size adM kM tM M (-2) r13 M14 hc14) (cwV 1 hts (lw_V q1572 q1574 qs33 q79 q1575) rfl rfl rfl (by decide +kernel) ⟨Nat.le_of_ble_eq_true rfl, Nat.le_of_ble_eq_true rfl⟩) (b_preV (pp := 0) (q := 0) hW hp14 rfl mW_0 rfl) rfl rfl hl.1 rfl (lv_room (Nat.le_of_ble_eq_true rfl)) dX3_nine_37 ⟨Nat.le_of_ble_eq_true rfl, Nat.le_of_ble_eq_true rfl⟩) hW hp14 (fun _ _ H locs hW => ?_)
        have hW : bW D g A s H locs [mW g adM kM tM M14] := hW
        refine lv_iadd hx hb dX3_nine_40 ?_
        cases hf
        exact b_iret hx hb hr hlk hE hW () rfl trivial rfl dX3_nine_41
def f_X3_readBook_L2 (x1 : Int32) (rec1 : (Int32 × BC) → Option BC) : Int32 × BC → Option BC
  | (v2, M3) =>
    (if (M3.1 0 1) ≤ v2 then
     some M3
     else
     (if ((x1 >>> (v2 &&& 31)) &&& 1) = 0 then
     o_ck (inB v2 6) (o_lt (bI M3 41 (upd (M3.1 41) (ix v2) (-1))) fun (M7 : BC) =>
     o_lt (v2 + 1) fun (v8 : Int32) =>
     rec1 (v8, M7))
     else
     o_ck (inB v2 6) (o_lt (M3.1 (18 + ix v2) (ix 0)) fun (v10 : Int32) =>
     o_lt (bI M3 41 (upd (M3.1 41) (ix v2) v10)) fun (M11 : BC) =>
     o_lt (v2 + 1) fun (v12 : Int32) =>
     rec1 (v12, M11))))
def f_X3_readBook (fu : Nat) (M : BC) (x1 : Int32) : Option BC :=
 o_lp (f_X3_readBook_L2 x1) fu (0, M)
abbrev rm_X3_readBook : Room := { frames := 0, cells := 0, slots := 0, locals := 0 }
set_option maxHeartbeats 4000000 in
set_option maxRecDepth 100000 in
theorem m_X3_readBook (l : Launch) (D : va_G) (g : Nat → ClassId) (sz : Nat) (adM : Nat → Nat) (kM : Option Nat) (tM : Option Nat) (fu : Nat) (M : BC) (x1 : Int32) (MO : BC) (hf : f_X3_readBook fu M x1 = some MO) : bMet (S := Unit) l yX3_readBook (ws_ yX3_readBook cX3_readBook 3 none) rm_X3_readBook D g sz [.ref (adM 0), .int x1] [mW g adM kM tM M] (fun _ => True) (fun _ => none) (fun _ => [mW g adM kM tM MO]) := by
  refine b_met (by decide) (Nat.le_of_ble_eq_true rfl) ?_
  intro p e s m args below meth c A Q ls hx hb hml hr hlk hown hname hts hE hl hW
  revert hW; generalize s.heap = H; intro hW
  have hl : lv_has ls 3 [(0, .ref (adM 0)), (1, .int x1)] := hl
  rw [f_X3_readBook] at hf
  refine lv_iconst (v := 0) hx hb dX3_readBook_0 (by decide) ?_
  refine lv_istore_n (lv' := [(2, .int 0), (0, .ref (adM 0)), (1, .int x1)]) hx hb dX3_readBook_1 rfl hl (by decide) rfl (fun ls hl => ?_)
  obtain ⟨stp1, est1, hf⟩ := o_ln hf
  have L1 : ∀ (n : Nat) (v2 : Int32) (M3 : BC) (H : Heap) (locs : List Loc) (ls : Array Slot), bW D g A s H locs [mW g adM kM tM M3] → lv_has ls 3 [(2, .int v2), (0, .ref (adM 0)), (1, .int x1)] → o_lp stp1 n (v2, M3) = some MO → W p l e rm_X3_readBook s m args below meth c H locs 0 0 Q (F0 m 2 ls []) := by
    intro n1
    induction n1 with
    | zero => intro v2 M3 H locs ls hW hl hf; exact (o_lz hf).elim
    | succ n1 ih1 =>
      intro v2 M3 H locs ls hW hl hf
      have hf := o_lu est1 hf
      rw [f_X3_readBook_L2] at hf
      refine lv_iload_n hx hb dX3_readBook_2 rfl (lv_at hl 0 rfl) ?_
      refine lv_aload_n hx hb dX3_readBook_3 rfl (lv_at hl 1 rfl) ?_
      refine b_get hx hb hts in_X3 hown hW 0 0 3 9 rfl mW_0 rfl (by decide) ⟨rfl, rfl, rfl⟩ (hts _ q1468) mW_g9 dX3_readBook_4 ?_
      refine lv_icmp_ge (tgt := 42) hx hb dX3_readBook_7 (by decide) (fun c4 => ?_) (fun c4 => ?_)
      · have hf := o_t hf c4
        cases hf
        exact b_vret hx hb hr hlk hE hW () rfl trivial rfl dX3_readBook_42
      · have hf := o_f hf c4
        refine lv_aload_n hx hb dX3_readBook_10 rfl (lv_at hl 1 rfl) ?_
        refine b_get hx hb hts in_X3 hown hW 0 0 3 28 rfl mW_0 rfl (by decide) ⟨rfl, rfl, rfl⟩ (hts _ q1487) mW_g28 dX3_readBook_11 ?_
        refine lv_iload_n hx hb dX3_readBook_14 rfl (lv_at hl 0 rfl) ?_
        refine lv_iload_n hx hb dX3_readBook_15 rfl (lv_at hl 2 rfl) ?_
        refine lv_iload_n hx hb dX3_readBook_16 rfl (lv_at hl 0 rfl) ?_
        refine lv_ishr hx hb dX3_readBook_17 ?_
        refine lv_iconst (v := 1) hx hb dX3_readBook_18 (by decide) ?_
        refine lv_iand hx hb dX3_readBook_19 ?_
        refine lv_if_eq (tgt := 34) hx hb dX3_readBook_20 (by decide) (fun c5 => ?_) (fun c5 => ?_)
        · have hf := o_t hf c5
          refine lv_iconst (v := (-1)) hx hb dX3_readBook_34 (by decide) ?_
          obtain ⟨h6, hf⟩ := o_cs hf
          obtain ⟨M7, eM7, hf⟩ := o_ls hf
          refine b_iast hx hb hW 0 41 rfl mW_41 (mW_s41 eM7) rfl h6 dX3_readBook_35 (fun H locs hW => ?_)
          have hW : bW D g A s H locs [mW g adM kM tM M7] := hW
          obtain ⟨v8, ev8, hf⟩ := o_ls hf
          refine lv_iinc (v := v8) (lv' := [(2, .int v8), (0, .ref (adM 0)), (1, .int x1)]) hx hb dX3_readBook_36 hl (k := 0) rfl ev8 (by decide) rfl (fun ls hl => ?_)
          refine lv_goto (tgt := 2) hx hb dX3_readBook_39 (by decide) ?_
          exact ih1 _ _ _ _ _ hW (lv_sub hl [0, 1, 2] rfl) hf
        · have hf := o_f hf c5
          refine lv_aload_n hx hb dX3_readBook_23 rfl (lv_at hl 1 rfl) ?_
          refine b_get hx hb hts in_X3 hown hW 0 0 3 10 rfl mW_0 rfl (by decide) ⟨rfl, rfl, rfl⟩ (hts _ q1469) mW_g10 dX3_readBook_24 ?_
          refine lv_iload_n hx hb dX3_readBook_27 rfl (lv_at hl 0 rfl) ?_
          obtain ⟨h9, hf⟩ := o_cs hf
          refine b_agrI hx hb hW 0 17 rfl mW_17 h9 dX3_readBook_28 ?_
          refine lv_iconst (v := 0) hx hb dX3_readBook_29 (by decide) ?_
          refine b_iald hx hb hW 0 (18 + ix v2) rfl (mW_r18 (inB_lt h9)) (by decide) dX3_readBook_30 ?_
          refine lv_goto (tgt := 35) hx hb dX3_readBook_31 (by decide) ?_
          obtain ⟨v10, ev10, hf⟩ := o_ls hf
          refine b_topi ev10 ?_
          obtain ⟨M11, eM11, hf⟩ := o_ls hf
          refine b_iast hx hb hW 0 41 rfl mW_41 (mW_s41 eM11) rfl h9 dX3_readBook_35 (fun H locs hW => ?_)
          have hW : bW D g A s H locs [mW g adM kM tM M11] := hW
          obtain ⟨v12, ev12, hf⟩ := o_ls hf
          refine lv_iinc (v := v12) (lv' := [(2, .int v12), (0, .ref (adM 0)), (1, .int x1)]) hx hb dX3_readBook_36 hl (k := 0) rfl ev12 (by decide) rfl (fun ls hl => ?_)
          refine lv_goto (tgt := 2) hx hb dX3_readBook_39 (by decide) ?_
          exact ih1 _ _ _ _ _ hW (lv_sub hl [0, 1, 2] rfl) hf
  exact L1 _ _ _ _ _ _ hW (lv_sub hl [0, 1, 2] rfl) hf
def f_X3_judge_L43 (x1 : Int32) (M6 : BC) (rec7 : Int32 → Option (Int32 × BC)) (v8 : Int32) : Option (Int32 × BC) :=
 (if ((M6.1 0 2) * (M6.1 0 1)) ≤ v8 then
 some ((-1), M6)
 else
 o_ck (inB v8 40) (o_ck (!decide ((M6.1 0 1) = 0)) (o_ck (inB (v8 / (M6.1 0 1)) 6) (o_ck (inB (v8 - v8 / (M6.1 0 1) * (M6.1 0 1)) 6) ((if (lg_cmp (M6.2.2 (5 + ix x1) (ix v8)) ((M6.1 (33 + ix (v8 / (M6.1 0 1))) (ix (v8 - v8 / (M6.1 0 1) * (M6.1 0 1)))).toInt64)) = 0 then
 o_lt (v8 + 1) fun (v15 : Int32) =>
 rec7 v15
 else
 some (v8, M6)))))))
def f_X3_judge (fu : Nat) (M : BC) (x1 : Int32) : Option (Int32 × BC) :=
 o_b2 (f_X3_noRow M x1) fun (r1 : Int32) (M2 : BC) =>
 (if r1 = 0 then
 o_ck (inB x1 8) ((if ((M2.1 0 2) * (M2.1 0 1)) ≤ (M2.1 3 (ix x1)) then
 o_b1 (f_X3_goThrough fu M2) fun (M6 : BC) =>
 o_lp (f_X3_judge_L43 x1 M6) fu 0
 else
 o_b2 (f_X3_refuse M2 (-2)) fun (r16 : Int32) (M17 : BC) =>
 some (r16, M17)))
 else
 some (r1, M2))
abbrev rm_X3_judge : Room := { frames := 4, cells := 0, slots := 0, locals := 95 }
set_option maxHeartbeats 4000000 in
set_option maxRecDepth 100000 in
theorem m_X3_judge (l : Launch) (D : va_G) (g : Nat → ClassId) (sz : Nat) (adM : Nat → Nat) (kM : Option Nat) (tM : Option Nat) (fu : Nat) (M : BC) (x1 : Int32) (rO : Int32) (MO : BC) (hf : f_X3_judge fu M x1 = some (rO, MO)) : bMet (S := Unit) l yX3_judge (ws_ yX3_judge cX3_judge 4 (some .int)) rm_X3_judge D g sz [.ref (adM 0), .int x1] [mW g adM kM tM M] (fun _ => True) (fun _ => some (.int rO)) (fun _ => [mW g adM kM tM MO]) := by
  refine b_met (by decide) (Nat.le_of_ble_eq_true rfl) ?_
  intro p e s m args below meth c A Q ls hx hb hml hr hlk hown hname hts hE hl hW
  revert hW; generalize s.heap = H; intro hW
  have hl : lv_has ls 4 [(0, .ref (adM 0)), (1, .int x1)] := hl
  rw [f_X3_judge] at hf
  refine lv_aload_n hx hb dX3_judge_0 rfl (lv_at hl 0 rfl) ?_
  refine lv_iload_n hx hb dX3_judge_1 rfl (lv_at hl 1 rfl) ?_
  obtain ⟨r1, M2, hc2, hf⟩ := o_b2s hf
  have hp2 : List.Perm [mW g adM kM tM M] ([mW g adM kM tM M] ++ []) := b_perm [0] [] 1 rfl rfl rfl rfl
  refine b_call0 ⟨rfl, rfl⟩ (va_runV (As := [.int x1]) (rest := []) ⟨hx, hb, hml, hown, hts⟩ (m_X3_noRow l D g H.size adM kM tM M x1 r1 M2 hc2) (cwV 1 hts (lw_V q1580 q1582 qs34 q79 q1583) rfl rfl rfl (by decide +kernel) ⟨Nat.le_of_ble_eq_true rfl, Nat.le_of_ble_eq_true rfl⟩) (b_preV (pp := 0) (q := 0) hW hp2 rfl mW_0 rfl) rfl rfl hl.1 rfl (lv_room (Nat.le_of_ble_eq_true rfl)) dX3_judge_2 ⟨Nat.le_of_ble_eq_true rfl, Nat.le_of_ble_eq_true rfl⟩) hW hp2 (fun _ _ H locs hW => ?_)
  have hW : bW D g A s H locs [mW g adM kM tM M2] := hW
  refine lv_istore_n (lv' := [(2, .int r1), (0, .ref (adM 0)), (1, .int x1)]) hx hb dX3_judge_5 rfl hl (by decide) rfl (fun ls hl => ?_)
  refine lv_iload_n hx hb dX3_judge_6 rfl (lv_at hl 0 rfl) ?_
  refine lv_if_eq (tgt := 12) hx hb dX3_judge_7 (by decide) (fun c3 => ?_) (fun c3 => ?_)
  · have hf := o_t hf c3
    refine lv_aload_n hx hb dX3_judge_12 rfl (lv_at hl 1 rfl) ?_
    refine b_get hx hb hts in_X3 hown hW 0 0 3 2 rfl mW_0 rfl (by decide) ⟨rfl, rfl, rfl⟩ (hts _ q1461) mW_g2 dX3_judge_13 ?_
    refine lv_iload_n hx hb dX3_judge_16 rfl (lv_at hl 2 rfl) ?_
    obtain ⟨h4, hf⟩ := o_cs hf
    refine b_iald hx hb hW 0 3 rfl mW_3 h4 dX3_judge_17 ?_
    refine lv_aload_n hx hb dX3_judge_18 rfl (lv_at hl 1 rfl) ?_
    refine b_get hx hb hts in_X3 hown hW 0 0 3 11 rfl mW_0 rfl (by decide) ⟨rfl, rfl, rfl⟩ (hts _ q1470) mW_g11 dX3_judge_19 ?_
    refine lv_aload_n hx hb dX3_judge_22 rfl (lv_at hl 1 rfl) ?_
    refine b_get hx hb hts in_X3 hown hW 0 0 3 9 rfl mW_0 rfl (by decide) ⟨rfl, rfl, rfl⟩ (hts _ q1468) mW_g9 dX3_judge_23 ?_
    refine lv_imul hx hb dX3_judge_26 ?_
    refine lv_icmp_ge (tgt := 37) hx hb dX3_judge_27 (by decide) (fun c5 => ?_) (fun c5 => ?_)
    · have hf := o_t hf c5
      refine lv_aload_n hx hb dX3_judge_37 rfl (lv_at hl 1 rfl) ?_
      obtain ⟨M6, hc6, hf⟩ := o_b1s hf
      have hp6 : List.Perm [mW g adM kM tM M2] ([mW g adM kM tM M2] ++ []) := b_perm [0] [] 1 rfl rfl rfl rfl
      refine b_call0 ⟨rfl, rfl⟩ (va_runV (As := []) (rest := []) ⟨hx, hb, hml, hown, hts⟩ (m_X3_goThrough l D g H.size adM kM tM fu M2 M6 hc6) (cwV 0 hts (lw_V q1806 q1808 qs57 q79 q1809) rfl rfl rfl (by decide +kernel) ⟨Nat.le_of_ble_eq_true rfl, Nat.le_of_ble_eq_true rfl⟩) (b_preV (pp := 0) (q := 0) hW hp6 rfl mW_0 rfl) rfl rfl hl.1 rfl (lv_room (Nat.le_of_ble_eq_true rfl)) dX3_judge_38 ⟨Nat.le_of_ble_eq_true rfl, Nat.le_of_ble_eq_true rfl⟩) hW hp6 (fun _ _ H locs hW => ?_)
      have hW : bW D g A s H locs [mW g adM kM tM M6] := hW
      refine lv_iconst (v := 0) hx hb dX3_judge_41 (by decide) ?_
      refine lv_istore_n (lv' := [(3, .int 0), (2, .int r1), (0, .ref (adM 0)), (1, .int x1)]) hx hb dX3_judge_42 rfl hl (by decide) rfl (fun ls hl => ?_)
      obtain ⟨stp7, est7, hf⟩ := o_ln hf
      have L7 : ∀ (n : Nat) (v8 : Int32) (H : Heap) (locs : List Loc) (ls : Array Slot), bW D g A s H locs [mW g adM kM tM M6] → lv_has ls 4 [(3, .int v8), (0, .ref (adM 0)), (1, .int x1)] → o_lp stp7 n v8 = some (rO, MO) → W p l e rm_X3_judge s m args below meth c H locs 0 0 Q (F0 m 43 ls []) := by
        intro n7
        induction n7 with
        | zero => intro v8 H locs ls hW hl hf; exact (o_lz hf).elim
        | succ n7 ih7 =>
          intro v8 H locs ls hW hl hf
          have hf := o_lu est7 hf
          rw [f_X3_judge_L43] at hf
          refine lv_iload_n hx hb dX3_judge_43 rfl (lv_at hl 0 rfl) ?_
          refine lv_aload_n hx hb dX3_judge_44 rfl (lv_at hl 1 rfl) ?_
          refine b_get hx hb hts in_X3 hown hW 0 0 3 11 rfl mW_0 rfl (by decide) ⟨rfl, rfl, rfl⟩ (hts _ q1470) mW_g11 dX3_judge_45 ?_
          refine lv_aload_n hx hb dX3_judge_48 rfl (lv_at hl 1 rfl) ?_
          refine b_get hx hb hts in_X3 hown hW 0 0 3 9 rfl mW_0 rfl (by decide) ⟨rfl, rfl, rfl⟩ (hts _ q1468) mW_g9 dX3_judge_49 ?_
          refine lv_imul hx hb dX3_judge_52 ?_
          refine lv_icmp_ge (tgt := 95) hx hb dX3_judge_53 (by decide) (fun c9 => ?_) (fun c9 => ?_)
          · have hf := o_t hf c9
            refine lv_iconst (v := (-1)) hx hb dX3_judge_95 (by decide) ?_
            cases hf
            exact b_iret hx hb hr hlk hE hW () rfl trivial rfl dX3_judge_96
          · have hf := o_f hf c9
            refine lv_aload_n hx hb dX3_judge_56 rfl (lv_at hl 1 rfl) ?_
            refine b_get hx hb hts in_X3 hown hW 0 0 3 3 rfl mW_0 rfl (by decide) ⟨rfl, rfl, rfl⟩ (hts _ q1462) mW_g3 dX3_judge_57 ?_
            refine lv_iload_n hx hb dX3_judge_60 rfl (lv_at hl 2 rfl) ?_
            refine b_agrL hx hb hW 0 4 rfl mW_4 h4 dX3_judge_61 ?_
            refine lv_iload_n hx hb dX3_judge_62 rfl (lv_at hl 0 rfl) ?_
            obtain ⟨h10, hf⟩ := o_cs hf
            refine b_lald hx hb hW 0 (5 + ix x1) rfl (mW_r5 (inB_lt h4)) h10 dX3_judge_63 ?_
            refine lv_aload_n hx hb dX3_judge_64 rfl (lv_at hl 1 rfl) ?_
            refine b_get hx hb hts in_X3 hown hW 0 0 3 25 rfl mW_0 rfl (by decide) ⟨rfl, rfl, rfl⟩ (hts _ q1484) mW_g25 dX3_judge_65 ?_
            refine lv_iload_n hx hb dX3_judge_68 rfl (lv_at hl 0 rfl) ?_
            refine lv_aload_n hx hb dX3_judge_69 rfl (lv_at hl 1 rfl) ?_
            refine b_get hx hb hts in_X3 hown hW 0 0 3 9 rfl mW_0 rfl (by decide) ⟨rfl, rfl, rfl⟩ (hts _ q1468) mW_g9 dX3_judge_70 ?_
            obtain ⟨h11, hf⟩ := o_cs hf
            refine lv_idiv hx hb dX3_judge_73 (o_nz h11) ?_
            obtain ⟨h12, hf⟩ := o_cs hf
            refine b_agrI hx hb hW 0 32 rfl mW_32 h12 dX3_judge_74 ?_
            refine lv_iload_n hx hb dX3_judge_75 rfl (lv_at hl 0 rfl) ?_
            refine lv_aload_n hx hb dX3_judge_76 rfl (lv_at hl 1 rfl) ?_
            refine b_get hx hb hts in_X3 hown hW 0 0 3 9 rfl mW_0 rfl (by decide) ⟨rfl, rfl, rfl⟩ (hts _ q1468) mW_g9 dX3_judge_77 ?_
            refine lv_irem hx hb dX3_judge_80 (o_nz h11) ?_
            obtain ⟨h13, hf⟩ := o_cs hf
            refine b_iald hx hb hW 0 (33 + ix (v8 / (M6.1 0 1))) rfl (mW_r33 (inB_lt h12)) h13 dX3_judge_81 ?_
            refine lv_i2l hx hb dX3_judge_82 rfl ?_
            refine W.lcmp hx hb dX3_judge_83 ?_
            refine lv_if_eq (tgt := 89) hx hb dX3_judge_84 (by decide) (fun c14 => ?_) (fun c14 => ?_)
            · have hf := o_t hf c14
              obtain ⟨v15, ev15, hf⟩ := o_ls hf
              refine lv_iinc (v := v15) (lv' := [(3, .int v15), (0, .ref (adM 0)), (1, .int x1)]) hx hb dX3_judge_89 hl (k := 0) rfl ev15 (by decide) rfl (fun ls hl => ?_)
              refine lv_goto (tgt := 43) hx hb dX3_judge_92 (by decide) ?_
              exact ih7 _ _ _ _ hW (lv_sub hl [0, 1, 2] rfl) hf
            · have hf := o_f hf c14
              refine lv_iload_n hx hb dX3_judge_87 rfl (lv_at hl 0 rfl) ?_
              cases hf
              exact b_iret hx hb hr hlk hE hW () rfl trivial rfl dX3_judge_88
      exact L7 _ _ _ _ _ hW (lv_sub hl [0, 2, 3] rfl) hf
    · have hf := o_f hf c5
      refine lv_aload_n hx hb dX3_judge_30 rfl (lv_at hl 1 rfl) ?_
      refine lv_bipush (v := (-2)) hx hb dX3_judge_31 (by decide) ?_
      obtain ⟨r16, M17, hc17, hf⟩ := o_b2s hf
      have hp17 : List.Perm [mW g adM kM tM M2] ([mW g adM kM tM M2] ++ []) := b_perm [0] [] 1 rfl rfl rfl rfl
      refine b_call0 ⟨rfl, rfl⟩ (va_runV (As := [.int (-2)]) (rest := []) ⟨hx, hb, hml, hown, hts⟩ (m_X3_refuse l D g H.size adM kM tM M2 (-2) r16 M17 hc17) (cwV 1 hts (lw_V q1572 q1574 qs33 q79 q1575) rfl rfl rfl (by decide +kernel) ⟨Nat.le_of_ble_eq_true rfl, Nat.le_of_ble_eq_true rfl⟩) (b_preV (pp := 0) (q := 0) hW hp17 rfl mW_0 rfl) rfl rfl hl.1 rfl (lv_room (Nat.le_of_ble_eq_true rfl)) dX3_judge_33 ⟨Nat.le_of_ble_eq_true rfl, Nat.le_of_ble_eq_true rfl⟩) hW hp17 (fun _ _ H locs hW => ?_)
      have hW : bW D g A s H locs [mW g adM kM tM M17] := hW
      cases hf
      exact b_iret hx hb hr hlk hE hW () rfl trivial rfl dX3_judge_36
  · have hf := o_f hf c3
    refine lv_iload_n hx hb dX3_judge_10 rfl (lv_at hl 0 rfl) ?_
    cases hf
    exact b_iret hx hb hr hlk hE hW () rfl trivial rfl dX3_judge_11
def f_X3_isYears (x1 : Int32) : Option Int32 :=
 o_b1 (f_X3_in x1.toInt64 1 12) fun (r1 : Int32) =>
 o_ck (decide (r1 = 0) || decide (r1 = 1)) (some r1)
abbrev rm_X3_isYears : Room := { frames := 1, cells := 0, slots := 0, locals := 25 }
set_option maxHeartbeats 4000000 in
set_option maxRecDepth 100000 in
theorem m_X3_isYears (l : Launch) (D : va_G) (g : Nat → ClassId) (sz : Nat)  (x1 : Int32) (rO : Int32) (hf : f_X3_isYears x1 = some rO) : bMet (S := Unit) l yX3_isYears (ws_ yX3_isYears cX3_isYears 1 (some .boolean)) rm_X3_isYears D g sz [.int x1] [] (fun _ => True) (fun _ => some (.int rO)) (fun _ => []) := by
  refine b_met (by decide) (Nat.le_of_ble_eq_true rfl) ?_
  intro p e s m args below meth c A Q ls hx hb hml hr hlk hown hname hts hE hl hW
  revert hW; generalize s.heap = H; intro hW
  have hl : lv_has ls 1 [(0, .int x1)] := hl
  rw [f_X3_isYears] at hf
  refine lv_iload_n hx hb dX3_isYears_0 rfl (lv_at hl 0 rfl) ?_
  refine lv_i2l hx hb dX3_isYears_1 rfl ?_
  refine lv_lconst (v := 1) hx hb dX3_isYears_2 (by decide) ?_
  refine lv_ldc2 (v := 12) hx hb hown (hts _ q1921) dX3_isYears_3 ?_
  obtain ⟨r1, hc1, hf⟩ := o_b1s hf
  have hp1 : List.Perm [] ([] ++ []) := b_perm [] [] 0 rfl rfl rfl rfl
  refine b_call0 ⟨rfl, rfl⟩ (va_runS (As := [.long x1.toInt64, .long 1, .long 12]) (rest := []) ⟨hx, hb, hml, hown, hts⟩ (m_X3_in l D g H.size x1.toInt64 1 12 r1 hc1) (va_cwS 3 hts (lw_S q1567 q1568 q79 q1569) rfl rfl rfl (by decide +kernel) ⟨Nat.le_of_ble_eq_true rfl, Nat.le_of_ble_eq_true rfl⟩) (b_preS hW hp1) rfl rfl hl.1 rfl (lv_room (Nat.le_of_ble_eq_true rfl)) dX3_isYears_6 ⟨Nat.le_of_ble_eq_true rfl, Nat.le_of_ble_eq_true rfl⟩) hW hp1 (fun _ _ H locs hW => ?_)
  have hW : bW D g A s H locs [] := hW
  obtain ⟨h2, hf⟩ := o_cs hf
  cases hf
  exact b_zret hx hb hr hlk hE hW () rfl trivial rfl h2 dX3_isYears_9
def f_X3_within (x1 : Int32) (x2 : Int32) : Option Int32 :=
 (if (0 : Int32) ≤ x1 then
 (if x1 ≤ x2 then
 some x1
 else
 some x2)
 else
 some 0)
abbrev rm_X3_within : Room := { frames := 0, cells := 0, slots := 0, locals := 0 }
set_option maxHeartbeats 4000000 in
set_option maxRecDepth 100000 in
theorem m_X3_within (l : Launch) (D : va_G) (g : Nat → ClassId) (sz : Nat)  (x1 : Int32) (x2 : Int32) (rO : Int32) (hf : f_X3_within x1 x2 = some rO) : bMet (S := Unit) l yX3_within (ws_ yX3_within cX3_within 2 (some .int)) rm_X3_within D g sz [.int x1, .int x2] [] (fun _ => True) (fun _ => some (.int rO)) (fun _ => []) := by
  refine b_met (by decide) (Nat.le_of_ble_eq_true rfl) ?_
  intro p e s m args below meth c A Q ls hx hb hml hr hlk hown hname hts hE hl hW
  revert hW; generalize s.heap = H; intro hW
  have hl : lv_has ls 2 [(0, .int x1), (1, .int x2)] := hl
  rw [f_X3_within] at hf
  refine lv_iload_n hx hb dX3_within_0 rfl (lv_at hl 0 rfl) ?_
  refine lv_if_ge (tgt := 8) hx hb dX3_within_1 (by decide) (fun c1 => ?_) (fun c1 => ?_)
  · have hf := o_t hf c1
    refine lv_iload_n hx hb dX3_within_8 rfl (lv_at hl 0 rfl) ?_
    refine lv_iload_n hx hb dX3_within_9 rfl (lv_at hl 1 rfl) ?_
    refine lv_icmp_le (tgt := 17) hx hb dX3_within_10 (by decide) (fun c2 => ?_) (fun c2 => ?_)
    · have hf := o_t hf c2
      refine lv_iload_n hx hb dX3_within_17 rfl (lv_at hl 0 rfl) ?_
      cases hf
      exact b_iret hx hb hr hlk hE hW () rfl trivial rfl dX3_within_18
    · have hf := o_f hf c2
      refine lv_iload_n hx hb dX3_within_13 rfl (lv_at hl 1 rfl) ?_
      refine lv_goto (tgt := 18) hx hb dX3_within_14 (by decide) ?_
      cases hf
      exact b_iret hx hb hr hlk hE hW () rfl trivial rfl dX3_within_18
  · have hf := o_f hf c1
    refine lv_iconst (v := 0) hx hb dX3_within_4 (by decide) ?_
    refine lv_goto (tgt := 18) hx hb dX3_within_5 (by decide) ?_
    cases hf
    exact b_iret hx hb hr hlk hE hW () rfl trivial rfl dX3_within_18
def f_X3_yearGoesBy_L132 (fu : Nat) (rec12 : (Int32 × BC) → Option BC) : Int32 × BC → Option BC
  | (v13, M14) =>
    (if (M14.1 0 1) ≤ v13 then
     o_b1 (f_X3_within ((M14.1 0 3) + 1) 99) fun (r16 : Int32) =>
     o_lt (bI M14 0 (upd (M14.1 0) 3 r16)) fun (M17 : BC) =>
     o_lt ((M17.1 0 4) + 1) fun (v18 : Int32) =>
     o_lt (bI M17 0 (upd (M17.1 0) 4 v18)) fun (M19 : BC) =>
     some M19
     else
     o_ck (inB v13 6) ((if (M14.1 40 (ix v13)) = 0 then
     o_b1 (f_X3_within ((M14.1 (18 + ix v13) (ix 0)) - 6) 100) fun (r48 : Int32) =>
     o_lt (bI M14 (18 + ix v13) (upd (M14.1 (18 + ix v13)) (ix 0) r48)) fun (M49 : BC) =>
     o_b1 (f_X3_within (((M49.1 (18 + ix v13) (ix 3)) + ((M49.1 (18 + ix v13) (ix 3)) / 4)) + 1) 99) fun (r50 : Int32) =>
     o_lt (bI M49 (18 + ix v13) (upd (M49.1 (18 + ix v13)) (ix 3) r50)) fun (M51 : BC) =>
     o_lt (v13 + 1) fun (v52 : Int32) =>
     rec12 (v52, M51)
     else
     o_b1 (f_X3_headsIn fu M14 v13) fun (r22 : Int32) =>
     (if (M14.1 (18 + ix v13) (ix 2)) ≤ (2 * r22) then
     o_lt (v13 + 1) fun (v24 : Int32) =>
     rec12 (v24, M14)
     else
     (if ((M14.1 (18 + ix v13) (ix 0)) + 3) ≤ (M14.1 (18 + ix v13) (ix 1)) then
     o_lt ((M14.1 (18 + ix v13) (ix 0)) + 3) fun (v26 : Int32) =>
     (if (M14.1 (18 + ix v13) (ix 0)) ≤ (M14.1 (18 + ix v13) (ix 1)) then
     o_lt (bI M14 (18 + ix v13) (upd (M14.1 (18 + ix v13)) (ix 0) v26)) fun (M28 : BC) =>
     o_b1 (f_X3_within ((M28.1 (18 + ix v13) (ix 3)) - 1) 99) fun (r29 : Int32) =>
     o_lt (bI M28 (18 + ix v13) (upd (M28.1 (18 + ix v13)) (ix 3) r29)) fun (M30 : BC) =>
     o_lt (v13 + 1) fun (v31 : Int32) =>
     rec12 (v31, M30)
     else
     o_lt (M14.1 (18 + ix v13) (ix 0)) fun (v32 : Int32) =>
     o_lt (bI M14 (18 + ix v13) (upd (M14.1 (18 + ix v13)) (ix 0) v32)) fun (M33 : BC) =>
     o_b1 (f_X3_within ((M33.1 (18 + ix v13) (ix 3)) - 1) 99) fun (r34 : Int32) =>
     o_lt (bI M33 (18 + ix v13) (upd (M33.1 (18 + ix v13)) (ix 3) r34)) fun (M35 : BC) =>
     o_lt (v13 + 1) fun (v36 : Int32) =>
     rec12 (v36, M35))
     else
     o_lt (M14.1 (18 + ix v13) (ix 1)) fun (v37 : Int32) =>
     (if (M14.1 (18 + ix v13) (ix 0)) ≤ (M14.1 (18 + ix v13) (ix 1)) then
     o_lt (bI M14 (18 + ix v13) (upd (M14.1 (18 + ix v13)) (ix 0) v37)) fun (M39 : BC) =>
     o_b1 (f_X3_within ((M39.1 (18 + ix v13) (ix 3)) - 1) 99) fun (r40 : Int32) =>
     o_lt (bI M39 (18 + ix v13) (upd (M39.1 (18 + ix v13)) (ix 3) r40)) fun (M41 : BC) =>
     o_lt (v13 + 1) fun (v42 : Int32) =>
     rec12 (v42, M41)
     else
     o_lt (M14.1 (18 + ix v13) (ix 0)) fun (v43 : Int32) =>
     o_lt (bI M14 (18 + ix v13) (upd (M14.1 (18 + ix v13)) (ix 0) v43)) fun (M44 : BC) =>
     o_b1 (f_X3_within ((M44.1 (18 + ix v13) (ix 3)) - 1) 99) fun (r45 : Int32) =>
     o_lt (bI M44 (18 + ix v13) (upd (M44.1 (18 + ix v13)) (ix 3) r45)) fun (M46 : BC) =>
     o_lt (v13 + 1) fun (v47 : Int32) =>
     rec12 (v47, M46)))))))
def f_X3_yearGoesBy_L105 (fu : Nat) (rec8 : (Int32 × BC) → Option BC) : Int32 × BC → Option BC
  | (v9, M10) =>
    (if (M10.1 0 2) ≤ v9 then
     o_lp (f_X3_yearGoesBy_L132 fu) fu (0, M10)
     else
     o_b1 (f_X3_joyOf fu M10 v9) fun (r53 : Int32) =>
     o_ck (inB v9 6) (o_lt (bI M10 42 (upd (M10.1 42) (ix v9) r53)) fun (M55 : BC) =>
     o_lt (v9 + 1) fun (v56 : Int32) =>
     rec8 (v56, M55)))
def f_X3_yearGoesBy_L6 (fu : Nat) (rec2 : (Int32 × BC) → Option BC) : Int32 × BC → Option BC
  | (v3, M4) =>
    (if (M4.1 0 1) ≤ v3 then
     o_b1 (f_X3_joyBy fu M4 (-1)) fun (r6 : Int32) =>
     o_lt (bI M4 0 (upd (M4.1 0) 12 r6)) fun (M7 : BC) =>
     o_lp (f_X3_yearGoesBy_L105 fu) fu (0, M7)
     else
     o_ck (inB v3 6) (o_b1 (f_X3_headsIn fu M4 v3) fun (r58 : Int32) =>
     (if r58 ≤ 0 then
     o_lt (r58 * (M4.1 (18 + ix v3) (ix 3))) fun (v60 : Int32) =>
     o_lt (bI M4 43 (upd (M4.1 43) (ix v3) v60)) fun (M61 : BC) =>
     o_lt (v3 + 1) fun (v62 : Int32) =>
     rec2 (v62, M61)
     else
     (if (M4.1 (18 + ix v3) (ix 4)) = (-1) then
     o_lt (M4.1 (18 + ix v3) (ix 0)) fun (v64 : Int32) =>
     (if (0 : Int32) ≤ v64 then
     o_b1 (f_X3_getsLetter M4 v3 v64) fun (M66 : BC) =>
     o_lt (r58 * (M66.1 (18 + ix v3) (ix 3))) fun (v67 : Int32) =>
     o_lt (bI M66 43 (upd (M66.1 43) (ix v3) v67)) fun (M68 : BC) =>
     o_lt (v3 + 1) fun (v69 : Int32) =>
     rec2 (v69, M68)
     else
     o_b1 (f_X3_getsLetter M4 v3 0) fun (M70 : BC) =>
     o_lt (r58 * (M70.1 (18 + ix v3) (ix 3))) fun (v71 : Int32) =>
     o_lt (bI M70 43 (upd (M70.1 43) (ix v3) v71)) fun (M72 : BC) =>
     o_lt (v3 + 1) fun (v73 : Int32) =>
     rec2 (v73, M72))
     else
     (if (M4.1 (18 + ix v3) (ix 4)) ≤ (M4.1 (18 + ix v3) (ix 0)) then
     o_lt (M4.1 (18 + ix v3) (ix 0)) fun (v75 : Int32) =>
     (if (0 : Int32) ≤ v75 then
     o_b1 (f_X3_getsLetter M4 v3 v75) fun (M77 : BC) =>
     o_lt (r58 * (M77.1 (18 + ix v3) (ix 3))) fun (v78 : Int32) =>
     o_lt (bI M77 43 (upd (M77.1 43) (ix v3) v78)) fun (M79 : BC) =>
     o_lt (v3 + 1) fun (v80 : Int32) =>
     rec2 (v80, M79)
     else
     o_b1 (f_X3_getsLetter M4 v3 0) fun (M81 : BC) =>
     o_lt (r58 * (M81.1 (18 + ix v3) (ix 3))) fun (v82 : Int32) =>
     o_lt (bI M81 43 (upd (M81.1 43) (ix v3) v82)) fun (M83 : BC) =>
     o_lt (v3 + 1) fun (v84 : Int32) =>
     rec2 (v84, M83))
     else
     o_lt ((M4.1 (18 + ix v3) (ix 0)) - 10) fun (v85 : Int32) =>
     (if (0 : Int32) ≤ v85 then
     o_b1 (f_X3_getsLetter M4 v3 v85) fun (M87 : BC) =>
     o_lt (r58 * (M87.1 (18 + ix v3) (ix 3))) fun (v88 : Int32) =>
     o_lt (bI M87 43 (upd (M87.1 43) (ix v3) v88)) fun (M89 : BC) =>
     o_lt (v3 + 1) fun (v90 : Int32) =>
     rec2 (v90, M89)
     else
     o_b1 (f_X3_getsLetter M4 v3 0) fun (M91 : BC) =>
     o_lt (r58 * (M91.1 (18 + ix v3) (ix 3))) fun (v92 : Int32) =>
     o_lt (bI M91 43 (upd (M91.1 43) (ix v3) v92)) fun (M93 : BC) =>
     o_lt (v3 + 1) fun (v94 : Int32) =>
     rec2 (v94, M93)))))))
def f_X3_yearGoesBy (fu : Nat) (M : BC) : Option BC :=
 o_b1 (f_X3_goThrough fu M) fun (M1 : BC) =>
 o_lp (f_X3_yearGoesBy_L6 fu) fu (0, M1)
abbrev rm_X3_yearGoesBy : Room := { frames := 4, cells := 0, slots := 0, locals := 95 }
set_option maxHeartbeats 4000000 in
set_option maxRecDepth 100000 in
theorem m_X3_yearGoesBy (l : Launch) (D : va_G) (g : Nat → ClassId) (sz : Nat) (adM : Nat → Nat) (kM : Option Nat) (tM : Option Nat) (fu : Nat) (M : BC) (MO : BC) (hf : f_X3_yearGoesBy fu M = some MO) : bMet (S := Unit) l yX3_yearGoesBy (ws_ yX3_yearGoesBy cX3_yearGoesBy 5 none) rm_X3_yearGoesBy D g sz [.ref (adM 0)] [mW g adM kM tM M] (fun _ => True) (fun _ => none) (fun _ => [mW g adM kM tM MO]) := by
  refine b_met (by decide) (Nat.le_of_ble_eq_true rfl) ?_
  intro p e s m args below meth c A Q ls hx hb hml hr hlk hown hname hts hE hl hW
  revert hW; generalize s.heap = H; intro hW
  have hl : lv_has ls 5 [(0, .ref (adM 0))] := hl
  rw [f_X3_yearGoesBy] at hf
  refine lv_aload_n hx hb dX3_yearGoesBy_0 rfl (lv_at hl 0 rfl) ?_
  obtain ⟨M1, hc1, hf⟩ := o_b1s hf
  have hp1 : List.Perm [mW g adM kM tM M] ([mW g adM kM tM M] ++ []) := b_perm [0] [] 1 rfl rfl rfl rfl
  refine b_call0 ⟨rfl, rfl⟩ (va_runV (As := []) (rest := []) ⟨hx, hb, hml, hown, hts⟩ (m_X3_goThrough l D g H.size adM kM tM fu M M1 hc1) (cwV 0 hts (lw_V q1806 q1808 qs57 q79 q1809) rfl rfl rfl (by decide +kernel) ⟨Nat.le_of_ble_eq_true rfl, Nat.le_of_ble_eq_true rfl⟩) (b_preV (pp := 0) (q := 0) hW hp1 rfl mW_0 rfl) rfl rfl hl.1 rfl (lv_room (Nat.le_of_ble_eq_true rfl)) dX3_yearGoesBy_1 ⟨Nat.le_of_ble_eq_true rfl, Nat.le_of_ble_eq_true rfl⟩) hW hp1 (fun _ _ H locs hW => ?_)
  have hW : bW D g A s H locs [mW g adM kM tM M1] := hW
  refine lv_iconst (v := 0) hx hb dX3_yearGoesBy_4 (by decide) ?_
  refine lv_istore_n (lv' := [(1, .int 0), (0, .ref (adM 0))]) hx hb dX3_yearGoesBy_5 rfl hl (by decide) rfl (fun ls hl => ?_)
  obtain ⟨stp2, est2, hf⟩ := o_ln hf
  have L2 : ∀ (n : Nat) (v3 : Int32) (M4 : BC) (H : Heap) (locs : List Loc) (ls : Array Slot), bW D g A s H locs [mW g adM kM tM M4] → lv_has ls 5 [(1, .int v3), (0, .ref (adM 0))] → o_lp stp2 n (v3, M4) = some MO → W p l e rm_X3_yearGoesBy s m args below meth c H locs 0 0 Q (F0 m 6 ls []) := by
    intro n2
    induction n2 with
    | zero => intro v3 M4 H locs ls hW hl hf; exact (o_lz hf).elim
    | succ n2 ih2 =>
      intro v3 M4 H locs ls hW hl hf
      have hf := o_lu est2 hf
      rw [f_X3_yearGoesBy_L6] at hf
      refine lv_iload_n hx hb dX3_yearGoesBy_6 rfl (lv_at hl 0 rfl) ?_
      refine lv_aload_n hx hb dX3_yearGoesBy_7 rfl (lv_at hl 1 rfl) ?_
      refine b_get hx hb hts in_X3 hown hW 0 0 3 9 rfl mW_0 rfl (by decide) ⟨rfl, rfl, rfl⟩ (hts _ q1468) mW_g9 dX3_yearGoesBy_8 ?_
      refine lv_icmp_ge (tgt := 94) hx hb dX3_yearGoesBy_11 (by decide) (fun c5 => ?_) (fun c5 => ?_)
      · have hf := o_t hf c5
        refine lv_aload_n hx hb dX3_yearGoesBy_94 rfl (lv_at hl 1 rfl) ?_
        refine lv_aload_n hx hb dX3_yearGoesBy_95 rfl (lv_at hl 1 rfl) ?_
        refine lv_iconst (v := (-1)) hx hb dX3_yearGoesBy_96 (by decide) ?_
        obtain ⟨r6, hc6, hf⟩ := o_b1s hf
        have hp6 : List.Perm [mW g adM kM tM M4] ([mW g adM kM tM M4] ++ []) := b_perm [0] [] 1 rfl rfl rfl rfl
        refine b_call0 ⟨rfl, rfl⟩ (va_runV (As := [.int (-1)]) (rest := [.ref (adM 0)]) ⟨hx, hb, hml, hown, hts⟩ (m_X3_joyBy l D g H.size adM kM tM fu M4 (-1) r6 hc6) (cwV 1 hts (lw_V q1838 q1840 qs61 q79 q1841) rfl rfl rfl (by decide +kernel) ⟨Nat.le_of_ble_eq_true rfl, Nat.le_of_ble_eq_true rfl⟩) (b_preV (pp := 0) (q := 0) hW hp6 rfl mW_0 rfl) rfl rfl hl.1 rfl (lv_room (Nat.le_of_ble_eq_true rfl)) dX3_yearGoesBy_97 ⟨Nat.le_of_ble_eq_true rfl, Nat.le_of_ble_eq_true rfl⟩) hW hp6 (fun _ _ H locs hW => ?_)
        have hW : bW D g A s H locs [mW g adM kM tM M4] := hW
        obtain ⟨M7, eM7, hf⟩ := o_ls hf
        refine b_put hx hb hts in_X3 tyX3 tyX3_ok nmX3 hown hW 0 0 3 29 rfl mW_0 (mW_p29 eM7) rfl rfl (by decide) ⟨rfl, rfl, rfl⟩ (hts _ q1488) rfl (ty := .int) rfl rfl rfl (by rw [mW_l]; decide) dX3_yearGoesBy_100 (fun H locs hW => ?_)
        have hW : bW D g A s H locs [mW g adM kM tM M7] := hW
        refine lv_iconst (v := 0) hx hb dX3_yearGoesBy_103 (by decide) ?_
        refine lv_istore_n (lv' := [(1, .int 0), (0, .ref (adM 0))]) hx hb dX3_yearGoesBy_104 rfl hl (by decide) rfl (fun ls hl => ?_)
        obtain ⟨stp8, est8, hf⟩ := o_ln hf
        have L8 : ∀ (n : Nat) (v9 : Int32) (M10 : BC) (H : Heap) (locs : List Loc) (ls : Array Slot), bW D g A s H locs [mW g adM kM tM M10] → lv_has ls 5 [(1, .int v9), (0, .ref (adM 0))] → o_lp stp8 n (v9, M10) = some MO → W p l e rm_X3_yearGoesBy s m args below meth c H locs 0 0 Q (F0 m 105 ls []) := by
          intro n8
          induction n8 with
          | zero => intro v9 M10 H locs ls hW hl hf; exact (o_lz hf).elim
          | succ n8 ih8 =>
            intro v9 M10 H locs ls hW hl hf
            have hf := o_lu est8 hf
            rw [f_X3_yearGoesBy_L105] at hf
            refine lv_iload_n hx hb dX3_yearGoesBy_105 rfl (lv_at hl 0 rfl) ?_
            refine lv_aload_n hx hb dX3_yearGoesBy_106 rfl (lv_at hl 1 rfl) ?_
            refine b_get hx hb hts in_X3 hown hW 0 0 3 11 rfl mW_0 rfl (by decide) ⟨rfl, rfl, rfl⟩ (hts _ q1470) mW_g11 dX3_yearGoesBy_107 ?_
            refine lv_icmp_ge (tgt := 130) hx hb dX3_yearGoesBy_110 (by decide) (fun c11 => ?_) (fun c11 => ?_)
            · have hf := o_t hf c11
              refine lv_iconst (v := 0) hx hb dX3_yearGoesBy_130 (by decide) ?_
              refine lv_istore_n (lv' := [(1, .int 0), (0, .ref (adM 0))]) hx hb dX3_yearGoesBy_131 rfl hl (by decide) rfl (fun ls hl => ?_)
              obtain ⟨stp12, est12, hf⟩ := o_ln hf
              have L12 : ∀ (n : Nat) (v13 : Int32) (M14 : BC) (H : Heap) (locs : List Loc) (ls : Array Slot), bW D g A s H locs [mW g adM kM tM M14] → lv_has ls 5 [(1, .int v13), (0, .ref (adM 0))] → o_lp stp12 n (v13, M14) = some MO → W p l e rm_X3_yearGoesBy s m args below meth c H locs 0 0 Q (F0 m 132 ls []) := by
                intro n12
                induction n12 with
                | zero => intro v13 M14 H locs ls hW hl hf; exact (o_lz hf).elim
                | succ n12 ih12 =>
                  intro v13 M14 H locs ls hW hl hf
                  have hf := o_lu est12 hf
                  rw [f_X3_yearGoesBy_L132] at hf
                  refine lv_iload_n hx hb dX3_yearGoesBy_132 rfl (lv_at hl 0 rfl) ?_
                  refine lv_aload_n hx hb dX3_yearGoesBy_133 rfl (lv_at hl 1 rfl) ?_
                  refine b_get hx hb hts in_X3 hown hW 0 0 3 9 rfl mW_0 rfl (by decide) ⟨rfl, rfl, rfl⟩ (hts _ q1468) mW_g9 dX3_yearGoesBy_134 ?_
                  refine lv_icmp_ge (tgt := 266) hx hb dX3_yearGoesBy_137 (by decide) (fun c15 => ?_) (fun c15 => ?_)
                  · have hf := o_t hf c15
                    refine lv_aload_n hx hb dX3_yearGoesBy_266 rfl (lv_at hl 1 rfl) ?_
                    refine lv_aload_n hx hb dX3_yearGoesBy_267 rfl (lv_at hl 1 rfl) ?_
                    refine b_get hx hb hts in_X3 hown hW 0 0 3 13 rfl mW_0 rfl (by decide) ⟨rfl, rfl, rfl⟩ (hts _ q1472) mW_g13 dX3_yearGoesBy_268 ?_
                    refine lv_iconst (v := 1) hx hb dX3_yearGoesBy_271 (by decide) ?_
                    refine lv_iadd hx hb dX3_yearGoesBy_272 ?_
                    refine lv_bipush (v := 99) hx hb dX3_yearGoesBy_273 (by decide) ?_
                    obtain ⟨r16, hc16, hf⟩ := o_b1s hf
                    have hp16 : List.Perm [mW g adM kM tM M14] ([] ++ [mW g adM kM tM M14]) := b_perm [] [0] 1 rfl rfl rfl rfl
                    refine b_call0 ⟨rfl, rfl⟩ (va_runS (As := [.int ((M14.1 0 3) + 1), .int 99]) (rest := [.ref (adM 0)]) ⟨hx, hb, hml, hown, hts⟩ (m_X3_within l D g H.size ((M14.1 0 3) + 1) 99 r16 hc16) (va_cwS 2 hts (lw_S q1930 q1931 q79 q1932) rfl rfl rfl (by decide +kernel) ⟨Nat.le_of_ble_eq_true rfl, Nat.le_of_ble_eq_true rfl⟩) (b_preS hW hp16) rfl rfl hl.1 rfl (lv_room (Nat.le_of_ble_eq_true rfl)) dX3_yearGoesBy_275 ⟨Nat.le_of_ble_eq_true rfl, Nat.le_of_ble_eq_true rfl⟩) hW hp16 (fun _ _ H locs hW => ?_)
                    have hW : bW D g A s H locs [mW g adM kM tM M14] := hW
                    obtain ⟨M17, eM17, hf⟩ := o_ls hf
                    refine b_put hx hb hts in_X3 tyX3 tyX3_ok nmX3 hown hW 0 0 3 13 rfl mW_0 (mW_p13 eM17) rfl rfl (by decide) ⟨rfl, rfl, rfl⟩ (hts _ q1472) rfl (ty := .int) rfl rfl rfl (by rw [mW_l]; decide) dX3_yearGoesBy_278 (fun H locs hW => ?_)
                    have hW : bW D g A s H locs [mW g adM kM tM M17] := hW
                    refine lv_aload_n hx hb dX3_yearGoesBy_281 rfl (lv_at hl 1 rfl) ?_
                    refine lv_dup hx hb dX3_yearGoesBy_282 rfl ?_
                    refine b_get hx hb hts in_X3 hown hW 0 0 3 14 rfl mW_0 rfl (by decide) ⟨rfl, rfl, rfl⟩ (hts _ q1473) mW_g14 dX3_yearGoesBy_283 ?_
                    refine lv_iconst (v := 1) hx hb dX3_yearGoesBy_286 (by decide) ?_
                    refine lv_iadd hx hb dX3_yearGoesBy_287 ?_
                    obtain ⟨v18, ev18, hf⟩ := o_ls hf
                    refine b_topi ev18 ?_
                    obtain ⟨M19, eM19, hf⟩ := o_ls hf
                    refine b_put hx hb hts in_X3 tyX3 tyX3_ok nmX3 hown hW 0 0 3 14 rfl mW_0 (mW_p14 eM19) rfl rfl (by decide) ⟨rfl, rfl, rfl⟩ (hts _ q1473) rfl (ty := .int) rfl rfl rfl (by rw [mW_l]; decide) dX3_yearGoesBy_288 (fun H locs hW => ?_)
                    have hW : bW D g A s H locs [mW g adM kM tM M19] := hW
                    cases hf
                    exact b_vret hx hb hr hlk hE hW () rfl trivial rfl dX3_yearGoesBy_291
                  · have hf := o_f hf c15
                    refine lv_aload_n hx hb dX3_yearGoesBy_140 rfl (lv_at hl 1 rfl) ?_
                    refine b_get hx hb hts in_X3 hown hW 0 0 3 10 rfl mW_0 rfl (by decide) ⟨rfl, rfl, rfl⟩ (hts _ q1469) mW_g10 dX3_yearGoesBy_141 ?_
                    refine lv_iload_n hx hb dX3_yearGoesBy_144 rfl (lv_at hl 0 rfl) ?_
                    obtain ⟨h20, hf⟩ := o_cs hf
                    refine b_agrI hx hb hW 0 17 rfl mW_17 h20 dX3_yearGoesBy_145 ?_
                    refine lv_astore_n (lv' := [(2, .ref (adM (18 + ix v13))), (1, .int v13), (0, .ref (adM 0))]) hx hb dX3_yearGoesBy_146 rfl hl (by decide) rfl (fun ls hl => ?_)
                    refine lv_aload_n hx hb dX3_yearGoesBy_147 rfl (lv_at hl 2 rfl) ?_
                    refine b_get hx hb hts in_X3 hown hW 0 0 3 27 rfl mW_0 rfl (by decide) ⟨rfl, rfl, rfl⟩ (hts _ q1486) mW_g27 dX3_yearGoesBy_148 ?_
                    refine lv_iload_n hx hb dX3_yearGoesBy_151 rfl (lv_at hl 1 rfl) ?_
                    refine b_iald hx hb hW 0 40 rfl mW_40 h20 dX3_yearGoesBy_152 ?_
                    refine lv_if_ne (tgt := 192) hx hb dX3_yearGoesBy_153 (by decide) (fun c21 => ?_) (fun c21 => ?_)
                    · have hf := o_f hf c21
                      refine lv_iconst (v := 2) hx hb dX3_yearGoesBy_192 (by decide) ?_
                      refine lv_aload_n hx hb dX3_yearGoesBy_193 rfl (lv_at hl 2 rfl) ?_
                      refine lv_iload_n hx hb dX3_yearGoesBy_194 rfl (lv_at hl 1 rfl) ?_
                      obtain ⟨r22, hc22, hf⟩ := o_b1s hf
                      have hp22 : List.Perm [mW g adM kM tM M14] ([mW g adM kM tM M14] ++ []) := b_perm [0] [] 1 rfl rfl rfl rfl
                      refine b_call0 ⟨rfl, rfl⟩ (va_runV (As := [.int v13]) (rest := [.int 2]) ⟨hx, hb, hml, hown, hts⟩ (m_X3_headsIn l D g H.size adM kM tM fu M14 v13 r22 hc22) (cwV 1 hts (lw_V q1822 q1824 qs60 q79 q1825) rfl rfl rfl (by decide +kernel) ⟨Nat.le_of_ble_eq_true rfl, Nat.le_of_ble_eq_true rfl⟩) (b_preV (pp := 0) (q := 0) hW hp22 rfl mW_0 rfl) rfl rfl hl.1 rfl (lv_room (Nat.le_of_ble_eq_true rfl)) dX3_yearGoesBy_195 ⟨Nat.le_of_ble_eq_true rfl, Nat.le_of_ble_eq_true rfl⟩) hW hp22 (fun _ _ H locs hW => ?_)
                      have hW : bW D g A s H locs [mW g adM kM tM M14] := hW
                      refine lv_imul hx hb dX3_yearGoesBy_198 ?_
                      refine lv_aload_n hx hb dX3_yearGoesBy_199 rfl (lv_at hl 0 rfl) ?_
                      refine lv_iconst (v := 2) hx hb dX3_yearGoesBy_200 (by decide) ?_
                      refine b_iald hx hb hW 0 (18 + ix v13) rfl (mW_r18 (inB_lt h20)) (by decide) dX3_yearGoesBy_201 ?_
                      refine lv_icmp_ge (tgt := 260) hx hb dX3_yearGoesBy_202 (by decide) (fun c23 => ?_) (fun c23 => ?_)
                      · have hf := o_t hf c23
                        obtain ⟨v24, ev24, hf⟩ := o_ls hf
                        refine lv_iinc (v := v24) (lv' := [(1, .int v24), (2, .ref (adM (18 + ix v13))), (0, .ref (adM 0))]) hx hb dX3_yearGoesBy_260 hl (k := 1) rfl ev24 (by decide) rfl (fun ls hl => ?_)
                        refine lv_goto (tgt := 132) hx hb dX3_yearGoesBy_263 (by decide) ?_
                        exact ih12 _ _ _ _ _ hW (lv_sub hl [0, 2] rfl) hf
                      · have hf := o_f hf c23
                        refine lv_aload_n hx hb dX3_yearGoesBy_205 rfl (lv_at hl 0 rfl) ?_
                        refine lv_iconst (v := 0) hx hb dX3_yearGoesBy_206 (by decide) ?_
                        refine b_iald hx hb hW 0 (18 + ix v13) rfl (mW_r18 (inB_lt h20)) (by decide) dX3_yearGoesBy_207 ?_
                        refine lv_iconst (v := 3) hx hb dX3_yearGoesBy_208 (by decide) ?_
                        refine lv_iadd hx hb dX3_yearGoesBy_209 ?_
                        refine lv_aload_n hx hb dX3_yearGoesBy_210 rfl (lv_at hl 0 rfl) ?_
                        refine lv_iconst (v := 1) hx hb dX3_yearGoesBy_211 (by decide) ?_
                        refine b_iald hx hb hW 0 (18 + ix v13) rfl (mW_r18 (inB_lt h20)) (by decide) dX3_yearGoesBy_212 ?_
                        refine lv_icmp_le (tgt := 222) hx hb dX3_yearGoesBy_213 (by decide) (fun c25 => ?_) (fun c25 => ?_)
                        · have hf := o_t hf c25
                          refine lv_aload_n hx hb dX3_yearGoesBy_222 rfl (lv_at hl 0 rfl) ?_
                          refine lv_iconst (v := 0) hx hb dX3_yearGoesBy_223 (by decide) ?_
                          refine b_iald hx hb hW 0 (18 + ix v13) rfl (mW_r18 (inB_lt h20)) (by decide) dX3_yearGoesBy_224 ?_
                          refine lv_iconst (v := 3) hx hb dX3_yearGoesBy_225 (by decide) ?_
                          refine lv_iadd hx hb dX3_yearGoesBy_226 ?_
                          obtain ⟨v26, ev26, hf⟩ := o_ls hf
                          refine b_topi ev26 ?_
                          refine lv_istore_n (lv' := [(3, .int v26), (2, .ref (adM (18 + ix v13))), (1, .int v13), (0, .ref (adM 0))]) hx hb dX3_yearGoesBy_227 rfl hl (by decide) rfl (fun ls hl => ?_)
                          refine lv_aload_n hx hb dX3_yearGoesBy_228 rfl (lv_at hl 1 rfl) ?_
                          refine lv_iconst (v := 0) hx hb dX3_yearGoesBy_229 (by decide) ?_
                          refine lv_aload_n hx hb dX3_yearGoesBy_230 rfl (lv_at hl 1 rfl) ?_
                          refine lv_iconst (v := 0) hx hb dX3_yearGoesBy_231 (by decide) ?_
                          refine b_iald hx hb hW 0 (18 + ix v13) rfl (mW_r18 (inB_lt h20)) (by decide) dX3_yearGoesBy_232 ?_
                          refine lv_aload_n hx hb dX3_yearGoesBy_233 rfl (lv_at hl 1 rfl) ?_
                          refine lv_iconst (v := 1) hx hb dX3_yearGoesBy_234 (by decide) ?_
                          refine b_iald hx hb hW 0 (18 + ix v13) rfl (mW_r18 (inB_lt h20)) (by decide) dX3_yearGoesBy_235 ?_
                          refine lv_icmp_le (tgt := 245) hx hb dX3_yearGoesBy_236 (by decide) (fun c27 => ?_) (fun c27 => ?_)
                          · have hf := o_t hf c27
                            refine lv_iload_n hx hb dX3_yearGoesBy_245 rfl (lv_at hl 0 rfl) ?_
                            obtain ⟨M28, eM28, hf⟩ := o_ls hf
                            refine b_iast hx hb hW 0 (18 + ix v13) rfl (mW_r18 (inB_lt h20)) (mW_rs18 (inB_lt h20) eM28) rfl (by decide) dX3_yearGoesBy_246 (fun H locs hW => ?_)
                            have hW : bW D g A s H locs [mW g adM kM tM M28] := hW
                            refine lv_aload_n hx hb dX3_yearGoesBy_247 rfl (lv_at hl 1 rfl) ?_
                            refine lv_iconst (v := 3) hx hb dX3_yearGoesBy_248 (by decide) ?_
                            refine lv_aload_n hx hb dX3_yearGoesBy_249 rfl (lv_at hl 1 rfl) ?_
                            refine lv_iconst (v := 3) hx hb dX3_yearGoesBy_250 (by decide) ?_
                            refine b_iald hx hb hW 0 (18 + ix v13) rfl (mW_r18 (inB_lt h20)) (by decide) dX3_yearGoesBy_251 ?_
                            refine lv_iconst (v := 1) hx hb dX3_yearGoesBy_252 (by decide) ?_
                            refine lv_isub hx hb dX3_yearGoesBy_253 ?_
                            refine lv_bipush (v := 99) hx hb dX3_yearGoesBy_254 (by decide) ?_
                            obtain ⟨r29, hc29, hf⟩ := o_b1s hf
                            have hp29 : List.Perm [mW g adM kM tM M28] ([] ++ [mW g adM kM tM M28]) := b_perm [] [0] 1 rfl rfl rfl rfl
                            refine b_call0 ⟨rfl, rfl⟩ (va_runS (As := [.int ((M28.1 (18 + ix v13) (ix 3)) - 1), .int 99]) (rest := [.int 3, .ref (adM (18 + ix v13))]) ⟨hx, hb, hml, hown, hts⟩ (m_X3_within l D g H.size ((M28.1 (18 + ix v13) (ix 3)) - 1) 99 r29 hc29) (va_cwS 2 hts (lw_S q1930 q1931 q79 q1932) rfl rfl rfl (by decide +kernel) ⟨Nat.le_of_ble_eq_true rfl, Nat.le_of_ble_eq_true rfl⟩) (b_preS hW hp29) rfl rfl hl.1 rfl (lv_room (Nat.le_of_ble_eq_true rfl)) dX3_yearGoesBy_256 ⟨Nat.le_of_ble_eq_true rfl, Nat.le_of_ble_eq_true rfl⟩) hW hp29 (fun _ _ H locs hW => ?_)
                            have hW : bW D g A s H locs [mW g adM kM tM M28] := hW
                            obtain ⟨M30, eM30, hf⟩ := o_ls hf
                            refine b_iast hx hb hW 0 (18 + ix v13) rfl (mW_r18 (inB_lt h20)) (mW_rs18 (inB_lt h20) eM30) rfl (by decide) dX3_yearGoesBy_259 (fun H locs hW => ?_)
                            have hW : bW D g A s H locs [mW g adM kM tM M30] := hW
                            obtain ⟨v31, ev31, hf⟩ := o_ls hf
                            refine lv_iinc (v := v31) (lv' := [(1, .int v31), (3, .int v26), (2, .ref (adM (18 + ix v13))), (0, .ref (adM 0))]) hx hb dX3_yearGoesBy_260 hl (k := 2) rfl ev31 (by decide) rfl (fun ls hl => ?_)
                            refine lv_goto (tgt := 132) hx hb dX3_yearGoesBy_263 (by decide) ?_
                            exact ih12 _ _ _ _ _ hW (lv_sub hl [0, 3] rfl) hf
                          · have hf := o_f hf c27
                            refine lv_aload_n hx hb dX3_yearGoesBy_239 rfl (lv_at hl 1 rfl) ?_
                            refine lv_iconst (v := 0) hx hb dX3_yearGoesBy_240 (by decide) ?_
                            refine b_iald hx hb hW 0 (18 + ix v13) rfl (mW_r18 (inB_lt h20)) (by decide) dX3_yearGoesBy_241 ?_
                            refine lv_goto (tgt := 246) hx hb dX3_yearGoesBy_242 (by decide) ?_
                            obtain ⟨v32, ev32, hf⟩ := o_ls hf
                            refine b_topi ev32 ?_
                            obtain ⟨M33, eM33, hf⟩ := o_ls hf
                            refine b_iast hx hb hW 0 (18 + ix v13) rfl (mW_r18 (inB_lt h20)) (mW_rs18 (inB_lt h20) eM33) rfl (by decide) dX3_yearGoesBy_246 (fun H locs hW => ?_)
                            have hW : bW D g A s H locs [mW g adM kM tM M33] := hW
                            refine lv_aload_n hx hb dX3_yearGoesBy_247 rfl (lv_at hl 1 rfl) ?_
                            refine lv_iconst (v := 3) hx hb dX3_yearGoesBy_248 (by decide) ?_
                            refine lv_aload_n hx hb dX3_yearGoesBy_249 rfl (lv_at hl 1 rfl) ?_
                            refine lv_iconst (v := 3) hx hb dX3_yearGoesBy_250 (by decide) ?_
                            refine b_iald hx hb hW 0 (18 + ix v13) rfl (mW_r18 (inB_lt h20)) (by decide) dX3_yearGoesBy_251 ?_
                            refine lv_iconst (v := 1) hx hb dX3_yearGoesBy_252 (by decide) ?_
                            refine lv_isub hx hb dX3_yearGoesBy_253 ?_
                            refine lv_bipush (v := 99) hx hb dX3_yearGoesBy_254 (by decide) ?_
                            obtain ⟨r34, hc34, hf⟩ := o_b1s hf
                            have hp34 : List.Perm [mW g adM kM tM M33] ([] ++ [mW g adM kM tM M33]) := b_perm [] [0] 1 rfl rfl rfl rfl
                            refine b_call0 ⟨rfl, rfl⟩ (va_runS (As := [.int ((M33.1 (18 + ix v13) (ix 3)) - 1), .int 99]) (rest := [.int 3, .ref (adM (18 + ix v13))]) ⟨hx, hb, hml, hown, hts⟩ (m_X3_within l D g H.size ((M33.1 (18 + ix v13) (ix 3)) - 1) 99 r34 hc34) (va_cwS 2 hts (lw_S q1930 q1931 q79 q1932) rfl rfl rfl (by decide +kernel) ⟨Nat.le_of_ble_eq_true rfl, Nat.le_of_ble_eq_true rfl⟩) (b_preS hW hp34) rfl rfl hl.1 rfl (lv_room (Nat.le_of_ble_eq_true rfl)) dX3_yearGoesBy_256 ⟨Nat.le_of_ble_eq_true rfl, Nat.le_of_ble_eq_true rfl⟩) hW hp34 (fun _ _ H locs hW => ?_)
                            have hW : bW D g A s H locs [mW g adM kM tM M33] := hW
                            obtain ⟨M35, eM35, hf⟩ := o_ls hf
                            refine b_iast hx hb hW 0 (18 + ix v13) rfl (mW_r18 (inB_lt h20)) (mW_rs18 (inB_lt h20) eM35) rfl (by decide) dX3_yearGoesBy_259 (fun H locs hW => ?_)
                            have hW : bW D g A s H locs [mW g adM kM tM M35] := hW
                            obtain ⟨v36, ev36, hf⟩ := o_ls hf
                            refine lv_iinc (v := v36) (lv' := [(1, .int v36), (3, .int v26), (2, .ref (adM (18 + ix v13))), (0, .ref (adM 0))]) hx hb dX3_yearGoesBy_260 hl (k := 2) rfl ev36 (by decide) rfl (fun ls hl => ?_)
                            refine lv_goto (tgt := 132) hx hb dX3_yearGoesBy_263 (by decide) ?_
                            exact ih12 _ _ _ _ _ hW (lv_sub hl [0, 3] rfl) hf
                        · have hf := o_f hf c25
                          refine lv_aload_n hx hb dX3_yearGoesBy_216 rfl (lv_at hl 0 rfl) ?_
                          refine lv_iconst (v := 1) hx hb dX3_yearGoesBy_217 (by decide) ?_
                          refine b_iald hx hb hW 0 (18 + ix v13) rfl (mW_r18 (inB_lt h20)) (by decide) dX3_yearGoesBy_218 ?_
                          refine lv_goto (tgt := 227) hx hb dX3_yearGoesBy_219 (by decide) ?_
                          obtain ⟨v37, ev37, hf⟩ := o_ls hf
                          refine b_topi ev37 ?_
                          refine lv_istore_n (lv' := [(3, .int v37), (2, .ref (adM (18 + ix v13))), (1, .int v13), (0, .ref (adM 0))]) hx hb dX3_yearGoesBy_227 rfl hl (by decide) rfl (fun ls hl => ?_)
                          refine lv_aload_n hx hb dX3_yearGoesBy_228 rfl (lv_at hl 1 rfl) ?_
                          refine lv_iconst (v := 0) hx hb dX3_yearGoesBy_229 (by decide) ?_
                          refine lv_aload_n hx hb dX3_yearGoesBy_230 rfl (lv_at hl 1 rfl) ?_
                          refine lv_iconst (v := 0) hx hb dX3_yearGoesBy_231 (by decide) ?_
                          refine b_iald hx hb hW 0 (18 + ix v13) rfl (mW_r18 (inB_lt h20)) (by decide) dX3_yearGoesBy_232 ?_
                          refine lv_aload_n hx hb dX3_yearGoesBy_233 rfl (lv_at hl 1 rfl) ?_
                          refine lv_iconst (v := 1) hx hb dX3_yearGoesBy_234 (by decide) ?_
                          refine b_iald hx hb hW 0 (18 + ix v13) rfl (mW_r18 (inB_lt h20)) (by decide) dX3_yearGoesBy_235 ?_
                          refine lv_icmp_le (tgt := 245) hx hb dX3_yearGoesBy_236 (by decide) (fun c38 => ?_) (fun c38 => ?_)
                          · have hf := o_t hf c38
                            refine lv_iload_n hx hb dX3_yearGoesBy_245 rfl (lv_at hl 0 rfl) ?_
                            obtain ⟨M39, eM39, hf⟩ := o_ls hf
                            refine b_iast hx hb hW 0 (18 + ix v13) rfl (mW_r18 (inB_lt h20)) (mW_rs18 (inB_lt h20) eM39) rfl (by decide) dX3_yearGoesBy_246 (fun H locs hW => ?_)
                            have hW : bW D g A s H locs [mW g adM kM tM M39] := hW
                            refine lv_aload_n hx hb dX3_yearGoesBy_247 rfl (lv_at hl 1 rfl) ?_
                            refine lv_iconst (v := 3) hx hb dX3_yearGoesBy_248 (by decide) ?_
                            refine lv_aload_n hx hb dX3_yearGoesBy_249 rfl (lv_at hl 1 rfl) ?_
                            refine lv_iconst (v := 3) hx hb dX3_yearGoesBy_250 (by decide) ?_
                            refine b_iald hx hb hW 0 (18 + ix v13) rfl (mW_r18 (inB_lt h20)) (by decide) dX3_yearGoesBy_251 ?_
                            refine lv_iconst (v := 1) hx hb dX3_yearGoesBy_252 (by decide) ?_
                            refine lv_isub hx hb dX3_yearGoesBy_253 ?_
                            refine lv_bipush (v := 99) hx hb dX3_yearGoesBy_254 (by decide) ?_
                            obtain ⟨r40, hc40, hf⟩ := o_b1s hf
                            have hp40 : List.Perm [mW g adM kM tM M39] ([] ++ [mW g adM kM tM M39]) := b_perm [] [0] 1 rfl rfl rfl rfl
                            refine b_call0 ⟨rfl, rfl⟩ (va_runS (As := [.int ((M39.1 (18 + ix v13) (ix 3)) - 1), .int 99]) (rest := [.int 3, .ref (adM (18 + ix v13))]) ⟨hx, hb, hml, hown, hts⟩ (m_X3_within l D g H.size ((M39.1 (18 + ix v13) (ix 3)) - 1) 99 r40 hc40) (va_cwS 2 hts (lw_S q1930 q1931 q79 q1932) rfl rfl rfl (by decide +kernel) ⟨Nat.le_of_ble_eq_true rfl, Nat.le_of_ble_eq_true rfl⟩) (b_preS hW hp40) rfl rfl hl.1 rfl (lv_room (Nat.le_of_ble_eq_true rfl)) dX3_yearGoesBy_256 ⟨Nat.le_of_ble_eq_true rfl, Nat.le_of_ble_eq_true rfl⟩) hW hp40 (fun _ _ H locs hW => ?_)
                            have hW : bW D g A s H locs [mW g adM kM tM M39] := hW
                            obtain ⟨M41, eM41, hf⟩ := o_ls hf
                            refine b_iast hx hb hW 0 (18 + ix v13) rfl (mW_r18 (inB_lt h20)) (mW_rs18 (inB_lt h20) eM41) rfl (by decide) dX3_yearGoesBy_259 (fun H locs hW => ?_)
                            have hW : bW D g A s H locs [mW g adM kM tM M41] := hW
                            obtain ⟨v42, ev42, hf⟩ := o_ls hf
                            refine lv_iinc (v := v42) (lv' := [(1, .int v42), (3, .int v37), (2, .ref (adM (18 + ix v13))), (0, .ref (adM 0))]) hx hb dX3_yearGoesBy_260 hl (k := 2) rfl ev42 (by decide) rfl (fun ls hl => ?_)
                            refine lv_goto (tgt := 132) hx hb dX3_yearGoesBy_263 (by decide) ?_
                            exact ih12 _ _ _ _ _ hW (lv_sub hl [0, 3] rfl) hf
                          · have hf := o_f hf c38
                            refine lv_aload_n hx hb dX3_yearGoesBy_239 rfl (lv_at hl 1 rfl) ?_
                            refine lv_iconst (v := 0) hx hb dX3_yearGoesBy_240 (by decide) ?_
                            refine b_iald hx hb hW 0 (18 + ix v13) rfl (mW_r18 (inB_lt h20)) (by decide) dX3_yearGoesBy_241 ?_
                            refine lv_goto (tgt := 246) hx hb dX3_yearGoesBy_242 (by decide) ?_
                            obtain ⟨v43, ev43, hf⟩ := o_ls hf
                            refine b_topi ev43 ?_
                            obtain ⟨M44, eM44, hf⟩ := o_ls hf
                            refine b_iast hx hb hW 0 (18 + ix v13) rfl (mW_r18 (inB_lt h20)) (mW_rs18 (inB_lt h20) eM44) rfl (by decide) dX3_yearGoesBy_246 (fun H locs hW => ?_)
                            have hW : bW D g A s H locs [mW g adM kM tM M44] := hW
                            refine lv_aload_n hx hb dX3_yearGoesBy_247 rfl (lv_at hl 1 rfl) ?_
                            refine lv_iconst (v := 3) hx hb dX3_yearGoesBy_248 (by decide) ?_
                            refine lv_aload_n hx hb dX3_yearGoesBy_249 rfl (lv_at hl 1 rfl) ?_
                            refine lv_iconst (v := 3) hx hb dX3_yearGoesBy_250 (by decide) ?_
                            refine b_iald hx hb hW 0 (18 + ix v13) rfl (mW_r18 (inB_lt h20)) (by decide) dX3_yearGoesBy_251 ?_
                            refine lv_iconst (v := 1) hx hb dX3_yearGoesBy_252 (by decide) ?_
                            refine lv_isub hx hb dX3_yearGoesBy_253 ?_
                            refine lv_bipush (v := 99) hx hb dX3_yearGoesBy_254 (by decide) ?_
                            obtain ⟨r45, hc45, hf⟩ := o_b1s hf
                            have hp45 : List.Perm [mW g adM kM tM M44] ([] ++ [mW g adM kM tM M44]) := b_perm [] [0] 1 rfl rfl rfl rfl
                            refine b_call0 ⟨rfl, rfl⟩ (va_runS (As := [.int ((M44.1 (18 + ix v13) (ix 3)) - 1), .int 99]) (rest := [.int 3, .ref (adM (18 + ix v13))]) ⟨hx, hb, hml, hown, hts⟩ (m_X3_within l D g H.size ((M44.1 (18 + ix v13) (ix 3)) - 1) 99 r45 hc45) (va_cwS 2 hts (lw_S q1930 q1931 q79 q1932) rfl rfl rfl (by decide +kernel) ⟨Nat.le_of_ble_eq_true rfl, Nat.le_of_ble_eq_true rfl⟩) (b_preS hW hp45) rfl rfl hl.1 rfl (lv_room (Nat.le_of_ble_eq_true rfl)) dX3_yearGoesBy_256 ⟨Nat.le_of_ble_eq_true rfl, Nat.le_of_ble_eq_true rfl⟩) hW hp45 (fun _ _ H locs hW => ?_)
                            have hW : bW D g A s H locs [mW g adM kM tM M44] := hW
                            obtain ⟨M46, eM46, hf⟩ := o_ls hf
                            refine b_iast hx hb hW 0 (18 + ix v13) rfl (mW_r18 (inB_lt h20)) (mW_rs18 (inB_lt h20) eM46) rfl (by decide) dX3_yearGoesBy_259 (fun H locs hW => ?_)
                            have hW : bW D g A s H locs [mW g adM kM tM M46] := hW
                            obtain ⟨v47, ev47, hf⟩ := o_ls hf
                            refine lv_iinc (v := v47) (lv' := [(1, .int v47), (3, .int v37), (2, .ref (adM (18 + ix v13))), (0, .ref (adM 0))]) hx hb dX3_yearGoesBy_260 hl (k := 2) rfl ev47 (by decide) rfl (fun ls hl => ?_)
                            refine lv_goto (tgt := 132) hx hb dX3_yearGoesBy_263 (by decide) ?_
                            exact ih12 _ _ _ _ _ hW (lv_sub hl [0, 3] rfl) hf
                    · have hf := o_t hf c21
                      refine lv_aload_n hx hb dX3_yearGoesBy_156 rfl (lv_at hl 0 rfl) ?_
                      refine lv_iconst (v := 0) hx hb dX3_yearGoesBy_157 (by decide) ?_
                      refine lv_aload_n hx hb dX3_yearGoesBy_158 rfl (lv_at hl 0 rfl) ?_
                      refine lv_iconst (v := 0) hx hb dX3_yearGoesBy_159 (by decide) ?_
                      refine b_iald hx hb hW 0 (18 + ix v13) rfl (mW_r18 (inB_lt h20)) (by decide) dX3_yearGoesBy_160 ?_
                      refine lv_bipush (v := 6) hx hb dX3_yearGoesBy_161 (by decide) ?_
                      refine lv_isub hx hb dX3_yearGoesBy_163 ?_
                      refine lv_bipush (v := 100) hx hb dX3_yearGoesBy_164 (by decide) ?_
                      obtain ⟨r48, hc48, hf⟩ := o_b1s hf
                      have hp48 : List.Perm [mW g adM kM tM M14] ([] ++ [mW g adM kM tM M14]) := b_perm [] [0] 1 rfl rfl rfl rfl
                      refine b_call0 ⟨rfl, rfl⟩ (va_runS (As := [.int ((M14.1 (18 + ix v13) (ix 0)) - 6), .int 100]) (rest := [.int 0, .ref (adM (18 + ix v13))]) ⟨hx, hb, hml, hown, hts⟩ (m_X3_within l D g H.size ((M14.1 (18 + ix v13) (ix 0)) - 6) 100 r48 hc48) (va_cwS 2 hts (lw_S q1930 q1931 q79 q1932) rfl rfl rfl (by decide +kernel) ⟨Nat.le_of_ble_eq_true rfl, Nat.le_of_ble_eq_true rfl⟩) (b_preS hW hp48) rfl rfl hl.1 rfl (lv_room (Nat.le_of_ble_eq_true rfl)) dX3_yearGoesBy_166 ⟨Nat.le_of_ble_eq_true rfl, Nat.le_of_ble_eq_true rfl⟩) hW hp48 (fun _ _ H locs hW => ?_)
                      have hW : bW D g A s H locs [mW g adM kM tM M14] := hW
                      obtain ⟨M49, eM49, hf⟩ := o_ls hf
                      refine b_iast hx hb hW 0 (18 + ix v13) rfl (mW_r18 (inB_lt h20)) (mW_rs18 (inB_lt h20) eM49) rfl (by decide) dX3_yearGoesBy_169 (fun H locs hW => ?_)
                      have hW : bW D g A s H locs [mW g adM kM tM M49] := hW
                      refine lv_aload_n hx hb dX3_yearGoesBy_170 rfl (lv_at hl 0 rfl) ?_
                      refine lv_iconst (v := 3) hx hb dX3_yearGoesBy_171 (by decide) ?_
                      refine lv_aload_n hx hb dX3_yearGoesBy_172 rfl (lv_at hl 0 rfl) ?_
                      refine lv_iconst (v := 3) hx hb dX3_yearGoesBy_173 (by decide) ?_
                      refine b_iald hx hb hW 0 (18 + ix v13) rfl (mW_r18 (inB_lt h20)) (by decide) dX3_yearGoesBy_174 ?_
                      refine lv_aload_n hx hb dX3_yearGoesBy_175 rfl (lv_at hl 0 rfl) ?_
                      refine lv_iconst (v := 3) hx hb dX3_yearGoesBy_176 (by decide) ?_
                      refine b_iald hx hb hW 0 (18 + ix v13) rfl (mW_r18 (inB_lt h20)) (by decide) dX3_yearGoesBy_177 ?_
                      refine lv_iconst (v := 4) hx hb dX3_yearGoesBy_178 (by decide) ?_
                      refine lv_idiv hx hb dX3_yearGoesBy_179 (by decide) ?_
                      refine lv_iadd hx hb dX3_yearGoesBy_180 ?_
                      refine lv_iconst (v := 1) hx hb dX3_yearGoesBy_181 (by decide) ?_
                      refine lv_iadd hx hb dX3_yearGoesBy_182 ?_
                      refine lv_bipush (v := 99) hx hb dX3_yearGoesBy_183 (by decide) ?_
                      obtain ⟨r50, hc50, hf⟩ := o_b1s hf
                      have hp50 : List.Perm [mW g adM kM tM M49] ([] ++ [mW g adM kM tM M49]) := b_perm [] [0] 1 rfl rfl rfl rfl
                      refine b_call0 ⟨rfl, rfl⟩ (va_runS (As := [.int (((M49.1 (18 + ix v13) (ix 3)) + ((M49.1 (18 + ix v13) (ix 3)) / 4)) + 1), .int 99]) (rest := [.int 3, .ref (adM (18 + ix v13))]) ⟨hx, hb, hml, hown, hts⟩ (m_X3_within l D g H.size (((M49.1 (18 + ix v13) (ix 3)) + ((M49.1 (18 + ix v13) (ix 3)) / 4)) + 1) 99 r50 hc50) (va_cwS 2 hts (lw_S q1930 q1931 q79 q1932) rfl rfl rfl (by decide +kernel) ⟨Nat.le_of_ble_eq_true rfl, Nat.le_of_ble_eq_true rfl⟩) (b_preS hW hp50) rfl rfl hl.1 rfl (lv_room (Nat.le_of_ble_eq_true rfl)) dX3_yearGoesBy_185 ⟨Nat.le_of_ble_eq_true rfl, Nat.le_of_ble_eq_true rfl⟩) hW hp50 (fun _ _ H locs hW => ?_)
                      have hW : bW D g A s H locs [mW g adM kM tM M49] := hW
                      obtain ⟨M51, eM51, hf⟩ := o_ls hf
                      refine b_iast hx hb hW 0 (18 + ix v13) rfl (mW_r18 (inB_lt h20)) (mW_rs18 (inB_lt h20) eM51) rfl (by decide) dX3_yearGoesBy_188 (fun H locs hW => ?_)
                      have hW : bW D g A s H locs [mW g adM kM tM M51] := hW
                      refine lv_goto (tgt := 260) hx hb dX3_yearGoesBy_189 (by decide) ?_
                      obtain ⟨v52, ev52, hf⟩ := o_ls hf
                      refine lv_iinc (v := v52) (lv' := [(1, .int v52), (2, .ref (adM (18 + ix v13))), (0, .ref (adM 0))]) hx hb dX3_yearGoesBy_260 hl (k := 1) rfl ev52 (by decide) rfl (fun ls hl => ?_)
                      refine lv_goto (tgt := 132) hx hb dX3_yearGoesBy_263 (by decide) ?_
                      exact ih12 _ _ _ _ _ hW (lv_sub hl [0, 2] rfl) hf
              exact L12 _ _ _ _ _ _ hW (lv_sub hl [0, 1] rfl) hf
            · have hf := o_f hf c11
              refine lv_aload_n hx hb dX3_yearGoesBy_113 rfl (lv_at hl 1 rfl) ?_
              refine b_get hx hb hts in_X3 hown hW 0 0 3 30 rfl mW_0 rfl (by decide) ⟨rfl, rfl, rfl⟩ (hts _ q1489) mW_g30 dX3_yearGoesBy_114 ?_
              refine lv_iload_n hx hb dX3_yearGoesBy_117 rfl (lv_at hl 0 rfl) ?_
              refine lv_aload_n hx hb dX3_yearGoesBy_118 rfl (lv_at hl 1 rfl) ?_
              refine lv_iload_n hx hb dX3_yearGoesBy_119 rfl (lv_at hl 0 rfl) ?_
              obtain ⟨r53, hc53, hf⟩ := o_b1s hf
              have hp53 : List.Perm [mW g adM kM tM M10] ([mW g adM kM tM M10] ++ []) := b_perm [0] [] 1 rfl rfl rfl rfl
              refine b_call0 ⟨rfl, rfl⟩ (va_runV (As := [.int v9]) (rest := [.int v9, .ref (adM 42)]) ⟨hx, hb, hml, hown, hts⟩ (m_X3_joyOf l D g H.size adM kM tM fu M10 v9 r53 hc53) (cwV 1 hts (lw_V q1842 q1844 qs62 q79 q1845) rfl rfl rfl (by decide +kernel) ⟨Nat.le_of_ble_eq_true rfl, Nat.le_of_ble_eq_true rfl⟩) (b_preV (pp := 0) (q := 0) hW hp53 rfl mW_0 rfl) rfl rfl hl.1 rfl (lv_room (Nat.le_of_ble_eq_true rfl)) dX3_yearGoesBy_120 ⟨Nat.le_of_ble_eq_true rfl, Nat.le_of_ble_eq_true rfl⟩) hW hp53 (fun _ _ H locs hW => ?_)
              have hW : bW D g A s H locs [mW g adM kM tM M10] := hW
              obtain ⟨h54, hf⟩ := o_cs hf
              obtain ⟨M55, eM55, hf⟩ := o_ls hf
              refine b_iast hx hb hW 0 42 rfl mW_42 (mW_s42 eM55) rfl h54 dX3_yearGoesBy_123 (fun H locs hW => ?_)
              have hW : bW D g A s H locs [mW g adM kM tM M55] := hW
              obtain ⟨v56, ev56, hf⟩ := o_ls hf
              refine lv_iinc (v := v56) (lv' := [(1, .int v56), (0, .ref (adM 0))]) hx hb dX3_yearGoesBy_124 hl (k := 0) rfl ev56 (by decide) rfl (fun ls hl => ?_)
              refine lv_goto (tgt := 105) hx hb dX3_yearGoesBy_127 (by decide) ?_
              exact ih8 _ _ _ _ _ hW (lv_sub hl [0, 1] rfl) hf
        exact L8 _ _ _ _ _ _ hW (lv_sub hl [0, 1] rfl) hf
      · have hf := o_f hf c5
        refine lv_aload_n hx hb dX3_yearGoesBy_14 rfl (lv_at hl 1 rfl) ?_
        refine b_get hx hb hts in_X3 hown hW 0 0 3 10 rfl mW_0 rfl (by decide) ⟨rfl, rfl, rfl⟩ (hts _ q1469) mW_g10 dX3_yearGoesBy_15 ?_
        refine lv_iload_n hx hb dX3_yearGoesBy_18 rfl (lv_at hl 0 rfl) ?_
        obtain ⟨h57, hf⟩ := o_cs hf
        refine b_agrI hx hb hW 0 17 rfl mW_17 h57 dX3_yearGoesBy_19 ?_
        refine lv_astore_n (lv' := [(2, .ref (adM (18 + ix v3))), (1, .int v3), (0, .ref (adM 0))]) hx hb dX3_yearGoesBy_20 rfl hl (by decide) rfl (fun ls hl => ?_)
        refine lv_aload_n hx hb dX3_yearGoesBy_21 rfl (lv_at hl 2 rfl) ?_
        refine lv_iload_n hx hb dX3_yearGoesBy_22 rfl (lv_at hl 1 rfl) ?_
        obtain ⟨r58, hc58, hf⟩ := o_b1s hf
        have hp58 : List.Perm [mW g adM kM tM M4] ([mW g adM kM tM M4] ++ []) := b_perm [0] [] 1 rfl rfl rfl rfl
        refine b_call0 ⟨rfl, rfl⟩ (va_runV (As := [.int v3]) (rest := []) ⟨hx, hb, hml, hown, hts⟩ (m_X3_headsIn l D g H.size adM kM tM fu M4 v3 r58 hc58) (cwV 1 hts (lw_V q1822 q1824 qs60 q79 q1825) rfl rfl rfl (by decide +kernel) ⟨Nat.le_of_ble_eq_true rfl, Nat.le_of_ble_eq_true rfl⟩) (b_preV (pp := 0) (q := 0) hW hp58 rfl mW_0 rfl) rfl rfl hl.1 rfl (lv_room (Nat.le_of_ble_eq_true rfl)) dX3_yearGoesBy_23 ⟨Nat.le_of_ble_eq_true rfl, Nat.le_of_ble_eq_true rfl⟩) hW hp58 (fun _ _ H locs hW => ?_)
        have hW : bW D g A s H locs [mW g adM kM tM M4] := hW
        refine lv_istore_n (lv' := [(3, .int r58), (2, .ref (adM (18 + ix v3))), (1, .int v3), (0, .ref (adM 0))]) hx hb dX3_yearGoesBy_26 rfl hl (by decide) rfl (fun ls hl => ?_)
        refine lv_iload_n hx hb dX3_yearGoesBy_27 rfl (lv_at hl 0 rfl) ?_
        refine lv_if_le (tgt := 77) hx hb dX3_yearGoesBy_28 (by decide) (fun c59 => ?_) (fun c59 => ?_)
        · have hf := o_t hf c59
          refine lv_aload_n hx hb dX3_yearGoesBy_77 rfl (lv_at hl 3 rfl) ?_
          refine b_get hx hb hts in_X3 hown hW 0 0 3 31 rfl mW_0 rfl (by decide) ⟨rfl, rfl, rfl⟩ (hts _ q1490) mW_g31 dX3_yearGoesBy_78 ?_
          refine lv_iload_n hx hb dX3_yearGoesBy_81 rfl (lv_at hl 2 rfl) ?_
          refine lv_iload_n hx hb dX3_yearGoesBy_82 rfl (lv_at hl 0 rfl) ?_
          refine lv_aload_n hx hb dX3_yearGoesBy_83 rfl (lv_at hl 1 rfl) ?_
          refine lv_iconst (v := 3) hx hb dX3_yearGoesBy_84 (by decide) ?_
          refine b_iald hx hb hW 0 (18 + ix v3) rfl (mW_r18 (inB_lt h57)) (by decide) dX3_yearGoesBy_85 ?_
          refine lv_imul hx hb dX3_yearGoesBy_86 ?_
          obtain ⟨v60, ev60, hf⟩ := o_ls hf
          refine b_topi ev60 ?_
          obtain ⟨M61, eM61, hf⟩ := o_ls hf
          refine b_iast hx hb hW 0 43 rfl mW_43 (mW_s43 eM61) rfl h57 dX3_yearGoesBy_87 (fun H locs hW => ?_)
          have hW : bW D g A s H locs [mW g adM kM tM M61] := hW
          obtain ⟨v62, ev62, hf⟩ := o_ls hf
          refine lv_iinc (v := v62) (lv' := [(1, .int v62), (3, .int r58), (2, .ref (adM (18 + ix v3))), (0, .ref (adM 0))]) hx hb dX3_yearGoesBy_88 hl (k := 2) rfl ev62 (by decide) rfl (fun ls hl => ?_)
          refine lv_goto (tgt := 6) hx hb dX3_yearGoesBy_91 (by decide) ?_
          exact ih2 _ _ _ _ _ hW (lv_sub hl [0, 3] rfl) hf
        · have hf := o_f hf c59
          refine lv_aload_n hx hb dX3_yearGoesBy_31 rfl (lv_at hl 1 rfl) ?_
          refine lv_iconst (v := 4) hx hb dX3_yearGoesBy_32 (by decide) ?_
          refine b_iald hx hb hW 0 (18 + ix v3) rfl (mW_r18 (inB_lt h57)) (by decide) dX3_yearGoesBy_33 ?_
          refine lv_iconst (v := (-1)) hx hb dX3_yearGoesBy_34 (by decide) ?_
          refine lv_icmp_eq (tgt := 56) hx hb dX3_yearGoesBy_35 (by decide) (fun c63 => ?_) (fun c63 => ?_)
          · have hf := o_t hf c63
            refine lv_aload_n hx hb dX3_yearGoesBy_56 rfl (lv_at hl 1 rfl) ?_
            refine lv_iconst (v := 0) hx hb dX3_yearGoesBy_57 (by decide) ?_
            refine b_iald hx hb hW 0 (18 + ix v3) rfl (mW_r18 (inB_lt h57)) (by decide) dX3_yearGoesBy_58 ?_
            obtain ⟨v64, ev64, hf⟩ := o_ls hf
            refine b_topi ev64 ?_
            refine lv_istore (lv' := [(4, .int v64), (3, .int r58), (2, .ref (adM (18 + ix v3))), (1, .int v3), (0, .ref (adM 0))]) hx hb dX3_yearGoesBy_59 hl (by decide) rfl (fun ls hl => ?_)
            refine lv_aload_n hx hb dX3_yearGoesBy_61 rfl (lv_at hl 4 rfl) ?_
            refine lv_iload_n hx hb dX3_yearGoesBy_62 rfl (lv_at hl 3 rfl) ?_
            refine lv_iload hx hb dX3_yearGoesBy_63 (lv_at hl 0 rfl) ?_
            refine lv_if_ge (tgt := 72) hx hb dX3_yearGoesBy_65 (by decide) (fun c65 => ?_) (fun c65 => ?_)
            · have hf := o_t hf c65
              refine lv_iload hx hb dX3_yearGoesBy_72 (lv_at hl 0 rfl) ?_
              obtain ⟨M66, hc66, hf⟩ := o_b1s hf
              have hp66 : List.Perm [mW g adM kM tM M4] ([mW g adM kM tM M4] ++ []) := b_perm [0] [] 1 rfl rfl rfl rfl
              refine b_call0 ⟨rfl, rfl⟩ (va_runV (As := [.int v3, .int v64]) (rest := []) ⟨hx, hb, hml, hown, hts⟩ (m_X3_getsLetter l D g H.size adM kM tM M4 v3 v64 M66 hc66) (cwV 2 hts (lw_V q1676 q1678 qs44 q79 q1679) rfl rfl rfl (by decide +kernel) ⟨Nat.le_of_ble_eq_true rfl, Nat.le_of_ble_eq_true rfl⟩) (b_preV (pp := 0) (q := 0) hW hp66 rfl mW_0 rfl) rfl rfl hl.1 rfl (lv_room (Nat.le_of_ble_eq_true rfl)) dX3_yearGoesBy_74 ⟨Nat.le_of_ble_eq_true rfl, Nat.le_of_ble_eq_true rfl⟩) hW hp66 (fun _ _ H locs hW => ?_)
              have hW : bW D g A s H locs [mW g adM kM tM M66] := hW
              refine lv_aload_n hx hb dX3_yearGoesBy_77 rfl (lv_at hl 4 rfl) ?_
              refine b_get hx hb hts in_X3 hown hW 0 0 3 31 rfl mW_0 rfl (by decide) ⟨rfl, rfl, rfl⟩ (hts _ q1490) mW_g31 dX3_yearGoesBy_78 ?_
              refine lv_iload_n hx hb dX3_yearGoesBy_81 rfl (lv_at hl 3 rfl) ?_
              refine lv_iload_n hx hb dX3_yearGoesBy_82 rfl (lv_at hl 1 rfl) ?_
              refine lv_aload_n hx hb dX3_yearGoesBy_83 rfl (lv_at hl 2 rfl) ?_
              refine lv_iconst (v := 3) hx hb dX3_yearGoesBy_84 (by decide) ?_
              refine b_iald hx hb hW 0 (18 + ix v3) rfl (mW_r18 (inB_lt h57)) (by decide) dX3_yearGoesBy_85 ?_
              refine lv_imul hx hb dX3_yearGoesBy_86 ?_
              obtain ⟨v67, ev67, hf⟩ := o_ls hf
              refine b_topi ev67 ?_
              obtain ⟨M68, eM68, hf⟩ := o_ls hf
              refine b_iast hx hb hW 0 43 rfl mW_43 (mW_s43 eM68) rfl h57 dX3_yearGoesBy_87 (fun H locs hW => ?_)
              have hW : bW D g A s H locs [mW g adM kM tM M68] := hW
              obtain ⟨v69, ev69, hf⟩ := o_ls hf
              refine lv_iinc (v := v69) (lv' := [(1, .int v69), (4, .int v64), (3, .int r58), (2, .ref (adM (18 + ix v3))), (0, .ref (adM 0))]) hx hb dX3_yearGoesBy_88 hl (k := 3) rfl ev69 (by decide) rfl (fun ls hl => ?_)
              refine lv_goto (tgt := 6) hx hb dX3_yearGoesBy_91 (by decide) ?_
              exact ih2 _ _ _ _ _ hW (lv_sub hl [0, 4] rfl) hf
            · have hf := o_f hf c65
              refine lv_iconst (v := 0) hx hb dX3_yearGoesBy_68 (by decide) ?_
              refine lv_goto (tgt := 74) hx hb dX3_yearGoesBy_69 (by decide) ?_
              obtain ⟨M70, hc70, hf⟩ := o_b1s hf
              have hp70 : List.Perm [mW g adM kM tM M4] ([mW g adM kM tM M4] ++ []) := b_perm [0] [] 1 rfl rfl rfl rfl
              refine b_call0 ⟨rfl, rfl⟩ (va_runV (As := [.int v3, .int 0]) (rest := []) ⟨hx, hb, hml, hown, hts⟩ (m_X3_getsLetter l D g H.size adM kM tM M4 v3 0 M70 hc70) (cwV 2 hts (lw_V q1676 q1678 qs44 q79 q1679) rfl rfl rfl (by decide +kernel) ⟨Nat.le_of_ble_eq_true rfl, Nat.le_of_ble_eq_true rfl⟩) (b_preV (pp := 0) (q := 0) hW hp70 rfl mW_0 rfl) rfl rfl hl.1 rfl (lv_room (Nat.le_of_ble_eq_true rfl)) dX3_yearGoesBy_74 ⟨Nat.le_of_ble_eq_true rfl, Nat.le_of_ble_eq_true rfl⟩) hW hp70 (fun _ _ H locs hW => ?_)
              have hW : bW D g A s H locs [mW g adM kM tM M70] := hW
              refine lv_aload_n hx hb dX3_yearGoesBy_77 rfl (lv_at hl 4 rfl) ?_
              refine b_get hx hb hts in_X3 hown hW 0 0 3 31 rfl mW_0 rfl (by decide) ⟨rfl, rfl, rfl⟩ (hts _ q1490) mW_g31 dX3_yearGoesBy_78 ?_
              refine lv_iload_n hx hb dX3_yearGoesBy_81 rfl (lv_at hl 3 rfl) ?_
              refine lv_iload_n hx hb dX3_yearGoesBy_82 rfl (lv_at hl 1 rfl) ?_
              refine lv_aload_n hx hb dX3_yearGoesBy_83 rfl (lv_at hl 2 rfl) ?_
              refine lv_iconst (v := 3) hx hb dX3_yearGoesBy_84 (by decide) ?_
              refine b_iald hx hb hW 0 (18 + ix v3) rfl (mW_r18 (inB_lt h57)) (by decide) dX3_yearGoesBy_85 ?_
              refine lv_imul hx hb dX3_yearGoesBy_86 ?_
              obtain ⟨v71, ev71, hf⟩ := o_ls hf
              refine b_topi ev71 ?_
              obtain ⟨M72, eM72, hf⟩ := o_ls hf
              refine b_iast hx hb hW 0 43 rfl mW_43 (mW_s43 eM72) rfl h57 dX3_yearGoesBy_87 (fun H locs hW => ?_)
              have hW : bW D g A s H locs [mW g adM kM tM M72] := hW
              obtain ⟨v73, ev73, hf⟩ := o_ls hf
              refine lv_iinc (v := v73) (lv' := [(1, .int v73), (4, .int v64), (3, .int r58), (2, .ref (adM (18 + ix v3))), (0, .ref (adM 0))]) hx hb dX3_yearGoesBy_88 hl (k := 3) rfl ev73 (by decide) rfl (fun ls hl => ?_)
              refine lv_goto (tgt := 6) hx hb dX3_yearGoesBy_91 (by decide) ?_
              exact ih2 _ _ _ _ _ hW (lv_sub hl [0, 4] rfl) hf
          · have hf := o_f hf c63
            refine lv_aload_n hx hb dX3_yearGoesBy_38 rfl (lv_at hl 1 rfl) ?_
            refine lv_iconst (v := 0) hx hb dX3_yearGoesBy_39 (by decide) ?_
            refine b_iald hx hb hW 0 (18 + ix v3) rfl (mW_r18 (inB_lt h57)) (by decide) dX3_yearGoesBy_40 ?_
            refine lv_aload_n hx hb dX3_yearGoesBy_41 rfl (lv_at hl 1 rfl) ?_
            refine lv_iconst (v := 4) hx hb dX3_yearGoesBy_42 (by decide) ?_
            refine b_iald hx hb hW 0 (18 + ix v3) rfl (mW_r18 (inB_lt h57)) (by decide) dX3_yearGoesBy_43 ?_
            refine lv_icmp_ge (tgt := 56) hx hb dX3_yearGoesBy_44 (by decide) (fun c74 => ?_) (fun c74 => ?_)
            · have hf := o_t hf c74
              refine lv_aload_n hx hb dX3_yearGoesBy_56 rfl (lv_at hl 1 rfl) ?_
              refine lv_iconst (v := 0) hx hb dX3_yearGoesBy_57 (by decide) ?_
              refine b_iald hx hb hW 0 (18 + ix v3) rfl (mW_r18 (inB_lt h57)) (by decide) dX3_yearGoesBy_58 ?_
              obtain ⟨v75, ev75, hf⟩ := o_ls hf
              refine b_topi ev75 ?_
              refine lv_istore (lv' := [(4, .int v75), (3, .int r58), (2, .ref (adM (18 + ix v3))), (1, .int v3), (0, .ref (adM 0))]) hx hb dX3_yearGoesBy_59 hl (by decide) rfl (fun ls hl => ?_)
              refine lv_aload_n hx hb dX3_yearGoesBy_61 rfl (lv_at hl 4 rfl) ?_
              refine lv_iload_n hx hb dX3_yearGoesBy_62 rfl (lv_at hl 3 rfl) ?_
              refine lv_iload hx hb dX3_yearGoesBy_63 (lv_at hl 0 rfl) ?_
              refine lv_if_ge (tgt := 72) hx hb dX3_yearGoesBy_65 (by decide) (fun c76 => ?_) (fun c76 => ?_)
              · have hf := o_t hf c76
                refine lv_iload hx hb dX3_yearGoesBy_72 (lv_at hl 0 rfl) ?_
                obtain ⟨M77, hc77, hf⟩ := o_b1s hf
                have hp77 : List.Perm [mW g adM kM tM M4] ([mW g adM kM tM M4] ++ []) := b_perm [0] [] 1 rfl rfl rfl rfl
                refine b_call0 ⟨rfl, rfl⟩ (va_runV (As := [.int v3, .int v75]) (rest := []) ⟨hx, hb, hml, hown, hts⟩ (m_X3_getsLetter l D g H.size adM kM tM M4 v3 v75 M77 hc77) (cwV 2 hts (lw_V q1676 q1678 qs44 q79 q1679) rfl rfl rfl (by decide +kernel) ⟨Nat.le_of_ble_eq_true rfl, Nat.le_of_ble_eq_true rfl⟩) (b_preV (pp := 0) (q := 0) hW hp77 rfl mW_0 rfl) rfl rfl hl.1 rfl (lv_room (Nat.le_of_ble_eq_true rfl)) dX3_yearGoesBy_74 ⟨Nat.le_of_ble_eq_true rfl, Nat.le_of_ble_eq_true rfl⟩) hW hp77 (fun _ _ H locs hW => ?_)
                have hW : bW D g A s H locs [mW g adM kM tM M77] := hW
                refine lv_aload_n hx hb dX3_yearGoesBy_77 rfl (lv_at hl 4 rfl) ?_
                refine b_get hx hb hts in_X3 hown hW 0 0 3 31 rfl mW_0 rfl (by decide) ⟨rfl, rfl, rfl⟩ (hts _ q1490) mW_g31 dX3_yearGoesBy_78 ?_
                refine lv_iload_n hx hb dX3_yearGoesBy_81 rfl (lv_at hl 3 rfl) ?_
                refine lv_iload_n hx hb dX3_yearGoesBy_82 rfl (lv_at hl 1 rfl) ?_
                refine lv_aload_n hx hb dX3_yearGoesBy_83 rfl (lv_at hl 2 rfl) ?_
                refine lv_iconst (v := 3) hx hb dX3_yearGoesBy_84 (by decide) ?_
                refine b_iald hx hb hW 0 (18 + ix v3) rfl (mW_r18 (inB_lt h57)) (by decide) dX3_yearGoesBy_85 ?_
                refine lv_imul hx hb dX3_yearGoesBy_86 ?_
                obtain ⟨v78, ev78, hf⟩ := o_ls hf
                refine b_topi ev78 ?_
                obtain ⟨M79, eM79, hf⟩ := o_ls hf
                refine b_iast hx hb hW 0 43 rfl mW_43 (mW_s43 eM79) rfl h57 dX3_yearGoesBy_87 (fun H locs hW => ?_)
                have hW : bW D g A s H locs [mW g adM kM tM M79] := hW
                obtain ⟨v80, ev80, hf⟩ := o_ls hf
                refine lv_iinc (v := v80) (lv' := [(1, .int v80), (4, .int v75), (3, .int r58), (2, .ref (adM (18 + ix v3))), (0, .ref (adM 0))]) hx hb dX3_yearGoesBy_88 hl (k := 3) rfl ev80 (by decide) rfl (fun ls hl => ?_)
                refine lv_goto (tgt := 6) hx hb dX3_yearGoesBy_91 (by decide) ?_
                exact ih2 _ _ _ _ _ hW (lv_sub hl [0, 4] rfl) hf
              · have hf := o_f hf c76
                refine lv_iconst (v := 0) hx hb dX3_yearGoesBy_68 (by decide) ?_
                refine lv_goto (tgt := 74) hx hb dX3_yearGoesBy_69 (by decide) ?_
                obtain ⟨M81, hc81, hf⟩ := o_b1s hf
                have hp81 : List.Perm [mW g adM kM tM M4] ([mW g adM kM tM M4] ++ []) := b_perm [0] [] 1 rfl rfl rfl rfl
                refine b_call0 ⟨rfl, rfl⟩ (va_runV (As := [.int v3, .int 0]) (rest := []) ⟨hx, hb, hml, hown, hts⟩ (m_X3_getsLetter l D g H.size adM kM tM M4 v3 0 M81 hc81) (cwV 2 hts (lw_V q1676 q1678 qs44 q79 q1679) rfl rfl rfl (by decide +kernel) ⟨Nat.le_of_ble_eq_true rfl, Nat.le_of_ble_eq_true rfl⟩) (b_preV (pp := 0) (q := 0) hW hp81 rfl mW_0 rfl) rfl rfl hl.1 rfl (lv_room (Nat.le_of_ble_eq_true rfl)) dX3_yearGoesBy_74 ⟨Nat.le_of_ble_eq_true rfl, Nat.le_of_ble_eq_true rfl⟩) hW hp81 (fun _ _ H locs hW => ?_)
                have hW : bW D g A s H locs [mW g adM kM tM M81] := hW
                refine lv_aload_n hx hb dX3_yearGoesBy_77 rfl (lv_at hl 4 rfl) ?_
                refine b_get hx hb hts in_X3 hown hW 0 0 3 31 rfl mW_0 rfl (by decide) ⟨rfl, rfl, rfl⟩ (hts _ q1490) mW_g31 dX3_yearGoesBy_78 ?_
                refine lv_iload_n hx hb dX3_yearGoesBy_81 rfl (lv_at hl 3 rfl) ?_
                refine lv_iload_n hx hb dX3_yearGoesBy_82 rfl (lv_at hl 1 rfl) ?_
                refine lv_aload_n hx hb dX3_yearGoesBy_83 rfl (lv_at hl 2 rfl) ?_
                refine lv_iconst (v := 3) hx hb dX3_yearGoesBy_84 (by decide) ?_
                refine b_iald hx hb hW 0 (18 + ix v3) rfl (mW_r18 (inB_lt h57)) (by decide) dX3_yearGoesBy_85 ?_
                refine lv_imul hx hb dX3_yearGoesBy_86 ?_
                obtain ⟨v82, ev82, hf⟩ := o_ls hf
                refine b_topi ev82 ?_
                obtain ⟨M83, eM83, hf⟩ := o_ls hf
                refine b_iast hx hb hW 0 43 rfl mW_43 (mW_s43 eM83) rfl h57 dX3_yearGoesBy_87 (fun H locs hW => ?_)
                have hW : bW D g A s H locs [mW g adM kM tM M83] := hW
                obtain ⟨v84, ev84, hf⟩ := o_ls hf
                refine lv_iinc (v := v84) (lv' := [(1, .int v84), (4, .int v75), (3, .int r58), (2, .ref (adM (18 + ix v3))), (0, .ref (adM 0))]) hx hb dX3_yearGoesBy_88 hl (k := 3) rfl ev84 (by decide) rfl (fun ls hl => ?_)
                refine lv_goto (tgt := 6) hx hb dX3_yearGoesBy_91 (by decide) ?_
                exact ih2 _ _ _ _ _ hW (lv_sub hl [0, 4] rfl) hf
            · have hf := o_f hf c74
              refine lv_aload_n hx hb dX3_yearGoesBy_47 rfl (lv_at hl 1 rfl) ?_
              refine lv_iconst (v := 0) hx hb dX3_yearGoesBy_48 (by decide) ?_
              refine b_iald hx hb hW 0 (18 + ix v3) rfl (mW_r18 (inB_lt h57)) (by decide) dX3_yearGoesBy_49 ?_
              refine lv_bipush (v := 10) hx hb dX3_yearGoesBy_50 (by decide) ?_
              refine lv_isub hx hb dX3_yearGoesBy_52 ?_
              refine lv_goto (tgt := 59) hx hb dX3_yearGoesBy_53 (by decide) ?_
              obtain ⟨v85, ev85, hf⟩ := o_ls hf
              refine b_topi ev85 ?_
              refine lv_istore (lv' := [(4, .int v85), (3, .int r58), (2, .ref (adM (18 + ix v3))), (1, .int v3), (0, .ref (adM 0))]) hx hb dX3_yearGoesBy_59 hl (by decide) rfl (fun ls hl => ?_)
              refine lv_aload_n hx hb dX3_yearGoesBy_61 rfl (lv_at hl 4 rfl) ?_
              refine lv_iload_n hx hb dX3_yearGoesBy_62 rfl (lv_at hl 3 rfl) ?_
              refine lv_iload hx hb dX3_yearGoesBy_63 (lv_at hl 0 rfl) ?_
              refine lv_if_ge (tgt := 72) hx hb dX3_yearGoesBy_65 (by decide) (fun c86 => ?_) (fun c86 => ?_)
              · have hf := o_t hf c86
                refine lv_iload hx hb dX3_yearGoesBy_72 (lv_at hl 0 rfl) ?_
                obtain ⟨M87, hc87, hf⟩ := o_b1s hf
                have hp87 : List.Perm [mW g adM kM tM M4] ([mW g adM kM tM M4] ++ []) := b_perm [0] [] 1 rfl rfl rfl rfl
                refine b_call0 ⟨rfl, rfl⟩ (va_runV (As := [.int v3, .int v85]) (rest := []) ⟨hx, hb, hml, hown, hts⟩ (m_X3_getsLetter l D g H.size adM kM tM M4 v3 v85 M87 hc87) (cwV 2 hts (lw_V q1676 q1678 qs44 q79 q1679) rfl rfl rfl (by decide +kernel) ⟨Nat.le_of_ble_eq_true rfl, Nat.le_of_ble_eq_true rfl⟩) (b_preV (pp := 0) (q := 0) hW hp87 rfl mW_0 rfl) rfl rfl hl.1 rfl (lv_room (Nat.le_of_ble_eq_true rfl)) dX3_yearGoesBy_74 ⟨Nat.le_of_ble_eq_true rfl, Nat.le_of_ble_eq_true rfl⟩) hW hp87 (fun _ _ H locs hW => ?_)
                have hW : bW D g A s H locs [mW g adM kM tM M87] := hW
                refine lv_aload_n hx hb dX3_yearGoesBy_77 rfl (lv_at hl 4 rfl) ?_
                refine b_get hx hb hts in_X3 hown hW 0 0 3 31 rfl mW_0 rfl (by decide) ⟨rfl, rfl, rfl⟩ (hts _ q1490) mW_g31 dX3_yearGoesBy_78 ?_
                refine lv_iload_n hx hb dX3_yearGoesBy_81 rfl (lv_at hl 3 rfl) ?_
                refine lv_iload_n hx hb dX3_yearGoesBy_82 rfl (lv_at hl 1 rfl) ?_
                refine lv_aload_n hx hb dX3_yearGoesBy_83 rfl (lv_at hl 2 rfl) ?_
                refine lv_iconst (v := 3) hx hb dX3_yearGoesBy_84 (by decide) ?_
                refine b_iald hx hb hW 0 (18 + ix v3) rfl (mW_r18 (inB_lt h57)) (by decide) dX3_yearGoesBy_85 ?_
                refine lv_imul hx hb dX3_yearGoesBy_86 ?_
                obtain ⟨v88, ev88, hf⟩ := o_ls hf
                refine b_topi ev88 ?_
                obtain ⟨M89, eM89, hf⟩ := o_ls hf
                refine b_iast hx hb hW 0 43 rfl mW_43 (mW_s43 eM89) rfl h57 dX3_yearGoesBy_87 (fun H locs hW => ?_)
                have hW : bW D g A s H locs [mW g adM kM tM M89] := hW
                obtain ⟨v90, ev90, hf⟩ := o_ls hf
                refine lv_iinc (v := v90) (lv' := [(1, .int v90), (4, .int v85), (3, .int r58), (2, .ref (adM (18 + ix v3))), (0, .ref (adM 0))]) hx hb dX3_yearGoesBy_88 hl (k := 3) rfl ev90 (by decide) rfl (fun ls hl => ?_)
                refine lv_goto (tgt := 6) hx hb dX3_yearGoesBy_91 (by decide) ?_
                exact ih2 _ _ _ _ _ hW (lv_sub hl [0, 4] rfl) hf
              · have hf := o_f hf c86
                refine lv_iconst (v := 0) hx hb dX3_yearGoesBy_68 (by decide) ?_
                refine lv_goto (tgt := 74) hx hb dX3_yearGoesBy_69 (by decide) ?_
                obtain ⟨M91, hc91, hf⟩ := o_b1s hf
                have hp91 : List.Perm [mW g adM kM tM M4] ([mW g adM kM tM M4] ++ []) := b_perm [0] [] 1 rfl rfl rfl rfl
                refine b_call0 ⟨rfl, rfl⟩ (va_runV (As := [.int v3, .int 0]) (rest := []) ⟨hx, hb, hml, hown, hts⟩ (m_X3_getsLetter l D g H.size adM kM tM M4 v3 0 M91 hc91) (cwV 2 hts (lw_V q1676 q1678 qs44 q79 q1679) rfl rfl rfl (by decide +kernel) ⟨Nat.le_of_ble_eq_true rfl, Nat.le_of_ble_eq_true rfl⟩) (b_preV (pp := 0) (q := 0) hW hp91 rfl mW_0 rfl) rfl rfl hl.1 rfl (lv_room (Nat.le_of_ble_eq_true rfl)) dX3_yearGoesBy_74 ⟨Nat.le_of_ble_eq_true rfl, Nat.le_of_ble_eq_true rfl⟩) hW hp91 (fun _ _ H locs hW => ?_)
                have hW : bW D g A s H locs [mW g adM kM tM M91] := hW
                refine lv_aload_n hx hb dX3_yearGoesBy_77 rfl (lv_at hl 4 rfl) ?_
                refine b_get hx hb hts in_X3 hown hW 0 0 3 31 rfl mW_0 rfl (by decide) ⟨rfl, rfl, rfl⟩ (hts _ q1490) mW_g31 dX3_yearGoesBy_78 ?_
                refine lv_iload_n hx hb dX3_yearGoesBy_81 rfl (lv_at hl 3 rfl) ?_
                refine lv_iload_n hx hb dX3_yearGoesBy_82 rfl (lv_at hl 1 rfl) ?_
                refine lv_aload_n hx hb dX3_yearGoesBy_83 rfl (lv_at hl 2 rfl) ?_
                refine lv_iconst (v := 3) hx hb dX3_yearGoesBy_84 (by decide) ?_
                refine b_iald hx hb hW 0 (18 + ix v3) rfl (mW_r18 (inB_lt h57)) (by decide) dX3_yearGoesBy_85 ?_
                refine lv_imul hx hb dX3_yearGoesBy_86 ?_
                obtain ⟨v92, ev92, hf⟩ := o_ls hf
                refine b_topi ev92 ?_
                obtain ⟨M93, eM93, hf⟩ := o_ls hf
                refine b_iast hx hb hW 0 43 rfl mW_43 (mW_s43 eM93) rfl h57 dX3_yearGoesBy_87 (fun H locs hW => ?_)
                have hW : bW D g A s H locs [mW g adM kM tM M93] := hW
                obtain ⟨v94, ev94, hf⟩ := o_ls hf
                refine lv_iinc (v := v94) (lv' := [(1, .int v94), (4, .int v85), (3, .int r58), (2, .ref (adM (18 + ix v3))), (0, .ref (adM 0))]) hx hb dX3_yearGoesBy_88 hl (k := 3) rfl ev94 (by decide) rfl (fun ls hl => ?_)
                refine lv_goto (tgt := 6) hx hb dX3_yearGoesBy_91 (by decide) ?_
                exact ih2 _ _ _ _ _ hW (lv_sub hl [0, 4] rfl) hf
  exact L2 _ _ _ _ _ _ hW (lv_sub hl [0, 1] rfl) hf
def f_X3_joyIn_L5 (x1 : Int32) (x2 : Int32) (fu : Nat) (rec1 : (Int32 × Int32 × BC) → Option (Int32 × BC)) : Int32 × Int32 × BC → Option (Int32 × BC)
  | (v2, v3, M4) =>
    (if x1 ≤ v3 then
     some (v2, M4)
     else
     o_b1 (f_X3_yearGoesBy fu M4) fun (M6 : BC) =>
     (if x2 = (-1) then
     o_lt (v2 + (M6.1 0 12)) fun (v11 : Int32) =>
     o_lt (v3 + 1) fun (v12 : Int32) =>
     rec1 (v11, v12, M6)
     else
     o_ck (inB x2 6) (o_lt (v2 + (M6.1 42 (ix x2))) fun (v9 : Int32) =>
     o_lt (v3 + 1) fun (v10 : Int32) =>
     rec1 (v9, v10, M6))))
def f_X3_joyIn (fu : Nat) (M : BC) (x1 : Int32) (x2 : Int32) : Option (Int32 × BC) :=
 o_lp (f_X3_joyIn_L5 x1 x2 fu) fu (0, 0, M)
abbrev rm_X3_joyIn : Room := { frames := 5, cells := 0, slots := 0, locals := 119 }
set_option maxHeartbeats 4000000 in
set_option maxRecDepth 100000 in
theorem m_X3_joyIn (l : Launch) (D : va_G) (g : Nat → ClassId) (sz : Nat) (adM : Nat → Nat) (kM : Option Nat) (tM : Option Nat) (fu : Nat) (M : BC) (x1 : Int32) (x2 : Int32) (rO : Int32) (MO : BC) (hf : f_X3_joyIn fu M x1 x2 = some (rO, MO)) : bMet (S := Unit) l yX3_joyIn (ws_ yX3_joyIn cX3_joyIn 5 (some .int)) rm_X3_joyIn D g sz [.ref (adM 0), .int x1, .int x2] [mW g adM kM tM M] (fun _ => True) (fun _ => some (.int rO)) (fun _ => [mW g adM kM tM MO]) := by
  refine b_met (by decide) (Nat.le_of_ble_eq_true rfl) ?_
  intro p e s m args below meth c A Q ls hx hb hml hr hlk hown hname hts hE hl hW
  revert hW; generalize s.heap = H; intro hW
  have hl : lv_has ls 5 [(0, .ref (adM 0)), (1, .int x1), (2, .int x2)] := hl
  rw [f_X3_joyIn] at hf
  refine lv_iconst (v := 0) hx hb dX3_joyIn_0 (by decide) ?_
  refine lv_istore_n (lv' := [(3, .int 0), (0, .ref (adM 0)), (1, .int x1), (2, .int x2)]) hx hb dX3_joyIn_1 rfl hl (by decide) rfl (fun ls hl => ?_)
  refine lv_iconst (v := 0) hx hb dX3_joyIn_2 (by decide) ?_
  refine lv_istore (lv' := [(4, .int 0), (3, .int 0), (0, .ref (adM 0)), (1, .int x1), (2, .int x2)]) hx hb dX3_joyIn_3 hl (by decide) rfl (fun ls hl => ?_)
  obtain ⟨stp1, est1, hf⟩ := o_ln hf
  have L1 : ∀ (n : Nat) (v2 : Int32) (v3 : Int32) (M4 : BC) (H : Heap) (locs : List Loc) (ls : Array Slot), bW D g A s H locs [mW g adM kM tM M4] → lv_has ls 5 [(4, .int v3), (3, .int v2), (0, .ref (adM 0)), (1, .int x1), (2, .int x2)] → o_lp stp1 n (v2, v3, M4) = some (rO, MO) → W p l e rm_X3_joyIn s m args below meth c H locs 0 0 Q (F0 m 5 ls []) := by
    intro n1
    induction n1 with
    | zero => intro v2 v3 M4 H locs ls hW hl hf; exact (o_lz hf).elim
    | succ n1 ih1 =>
      intro v2 v3 M4 H locs ls hW hl hf
      have hf := o_lu est1 hf
      rw [f_X3_joyIn_L5] at hf
      refine lv_iload hx hb dX3_joyIn_5 (lv_at hl 0 rfl) ?_
      refine lv_iload_n hx hb dX3_joyIn_7 rfl (lv_at hl 3 rfl) ?_
      refine lv_icmp_ge (tgt := 42) hx hb dX3_joyIn_8 (by decide) (fun c5 => ?_) (fun c5 => ?_)
      · have hf := o_t hf c5
        refine lv_iload_n hx hb dX3_joyIn_42 rfl (lv_at hl 1 rfl) ?_
        cases hf
        exact b_iret hx hb hr hlk hE hW () rfl trivial rfl dX3_joyIn_43
      · have hf := o_f hf c5
        refine lv_aload_n hx hb dX3_joyIn_11 rfl (lv_at hl 2 rfl) ?_
        obtain ⟨M6, hc6, hf⟩ := o_b1s hf
        have hp6 : List.Perm [mW g adM kM tM M4] ([mW g adM kM tM M4] ++ []) := b_perm [0] [] 1 rfl rfl rfl rfl
        refine b_call0 ⟨rfl, rfl⟩ (va_runV (As := []) (rest := []) ⟨hx, hb, hml, hown, hts⟩ (m_X3_yearGoesBy l D g H.size adM kM tM fu M4 M6 hc6) (cwV 0 hts (lw_V q1926 q1928 qs69 q79 q1929) rfl rfl rfl (by decide +kernel) ⟨Nat.le_of_ble_eq_true rfl, Nat.le_of_ble_eq_true rfl⟩) (b_preV (pp := 0) (q := 0) hW hp6 rfl mW_0 rfl) rfl rfl hl.1 rfl (lv_room (Nat.le_of_ble_eq_true rfl)) dX3_joyIn_12 ⟨Nat.le_of_ble_eq_true rfl, Nat.le_of_ble_eq_true rfl⟩) hW hp6 (fun _ _ H locs hW => ?_)
        have hW : bW D g A s H locs [mW g adM kM tM M6] := hW
        refine lv_iload_n hx hb dX3_joyIn_15 rfl (lv_at hl 1 rfl) ?_
        refine lv_iload_n hx hb dX3_joyIn_16 rfl (lv_at hl 4 rfl) ?_
        refine lv_iconst (v := (-1)) hx hb dX3_joyIn_17 (by decide) ?_
        refine lv_icmp_ne (tgt := 28) hx hb dX3_joyIn_18 (by decide) (fun c7 => ?_) (fun c7 => ?_)
        · have hf := o_f hf c7
          refine lv_aload_n hx hb dX3_joyIn_28 rfl (lv_at hl 2 rfl) ?_
          refine b_get hx hb hts in_X3 hown hW 0 0 3 30 rfl mW_0 rfl (by decide) ⟨rfl, rfl, rfl⟩ (hts _ q1489) mW_g30 dX3_joyIn_29 ?_
          refine lv_iload_n hx hb dX3_joyIn_32 rfl (lv_at hl 4 rfl) ?_
          obtain ⟨h8, hf⟩ := o_cs hf
          refine b_iald hx hb hW 0 42 rfl mW_42 h8 dX3_joyIn_33 ?_
          refine lv_iadd hx hb dX3_joyIn_34 ?_
          obtain ⟨v9, ev9, hf⟩ := o_ls hf
          refine b_topi ev9 ?_
          refine lv_istore_n (lv' := [(3, .int v9), (4, .int v3), (0, .ref (adM 0)), (1, .int x1), (2, .int x2)]) hx hb dX3_joyIn_35 rfl hl (by decide) rfl (fun ls hl => ?_)
          obtain ⟨v10, ev10, hf⟩ := o_ls hf
          refine lv_iinc (v := v10) (lv' := [(4, .int v10), (3, .int v9), (0, .ref (adM 0)), (1, .int x1), (2, .int x2)]) hx hb dX3_joyIn_36 hl (k := 1) rfl ev10 (by decide) rfl (fun ls hl => ?_)
          refine lv_goto (tgt := 5) hx hb dX3_joyIn_39 (by decide) ?_
          exact ih1 _ _ _ _ _ _ hW (lv_sub hl [0, 1, 2, 3, 4] rfl) hf
        · have hf := o_t hf c7
          refine lv_aload_n hx hb dX3_joyIn_21 rfl (lv_at hl 2 rfl) ?_
          refine b_get hx hb hts in_X3 hown hW 0 0 3 29 rfl mW_0 rfl (by decide) ⟨rfl, rfl, rfl⟩ (hts _ q1488) mW_g29 dX3_joyIn_22 ?_
          refine lv_goto (tgt := 34) hx hb dX3_joyIn_25 (by decide) ?_
          refine lv_iadd hx hb dX3_joyIn_34 ?_
          obtain ⟨v11, ev11, hf⟩ := o_ls hf
          refine b_topi ev11 ?_
          refine lv_istore_n (lv' := [(3, .int v11), (4, .int v3), (0, .ref (adM 0)), (1, .int x1), (2, .int x2)]) hx hb dX3_joyIn_35 rfl hl (by decide) rfl (fun ls hl => ?_)
          obtain ⟨v12, ev12, hf⟩ := o_ls hf
          refine lv_iinc (v := v12) (lv' := [(4, .int v12), (3, .int v11), (0, .ref (adM 0)), (1, .int x1), (2, .int x2)]) hx hb dX3_joyIn_36 hl (k := 1) rfl ev12 (by decide) rfl (fun ls hl => ?_)
          refine lv_goto (tgt := 5) hx hb dX3_joyIn_39 (by decide) ?_
          exact ih1 _ _ _ _ _ _ hW (lv_sub hl [0, 1, 2, 3, 4] rfl) hf
  exact L1 _ _ _ _ _ _ _ hW (lv_sub hl [0, 1, 2, 3, 4] rfl) hf
def f_X3_ownJoy_L16 (v3 : Int32) (rec1 : (Int32 × Int32 × BC) → Option (Int32 × BC)) (M6 : BC) (rec7 : (Int32 × Int32) → Option (Int32 × BC)) : Int32 × Int32 → Option (Int32 × BC)
  | (v8, v9) =>
    (if (M6.1 0 2) ≤ v9 then
     o_lt (v3 + 1) fun (v11 : Int32) =>
     rec1 (v8, v11, M6)
     else
     o_ck (inB v9 6) ((if (M6.1 (25 + ix v9) (ix 0)) = 3 then
     o_lt (v8 + (M6.1 42 (ix v9))) fun (v16 : Int32) =>
     o_lt (v9 + 1) fun (v17 : Int32) =>
     rec7 (v16, v17)
     else
     o_lt (v8 + 0) fun (v14 : Int32) =>
     o_lt (v9 + 1) fun (v15 : Int32) =>
     rec7 (v14, v15))))
def f_X3_ownJoy_L4 (x1 : Int32) (fu : Nat) (rec1 : (Int32 × Int32 × BC) → Option (Int32 × BC)) : Int32 × Int32 × BC → Option (Int32 × BC)
  | (v2, v3, M4) =>
    (if x1 ≤ v3 then
     some (v2, M4)
     else
     o_b1 (f_X3_yearGoesBy fu M4) fun (M6 : BC) =>
     o_lp (f_X3_ownJoy_L16 v3 rec1 M6) fu (v2, 0))
def f_X3_ownJoy (fu : Nat) (M : BC) (x1 : Int32) : Option (Int32 × BC) :=
 o_lp (f_X3_ownJoy_L4 x1 fu) fu (0, 0, M)
abbrev rm_X3_ownJoy : Room := { frames := 5, cells := 0, slots := 0, locals := 119 }
set_option maxHeartbeats 4000000 in
set_option maxRecDepth 100000 in
theorem m_X3_ownJoy (l : Launch) (D : va_G) (g : Nat → ClassId) (sz : Nat) (adM : Nat → Nat) (kM : Option Nat) (tM : Option Nat) (fu : Nat) (M : BC) (x1 : Int32) (rO : Int32) (MO : BC) (hf : f_X3_ownJoy fu M x1 = some (rO, MO)) : bMet (S := Unit) l yX3_ownJoy (ws_ yX3_ownJoy cX3_ownJoy 5 (some .int)) rm_X3_ownJoy D g sz [.ref (adM 0), .int x1] [mW g adM kM tM M] (fun _ => True) (fun _ => some (.int rO)) (fun _ => [mW g adM kM tM MO]) := by
  refine b_met (by decide) (Nat.le_of_ble_eq_true rfl) ?_
  intro p e s m args below meth c A Q ls hx hb hml hr hlk hown hname hts hE hl hW
  revert hW; generalize s.heap = H; intro hW
  have hl : lv_has ls 5 [(0, .ref (adM 0)), (1, .int x1)] := hl
  rw [f_X3_ownJoy] at hf
  refine lv_iconst (v := 0) hx hb dX3_ownJoy_0 (by decide) ?_
  refine lv_istore_n (lv' := [(2, .int 0), (0, .ref (adM 0)), (1, .int x1)]) hx hb dX3_ownJoy_1 rfl hl (by decide) rfl (fun ls hl => ?_)
  refine lv_iconst (v := 0) hx hb dX3_ownJoy_2 (by decide) ?_
  refine lv_istore_n (lv' := [(3, .int 0), (2, .int 0), (0, .ref (adM 0)), (1, .int x1)]) hx hb dX3_ownJoy_3 rfl hl (by decide) rfl (fun ls hl => ?_)
  obtain ⟨stp1, est1, hf⟩ := o_ln hf
  have L1 : ∀ (n : Nat) (v2 : Int32) (v3 : Int32) (M4 : BC) (H : Heap) (locs : List Loc) (ls : Array Slot), bW D g A s H locs [mW g adM kM tM M4] → lv_has ls 5 [(3, .int v3), (2, .int v2), (0, .ref (adM 0)), (1, .int x1)] → o_lp stp1 n (v2, v3, M4) = some (rO, MO) → W p l e rm_X3_ownJoy s m args below meth c H locs 0 0 Q (F0 m 4 ls []) := by
    intro n1
    induction n1 with
    | zero => intro v2 v3 M4 H locs ls hW hl hf; exact (o_lz hf).elim
    | succ n1 ih1 =>
      intro v2 v3 M4 H locs ls hW hl hf
      have hf := o_lu est1 hf
      rw [f_X3_ownJoy_L4] at hf
      refine lv_iload_n hx hb dX3_ownJoy_4 rfl (lv_at hl 0 rfl) ?_
      refine lv_iload_n hx hb dX3_ownJoy_5 rfl (lv_at hl 3 rfl) ?_
      refine lv_icmp_ge (tgt := 64) hx hb dX3_ownJoy_6 (by decide) (fun c5 => ?_) (fun c5 => ?_)
      · have hf := o_t hf c5
        refine lv_iload_n hx hb dX3_ownJoy_64 rfl (lv_at hl 1 rfl) ?_
        cases hf
        exact b_iret hx hb hr hlk hE hW () rfl trivial rfl dX3_ownJoy_65
      · have hf := o_f hf c5
        refine lv_aload_n hx hb dX3_ownJoy_9 rfl (lv_at hl 2 rfl) ?_
        obtain ⟨M6, hc6, hf⟩ := o_b1s hf
        have hp6 : List.Perm [mW g adM kM tM M4] ([mW g adM kM tM M4] ++ []) := b_perm [0] [] 1 rfl rfl rfl rfl
        refine b_call0 ⟨rfl, rfl⟩ (va_runV (As := []) (rest := []) ⟨hx, hb, hml, hown, hts⟩ (m_X3_yearGoesBy l D g H.size adM kM tM fu M4 M6 hc6) (cwV 0 hts (lw_V q1926 q1928 qs69 q79 q1929) rfl rfl rfl (by decide +kernel) ⟨Nat.le_of_ble_eq_true rfl, Nat.le_of_ble_eq_true rfl⟩) (b_preV (pp := 0) (q := 0) hW hp6 rfl mW_0 rfl) rfl rfl hl.1 rfl (lv_room (Nat.le_of_ble_eq_true rfl)) dX3_ownJoy_10 ⟨Nat.le_of_ble_eq_true rfl, Nat.le_of_ble_eq_true rfl⟩) hW hp6 (fun _ _ H locs hW => ?_)
        have hW : bW D g A s H locs [mW g adM kM tM M6] := hW
        refine lv_iconst (v := 0) hx hb dX3_ownJoy_13 (by decide) ?_
        refine lv_istore (lv' := [(4, .int 0), (3, .int v3), (2, .int v2), (0, .ref (adM 0)), (1, .int x1)]) hx hb dX3_ownJoy_14 hl (by decide) rfl (fun ls hl => ?_)
        obtain ⟨stp7, est7, hf⟩ := o_ln hf
        have L7 : ∀ (n : Nat) (v8 : Int32) (v9 : Int32) (H : Heap) (locs : List Loc) (ls : Array Slot), bW D g A s H locs [mW g adM kM tM M6] → lv_has ls 5 [(4, .int v9), (3, .int v3), (2, .int v8), (0, .ref (adM 0)), (1, .int x1)] → o_lp stp7 n (v8, v9) = some (rO, MO) → W p l e rm_X3_ownJoy s m args below meth c H locs 0 0 Q (F0 m 16 ls []) := by
          intro n7
          induction n7 with
          | zero => intro v8 v9 H locs ls hW hl hf; exact (o_lz hf).elim
          | succ n7 ih7 =>
            intro v8 v9 H locs ls hW hl hf
            have hf := o_lu est7 hf
            rw [f_X3_ownJoy_L16] at hf
            refine lv_iload hx hb dX3_ownJoy_16 (lv_at hl 0 rfl) ?_
            refine lv_aload_n hx hb dX3_ownJoy_18 rfl (lv_at hl 3 rfl) ?_
            refine b_get hx hb hts in_X3 hown hW 0 0 3 11 rfl mW_0 rfl (by decide) ⟨rfl, rfl, rfl⟩ (hts _ q1470) mW_g11 dX3_ownJoy_19 ?_
            refine lv_icmp_ge (tgt := 58) hx hb dX3_ownJoy_22 (by decide) (fun c10 => ?_) (fun c10 => ?_)
            · have hf := o_t hf c10
              obtain ⟨v11, ev11, hf⟩ := o_ls hf
              refine lv_iinc (v := v11) (lv' := [(3, .int v11), (4, .int v9), (2, .int v8), (0, .ref (adM 0)), (1, .int x1)]) hx hb dX3_ownJoy_58 hl (k := 1) rfl ev11 (by decide) rfl (fun ls hl => ?_)
              refine lv_goto (tgt := 4) hx hb dX3_ownJoy_61 (by decide) ?_
              exact ih1 _ _ _ _ _ _ hW (lv_sub hl [0, 2, 3, 4] rfl) hf
            · have hf := o_f hf c10
              refine lv_iload_n hx hb dX3_ownJoy_25 rfl (lv_at hl 2 rfl) ?_
              refine lv_aload_n hx hb dX3_ownJoy_26 rfl (lv_at hl 3 rfl) ?_
              refine b_get hx hb hts in_X3 hown hW 0 0 3 12 rfl mW_0 rfl (by decide) ⟨rfl, rfl, rfl⟩ (hts _ q1471) mW_g12 dX3_ownJoy_27 ?_
              refine lv_iload hx hb dX3_ownJoy_30 (lv_at hl 0 rfl) ?_
              obtain ⟨h12, hf⟩ := o_cs hf
              refine b_agrI hx hb hW 0 24 rfl mW_24 h12 dX3_ownJoy_32 ?_
              refine lv_iconst (v := 0) hx hb dX3_ownJoy_33 (by decide) ?_
              refine b_iald hx hb hW 0 (25 + ix v9) rfl (mW_r25 (inB_lt h12)) (by decide) dX3_ownJoy_34 ?_
              refine lv_iconst (v := 3) hx hb dX3_ownJoy_35 (by decide) ?_
              refine lv_icmp_ne (tgt := 49) hx hb dX3_ownJoy_36 (by decide) (fun c13 => ?_) (fun c13 => ?_)
              · have hf := o_f hf c13
                refine lv_iconst (v := 0) hx hb dX3_ownJoy_49 (by decide) ?_
                refine lv_iadd hx hb dX3_ownJoy_50 ?_
                obtain ⟨v14, ev14, hf⟩ := o_ls hf
                refine b_topi ev14 ?_
                refine lv_istore_n (lv' := [(2, .int v14), (4, .int v9), (3, .int v3), (0, .ref (adM 0)), (1, .int x1)]) hx hb dX3_ownJoy_51 rfl hl (by decide) rfl (fun ls hl => ?_)
                obtain ⟨v15, ev15, hf⟩ := o_ls hf
                refine lv_iinc (v := v15) (lv' := [(4, .int v15), (2, .int v14), (3, .int v3), (0, .ref (adM 0)), (1, .int x1)]) hx hb dX3_ownJoy_52 hl (k := 1) rfl ev15 (by decide) rfl (fun ls hl => ?_)
                refine lv_goto (tgt := 16) hx hb dX3_ownJoy_55 (by decide) ?_
                exact ih7 _ _ _ _ _ hW (lv_sub hl [0, 2, 1, 3, 4] rfl) hf
              · have hf := o_t hf c13
                refine lv_aload_n hx hb dX3_ownJoy_39 rfl (lv_at hl 3 rfl) ?_
                refine b_get hx hb hts in_X3 hown hW 0 0 3 30 rfl mW_0 rfl (by decide) ⟨rfl, rfl, rfl⟩ (hts _ q1489) mW_g30 dX3_ownJoy_40 ?_
                refine lv_iload hx hb dX3_ownJoy_43 (lv_at hl 0 rfl) ?_
                refine b_iald hx hb hW 0 42 rfl mW_42 h12 dX3_ownJoy_45 ?_
                refine lv_goto (tgt := 50) hx hb dX3_ownJoy_46 (by decide) ?_
                refine lv_iadd hx hb dX3_ownJoy_50 ?_
                obtain ⟨v16, ev16, hf⟩ := o_ls hf
                refine b_topi ev16 ?_
                refine lv_istore_n (lv' := [(2, .int v16), (4, .int v9), (3, .int v3), (0, .ref (adM 0)), (1, .int x1)]) hx hb dX3_ownJoy_51 rfl hl (by decide) rfl (fun ls hl => ?_)
                obtain ⟨v17, ev17, hf⟩ := o_ls hf
                refine lv_iinc (v := v17) (lv' := [(4, .int v17), (2, .int v16), (3, .int v3), (0, .ref (adM 0)), (1, .int x1)]) hx hb dX3_ownJoy_52 hl (k := 1) rfl ev17 (by decide) rfl (fun ls hl => ?_)
                refine lv_goto (tgt := 16) hx hb dX3_ownJoy_55 (by decide) ?_
                exact ih7 _ _ _ _ _ hW (lv_sub hl [0, 2, 1, 3, 4] rfl) hf
        exact L7 _ _ _ _ _ _ hW (lv_sub hl [0, 1, 2, 3, 4] rfl) hf
  exact L1 _ _ _ _ _ _ _ hW (lv_sub hl [0, 1, 2, 3] rfl) hf
def f_X3_year (fu : Nat) (M : BC) : Option (Int32 × BC) :=
 o_b2 (f_X3_joyIn fu M 1 (-1)) fun (r1 : Int32) (M2 : BC) =>
 some (r1, M2)
abbrev rm_X3_year : Room := { frames := 6, cells := 0, slots := 0, locals := 143 }
set_option maxHeartbeats 4000000 in
set_option maxRecDepth 100000 in
theorem m_X3_year (l : Launch) (D : va_G) (g : Nat → ClassId) (sz : Nat) (adM : Nat → Nat) (kM : Option Nat) (tM : Option Nat) (fu : Nat) (M : BC) (rO : Int32) (MO : BC) (hf : f_X3_year fu M = some (rO, MO)) : bMet (S := Unit) l yX3_year (ws_ yX3_year cX3_year 1 (some .int)) rm_X3_year D g sz [.ref (adM 0)] [mW g adM kM tM M] (fun _ => True) (fun _ => some (.int rO)) (fun _ => [mW g adM kM tM MO]) := by
  refine b_met (by decide) (Nat.le_of_ble_eq_true rfl) ?_
  intro p e s m args below meth c A Q ls hx hb hml hr hlk hown hname hts hE hl hW
  revert hW; generalize s.heap = H; intro hW
  have hl : lv_has ls 1 [(0, .ref (adM 0))] := hl
  rw [f_X3_year] at hf
  refine lv_aload_n hx hb dX3_year_0 rfl (lv_at hl 0 rfl) ?_
  refine lv_iconst (v := 1) hx hb dX3_year_1 (by decide) ?_
  refine lv_iconst (v := (-1)) hx hb dX3_year_2 (by decide) ?_
  obtain ⟨r1, M2, hc2, hf⟩ := o_b2s hf
  have hp2 : List.Perm [mW g adM kM tM M] ([mW g adM kM tM M] ++ []) := b_perm [0] [] 1 rfl rfl rfl rfl
  refine b_call0 ⟨rfl, rfl⟩ (va_runV (As := [.int 1, .int (-1)]) (rest := []) ⟨hx, hb, hml, hown, hts⟩ (m_X3_joyIn l D g H.size adM kM tM fu M 1 (-1) r1 M2 hc2) (cwV 2 hts (lw_V q1922 q1924 qs68 q79 q1925) rfl rfl rfl (by decide +kernel) ⟨Nat.le_of_ble_eq_true rfl, Nat.le_of_ble_eq_true rfl⟩) (b_preV (pp := 0) (q := 0) hW hp2 rfl mW_0 rfl) rfl rfl hl.1 rfl (lv_room (Nat.le_of_ble_eq_true rfl)) dX3_year_3 ⟨Nat.le_of_ble_eq_true rfl, Nat.le_of_ble_eq_true rfl⟩) hW hp2 (fun _ _ H locs hW => ?_)
  have hW : bW D g A s H locs [mW g adM kM tM M2] := hW
  cases hf
  exact b_iret hx hb hr hlk hE hW () rfl trivial rfl dX3_year_6
def f_X3_goes (fu : Nat) (M : BC) (x1 : Int32) : Option (Int32 × BC) :=
 o_b1 (f_X3_isYears x1) fun (r1 : Int32) =>
 (if r1 = 0 then
 o_b2 (f_X3_refuse M (-2)) fun (r3 : Int32) (M4 : BC) =>
 some ((-1000000) + r3, M4)
 else
 o_b2 (f_X3_joyIn fu M x1 (-1)) fun (r5 : Int32) (M6 : BC) =>
 some (r5, M6))
abbrev rm_X3_goes : Room := { frames := 6, cells := 0, slots := 0, locals := 143 }
set_option maxHeartbeats 4000000 in
set_option maxRecDepth 100000 in
theorem m_X3_goes (l : Launch) (D : va_G) (g : Nat → ClassId) (sz : Nat) (adM : Nat → Nat) (kM : Option Nat) (tM : Option Nat) (fu : Nat) (M : BC) (x1 : Int32) (rO : Int32) (MO : BC) (hf : f_X3_goes fu M x1 = some (rO, MO)) : bMet (S := Unit) l yX3_goes (ws_ yX3_goes cX3_goes 2 (some .int)) rm_X3_goes D g sz [.ref (adM 0), .int x1] [mW g adM kM tM M] (fun _ => True) (fun _ => some (.int rO)) (fun _ => [mW g adM kM tM MO]) := by
  refine b_met (by decide) (Nat.le_of_ble_eq_true rfl) ?_
  intro p e s m args below meth c A Q ls hx hb hml hr hlk hown hname hts hE hl hW
  revert hW; generalize s.heap = H; intro hW
  have hl : lv_has ls 2 [(0, .ref (adM 0)), (1, .int x1)] := hl
  rw [f_X3_goes] at hf
  refine lv_iload_n hx hb dX3_goes_0 rfl (lv_at hl 1 rfl) ?_
  obtain ⟨r1, hc1, hf⟩ := o_b1s hf
  have hp1 : List.Perm [mW g adM kM tM M] ([] ++ [mW g adM kM tM M]) := b_perm [] [0] 1 rfl rfl rfl rfl
  refine b_call0 ⟨rfl, rfl⟩ (va_runS (As := [.int x1]) (rest := []) ⟨hx, hb, hml, hown, hts⟩ (m_X3_isYears l D g H.size x1 r1 hc1) (va_cwS 1 hts (lw_S q1918 q1919 q79 q1920) rfl rfl rfl (by decide +kernel) ⟨Nat.le_of_ble_eq_true rfl, Nat.le_of_ble_eq_true rfl⟩) (b_preS hW hp1) rfl rfl hl.1 rfl (lv_room (Nat.le_of_ble_eq_true rfl)) dX3_goes_1 ⟨Nat.le_of_ble_eq_true rfl, Nat.le_of_ble_eq_true rfl⟩) hW hp1 (fun _ _ H locs hW => ?_)
  have hW : bW D g A s H locs [mW g adM kM tM M] := hW
  refine lv_if_eq (tgt := 16) hx hb dX3_goes_4 (by decide) (fun c2 => ?_) (fun c2 => ?_)
  · have hf := o_t hf c2
    refine lv_ldc (v := (-1000000)) hx hb hown (hts _ q1801) dX3_goes_16 ?_
    refine lv_aload_n hx hb dX3_goes_18 rfl (lv_at hl 0 rfl) ?_
    refine lv_bipush (v := (-2)) hx hb dX3_goes_19 (by decide) ?_
    obtain ⟨r3, M4, hc4, hf⟩ := o_b2s hf
    have hp4 : List.Perm [mW g adM kM tM M] ([mW g adM kM tM M] ++ []) := b_perm [0] [] 1 rfl rfl rfl rfl
    refine b_call0 ⟨rfl, rfl⟩ (va_runV (As := [.int (-2)]) (rest := [.int (-1000000)]) ⟨hx, hb, hml, hown, hts⟩ (m_X3_refuse l D g H.size adM kM tM M (-2) r3 M4 hc4) (cwV 1 hts (lw_V q1572 q1574 qs33 q79 q1575) rfl rfl rfl (by decide +kernel) ⟨Nat.le_of_ble_eq_true rfl, Nat.le_of_ble_eq_true rfl⟩) (b_preV (pp := 0) (q := 0) hW hp4 rfl mW_0 rfl) rfl rfl hl.1 rfl (lv_room (Nat.le_of_ble_eq_true rfl)) dX3_goes_21 ⟨Nat.le_of_ble_eq_true rfl, Nat.le_of_ble_eq_true rfl⟩) hW hp4 (fun _ _ H locs hW => ?_)
    have hW : bW D g A s H locs [mW g adM kM tM M4] := hW
    refine lv_iadd hx hb dX3_goes_24 ?_
    cases hf
    exact b_iret hx hb hr hlk hE hW () rfl trivial rfl dX3_goes_25
  · have hf := o_f hf c2
    refine lv_aload_n hx hb dX3_goes_7 rfl (lv_at hl 0 rfl) ?_
    refine lv_iload_n hx hb dX3_goes_8 rfl (lv_at hl 1 rfl) ?_
    refine lv_iconst (v := (-1)) hx hb dX3_goes_9 (by decide) ?_
    obtain ⟨r5, M6, hc6, hf⟩ := o_b2s hf
    have hp6 : List.Perm [mW g adM kM tM M] ([mW g adM kM tM M] ++ []) := b_perm [0] [] 1 rfl rfl rfl rfl
    refine b_call0 ⟨rfl, rfl⟩ (va_runV (As := [.int x1, .int (-1)]) (rest := []) ⟨hx, hb, hml, hown, hts⟩ (m_X3_joyIn l D g H.size adM kM tM fu M x1 (-1) r5 M6 hc6) (cwV 2 hts (lw_V q1922 q1924 qs68 q79 q1925) rfl rfl rfl (by decide +kernel) ⟨Nat.le_of_ble_eq_true rfl, Nat.le_of_ble_eq_true rfl⟩) (b_preV (pp := 0) (q := 0) hW hp6 rfl mW_0 rfl) rfl rfl hl.1 rfl (lv_room (Nat.le_of_ble_eq_true rfl)) dX3_goes_10 ⟨Nat.le_of_ble_eq_true rfl, Nat.le_of_ble_eq_true rfl⟩) hW hp6 (fun _ _ H locs hW => ?_)
    have hW : bW D g A s H locs [mW g adM kM tM M6] := hW
    refine lv_goto (tgt := 25) hx hb dX3_goes_13 (by decide) ?_
    cases hf
    exact b_iret hx hb hr hlk hE hW () rfl trivial rfl dX3_goes_25
def f_X3_draw (M : BC) (x1 : Int32) : Option (Int32 × BC) :=
 o_lt (((M.1 0 5) * 1103515245) + 12345) fun (v1 : Int32) =>
 o_lt (bI M 0 (upd (M.1 0) 5 v1)) fun (M2 : BC) =>
 o_ck (!decide (x1 = 0)) (some ((((M2.1 0 5).toUInt32 >>> ((16 : Int32).toUInt32 &&& Int32.toUInt32 31)).toInt32) - (((M2.1 0 5).toUInt32 >>> ((16 : Int32).toUInt32 &&& Int32.toUInt32 31)).toInt32) / x1 * x1, M2))
abbrev rm_X3_draw : Room := { frames := 0, cells := 0, slots := 0, locals := 0 }
set_option maxHeartbeats 4000000 in
set_option maxRecDepth 100000 in
theorem m_X3_draw (l : Launch) (D : va_G) (g : Nat → ClassId) (sz : Nat) (adM : Nat → Nat) (kM : Option Nat) (tM : Option Nat) (M : BC) (x1 : Int32) (rO : Int32) (MO : BC) (hf : f_X3_draw M x1 = some (rO, MO)) : bMet (S := Unit) l yX3_draw (ws_ yX3_draw cX3_draw 2 (some .int)) rm_X3_draw D g sz [.ref (adM 0), .int x1] [mW g adM kM tM M] (fun _ => True) (fun _ => some (.int rO)) (fun _ => [mW g adM kM tM MO]) := by
  refine b_met (by decide) (Nat.le_of_ble_eq_true rfl) ?_
  intro p e s m args below meth c A Q ls hx hb hml hr hlk hown hname hts hE hl hW
  revert hW; generalize s.heap = H; intro hW
  have hl : lv_has ls 2 [(0, .ref (adM 0)), (1, .int x1)] := hl
  rw [f_X3_draw] at hf
  refine lv_aload_n hx hb dX3_draw_0 rfl (lv_at hl 0 rfl) ?_
  refine lv_aload_n hx hb dX3_draw_1 rfl (lv_at hl 0 rfl) ?_
  refine b_get hx hb hts in_X3 hown hW 0 0 3 15 rfl mW_0 rfl (by decide) ⟨rfl, rfl, rfl⟩ (hts _ q1474) mW_g15 dX3_draw_2 ?_
  refine lv_ldcw (v := 1103515245) hx hb hown (hts _ q2010) dX3_draw_5 ?_
  refine lv_imul hx hb dX3_draw_8 ?_
  refine lv_sipush (v := 12345) hx hb dX3_draw_9 (by decide) ?_
  refine lv_iadd hx hb dX3_draw_12 ?_
  obtain ⟨v1, ev1, hf⟩ := o_ls hf
  refine b_topi ev1 ?_
  obtain ⟨M2, eM2, hf⟩ := o_ls hf
  refine b_put hx hb hts in_X3 tyX3 tyX3_ok nmX3 hown hW 0 0 3 15 rfl mW_0 (mW_p15 eM2) rfl rfl (by decide) ⟨rfl, rfl, rfl⟩ (hts _ q1474) rfl (ty := .int) rfl rfl rfl (by rw [mW_l]; decide) dX3_draw_13 (fun H locs hW => ?_)
  have hW : bW D g A s H locs [mW g adM kM tM M2] := hW
  refine lv_aload_n hx hb dX3_draw_16 rfl (lv_at hl 0 rfl) ?_
  refine b_get hx hb hts in_X3 hown hW 0 0 3 15 rfl mW_0 rfl (by decide) ⟨rfl, rfl, rfl⟩ (hts _ q1474) mW_g15 dX3_draw_17 ?_
  refine lv_bipush (v := 16) hx hb dX3_draw_20 (by decide) ?_
  refine lv_iushr hx hb dX3_draw_22 rfl ?_
  refine lv_iload_n hx hb dX3_draw_23 rfl (lv_at hl 1 rfl) ?_
  obtain ⟨h3, hf⟩ := o_cs hf
  refine lv_irem hx hb dX3_draw_24 (o_nz h3) ?_
  cases hf
  exact b_iret hx hb hr hlk hE hW () rfl trivial rfl dX3_draw_25
def f_X3_post_L37 (x1 : Int32) (rec4 : (Int32 × Int32 × BC) → Option (Int32 × BC)) : Int32 × Int32 × BC → Option (Int32 × BC)
  | (v5, v6, M7) =>
    (if x1 ≤ v6 then
     some (v5, M7)
     else
     o_b2 (f_X3_draw M7 (M7.1 0 1)) fun (r9 : Int32) (M10 : BC) =>
     o_ck (inB r9 6) (o_b2 (f_X3_draw M10 21) fun (r12 : Int32) (M13 : BC) =>
     o_b1 (f_X3_within (((M10.1 (18 + ix r9) (ix 0)) + r12) - 10) 100) fun (r14 : Int32) =>
     (if (99 : Int32) ≤ (M13.1 (18 + ix r9) (ix 5)) then
     o_lt (v5 + 0) fun (v16 : Int32) =>
     o_b1 (f_X3_getsLetter M13 r9 r14) fun (M17 : BC) =>
     o_lt (v6 + 1) fun (v18 : Int32) =>
     rec4 (v16, v18, M17)
     else
     o_lt (v5 + 1) fun (v19 : Int32) =>
     o_b1 (f_X3_getsLetter M13 r9 r14) fun (M20 : BC) =>
     o_lt (v6 + 1) fun (v21 : Int32) =>
     rec4 (v19, v21, M20))))
def f_X3_post (fu : Nat) (M : BC) (x1 : Int32) : Option (Int32 × BC) :=
 o_b1 (f_X3_in x1.toInt64 1 40) fun (r1 : Int32) =>
 (if r1 = 0 then
 o_b2 (f_X3_refuse M (-2)) fun (r24 : Int32) (M25 : BC) =>
 some (r24, M25)
 else
 (if (M.1 0 1) = 0 then
 o_b2 (f_X3_refuse M (-5)) fun (r22 : Int32) (M23 : BC) =>
 some (r22, M23)
 else
 o_lp (f_X3_post_L37 x1) fu (0, 0, M)))
abbrev rm_X3_post : Room := { frames := 1, cells := 0, slots := 0, locals := 25 }
set_option maxHeartbeats 4000000 in
set_option maxRecDepth 100000 in
theorem m_X3_post (l : Launch) (D : va_G) (g : Nat → ClassId) (sz : Nat) (adM : Nat → Nat) (kM : Option Nat) (tM : Option Nat) (fu : Nat) (M : BC) (x1 : Int32) (rO : Int32) (MO : BC) (hf : f_X3_post fu M x1 = some (rO, MO)) : bMet (S := Unit) l yX3_post (ws_ yX3_post cX3_post 6 (some .int)) rm_X3_post D g sz [.ref (adM 0), .int x1] [mW g adM kM tM M] (fun _ => True) (fun _ => some (.int rO)) (fun _ => [mW g adM kM tM MO]) := by
  refine b_met (by decide) (Nat.le_of_ble_eq_true rfl) ?_
  intro p e s m args below meth c A Q ls hx hb hml hr hlk hown hname hts hE hl hW
  revert hW; generalize s.heap = H; intro hW
  have hl : lv_has ls 6 [(0, .ref (adM 0)), (1, .int x1)] := hl
  rw [f_X3_post] at hf
  refine lv_iload_n hx hb dX3_post_0 rfl (lv_at hl 1 rfl) ?_
  refine lv_i2l hx hb dX3_post_1 rfl ?_
  refine lv_lconst (v := 1) hx hb dX3_post_2 (by decide) ?_
  refine lv_ldc2 (v := 40) hx hb hown (hts _ q1571) dX3_post_3 ?_
  obtain ⟨r1, hc1, hf⟩ := o_b1s hf
  have hp1 : List.Perm [mW g adM kM tM M] ([] ++ [mW g adM kM tM M]) := b_perm [] [0] 1 rfl rfl rfl rfl
  refine b_call0 ⟨rfl, rfl⟩ (va_runS (As := [.long x1.toInt64, .long 1, .long 40]) (rest := []) ⟨hx, hb, hml, hown, hts⟩ (m_X3_in l D g H.size x1.toInt64 1 40 r1 hc1) (va_cwS 3 hts (lw_S q1567 q1568 q79 q1569) rfl rfl rfl (by decide +kernel) ⟨Nat.le_of_ble_eq_true rfl, Nat.le_of_ble_eq_true rfl⟩) (b_preS hW hp1) rfl rfl hl.1 rfl (lv_room (Nat.le_of_ble_eq_true rfl)) dX3_post_6 ⟨Nat.le_of_ble_eq_true rfl, Nat.le_of_ble_eq_true rfl⟩) hW hp1 (fun _ _ H locs hW => ?_)
  have hW : bW D g A s H locs [mW g adM kM tM M] := hW
  refine lv_if_ne (tgt := 19) hx hb dX3_post_9 (by decide) (fun c2 => ?_) (fun c2 => ?_)
  · have hf := o_f hf c2
    refine lv_aload_n hx hb dX3_post_19 rfl (lv_at hl 0 rfl) ?_
    refine b_get hx hb hts in_X3 hown hW 0 0 3 9 rfl mW_0 rfl (by decide) ⟨rfl, rfl, rfl⟩ (hts _ q1468) mW_g9 dX3_post_20 ?_
    refine lv_if_ne (tgt := 33) hx hb dX3_post_23 (by decide) (fun c3 => ?_) (fun c3 => ?_)
    · have hf := o_f hf c3
      refine lv_iconst (v := 0) hx hb dX3_post_33 (by decide) ?_
      refine lv_istore_n (lv' := [(2, .int 0), (0, .ref (adM 0)), (1, .int x1)]) hx hb dX3_post_34 rfl hl (by decide) rfl (fun ls hl => ?_)
      refine lv_iconst (v := 0) hx hb dX3_post_35 (by decide) ?_
      refine lv_istore_n (lv' := [(3, .int 0), (2, .int 0), (0, .ref (adM 0)), (1, .int x1)]) hx hb dX3_post_36 rfl hl (by decide) rfl (fun ls hl => ?_)
      obtain ⟨stp4, est4, hf⟩ := o_ln hf
      have L4 : ∀ (n : Nat) (v5 : Int32) (v6 : Int32) (M7 : BC) (H : Heap) (locs : List Loc) (ls : Array Slot), bW D g A s H locs [mW g adM kM tM M7] → lv_has ls 6 [(3, .int v6), (2, .int v5), (0, .ref (adM 0)), (1, .int x1)] → o_lp stp4 n (v5, v6, M7) = some (rO, MO) → W p l e rm_X3_post s m args below meth c H locs 0 0 Q (F0 m 37 ls []) := by
        intro n4
        induction n4 with
        | zero => intro v5 v6 M7 H locs ls hW hl hf; exact (o_lz hf).elim
        | succ n4 ih4 =>
          intro v5 v6 M7 H locs ls hW hl hf
          have hf := o_lu est4 hf
          rw [f_X3_post_L37] at hf
          refine lv_iload_n hx hb dX3_post_37 rfl (lv_at hl 0 rfl) ?_
          refine lv_iload_n hx hb dX3_post_38 rfl (lv_at hl 3 rfl) ?_
          refine lv_icmp_ge (tgt := 114) hx hb dX3_post_39 (by decide) (fun c8 => ?_) (fun c8 => ?_)
          · have hf := o_t hf c8
            refine lv_iload_n hx hb dX3_post_114 rfl (lv_at hl 1 rfl) ?_
            cases hf
            exact b_iret hx hb hr hlk hE hW () rfl trivial rfl dX3_post_115
          · have hf := o_f hf c8
            refine lv_aload_n hx hb dX3_post_42 rfl (lv_at hl 2 rfl) ?_
            refine lv_aload_n hx hb dX3_post_43 rfl (lv_at hl 2 rfl) ?_
            refine b_get hx hb hts in_X3 hown hW 0 0 3 9 rfl mW_0 rfl (by decide) ⟨rfl, rfl, rfl⟩ (hts _ q1468) mW_g9 dX3_post_44 ?_
            obtain ⟨r9, M10, hc10, hf⟩ := o_b2s hf
            have hp10 : List.Perm [mW g adM kM tM M7] ([mW g adM kM tM M7] ++ []) := b_perm [0] [] 1 rfl rfl rfl rfl
            refine b_call0 ⟨rfl, rfl⟩ (va_runV (As := [.int (M7.1 0 1)]) (rest := []) ⟨hx, hb, hml, hown, hts⟩ (m_X3_draw l D g H.size adM kM tM M7 (M7.1 0 1) r9 M10 hc10) (cwV 1 hts (lw_V q2006 q2008 qs74 q79 q2009) rfl rfl rfl (by decide +kernel) ⟨Nat.le_of_ble_eq_true rfl, Nat.le_of_ble_eq_true rfl⟩) (b_preV (pp := 0) (q := 0) hW hp10 rfl mW_0 rfl) rfl rfl hl.1 rfl (lv_room (Nat.le_of_ble_eq_true rfl)) dX3_post_47 ⟨Nat.le_of_ble_eq_true rfl, Nat.le_of_ble_eq_true rfl⟩) hW hp10 (fun _ _ H locs hW => ?_)
            have hW : bW D g A s H locs [mW g adM kM tM M10] := hW
            refine lv_istore (lv' := [(4, .int r9), (3, .int v6), (2, .int v5), (0, .ref (adM 0)), (1, .int x1)]) hx hb dX3_post_50 hl (by decide) rfl (fun ls hl => ?_)
            refine lv_aload_n hx hb dX3_post_52 rfl (lv_at hl 3 rfl) ?_
            refine b_get hx hb hts in_X3 hown hW 0 0 3 10 rfl mW_0 rfl (by decide) ⟨rfl, rfl, rfl⟩ (hts _ q1469) mW_g10 dX3_post_53 ?_
            refine lv_iload hx hb dX3_post_56 (lv_at hl 0 rfl) ?_
            obtain ⟨h11, hf⟩ := o_cs hf
            refine b_agrI hx hb hW 0 17 rfl mW_17 h11 dX3_post_58 ?_
            refine lv_iconst (v := 0) hx hb dX3_post_59 (by decide) ?_
            refine b_iald hx hb hW 0 (18 + ix r9) rfl (mW_r18 (inB_lt h11)) (by decide) dX3_post_60 ?_
            refine lv_aload_n hx hb dX3_post_61 rfl (lv_at hl 3 rfl) ?_
            refine lv_bipush (v := 21) hx hb dX3_post_62 (by decide) ?_
            obtain ⟨r12, M13, hc13, hf⟩ := o_b2s hf
            have hp13 : List.Perm [mW g adM kM tM M10] ([mW g adM kM tM M10] ++ []) := b_perm [0] [] 1 rfl rfl rfl rfl
            refine b_call0 ⟨rfl, rfl⟩ (va_runV (As := [.int 21]) (rest := [.int (M10.1 (18 + ix r9) (ix 0))]) ⟨hx, hb, hml, hown, hts⟩ (m_X3_draw l D g H.size adM kM tM M10 21 r12 M13 hc13) (cwV 1 hts (lw_V q2006 q2008 qs74 q79 q2009) rfl rfl rfl (by decide +kernel) ⟨Nat.le_of_ble_eq_true rfl, Nat.le_of_ble_eq_true rfl⟩) (b_preV (pp := 0) (q := 0) hW hp13 rfl mW_0 rfl) rfl rfl hl.1 rfl (lv_room (Nat.le_of_ble_eq_true rfl)) dX3_post_64 ⟨Nat.le_of_ble_eq_true rfl, Nat.le_of_ble_eq_true rfl⟩) hW hp13 (fun _ _ H locs hW => ?_)
            have hW : bW D g A s H locs [mW g adM kM tM M13] := hW
            refine lv_iadd hx hb dX3_post_67 ?_
            refine lv_bipush (v := 10) hx hb dX3_post_68 (by decide) ?_
            refine lv_isub hx hb dX3_post_70 ?_
            refine lv_bipush (v := 100) hx hb dX3_post_71 (by decide) ?_
            obtain ⟨r14, hc14, hf⟩ := o_b1s hf
            have hp14 : List.Perm [mW g adM kM tM M13] ([] ++ [mW g adM kM tM M13]) := b_perm [] [0] 1 rfl rfl rfl rfl
            refine b_call0 ⟨rfl, rfl⟩ (va_runS (As := [.int (((M10.1 (18 + ix r9) (ix 0)) + r12) - 10), .int 100]) (rest := []) ⟨hx, hb, hml, hown, hts⟩ (m_X3_within l D g H.size (((M10.1 (18 + ix r9) (ix 0)) + r12) - 10) 100 r14 hc14) (va_cwS 2 hts (lw_S q1930 q1931 q79 q1932) rfl rfl rfl (by decide +kernel) ⟨Nat.le_of_ble_eq_true rfl, Nat.le_of_ble_eq_true rfl⟩) (b_preS hW hp14) rfl rfl hl.1 rfl (lv_room (Nat.le_of_ble_eq_true rfl)) dX3_post_73 ⟨Nat.le_of_ble_eq_true rfl, Nat.le_of_ble_eq_true rfl⟩) hW hp14 (fun _ _ H locs hW => ?_)
            have hW : bW D g A s H locs [mW g adM kM tM M13] := hW
            refine lv_istore (lv' := [(5, .int r14), (4, .int r9), (3, .int v6), (2, .int v5), (0, .ref (adM 0)), (1, .int x1)]) hx hb dX3_post_76 hl (by decide) rfl (fun ls hl => ?_)
            refine lv_iload_n hx hb dX3_post_78 rfl (lv_at hl 3 rfl) ?_
            refine lv_aload_n hx hb dX3_post_79 rfl (lv_at hl 4 rfl) ?_
            refine b_get hx hb hts in_X3 hown hW 0 0 3 10 rfl mW_0 rfl (by decide) ⟨rfl, rfl, rfl⟩ (hts _ q1469) mW_g10 dX3_post_80 ?_
            refine lv_iload hx hb dX3_post_83 (lv_at hl 1 rfl) ?_
            refine b_agrI hx hb hW 0 17 rfl mW_17 h11 dX3_post_85 ?_
            refine lv_iconst (v := 5) hx hb dX3_post_86 (by decide) ?_
            refine b_iald hx hb hW 0 (18 + ix r9) rfl (mW_r18 (inB_lt h11)) (by decide) dX3_post_87 ?_
            refine lv_bipush (v := 99) hx hb dX3_post_88 (by decide) ?_
            refine lv_icmp_ge (tgt := 97) hx hb dX3_post_90 (by decide) (fun c15 => ?_) (fun c15 => ?_)
            · have hf := o_t hf c15
              refine lv_iconst (v := 0) hx hb dX3_post_97 (by decide) ?_
              refine lv_iadd hx hb dX3_post_98 ?_
              obtain ⟨v16, ev16, hf⟩ := o_ls hf
              refine b_topi ev16 ?_
              refine lv_istore_n (lv' := [(2, .int v16), (5, .int r14), (4, .int r9), (3, .int v6), (0, .ref (adM 0)), (1, .int x1)]) hx hb dX3_post_99 rfl hl (by decide) rfl (fun ls hl => ?_)
              refine lv_aload_n hx hb dX3_post_100 rfl (lv_at hl 4 rfl) ?_
              refine lv_iload hx hb dX3_post_101 (lv_at hl 2 rfl) ?_
              refine lv_iload hx hb dX3_post_103 (lv_at hl 1 rfl) ?_
              obtain ⟨M17, hc17, hf⟩ := o_b1s hf
              have hp17 : List.Perm [mW g adM kM tM M13] ([mW g adM kM tM M13] ++ []) := b_perm [0] [] 1 rfl rfl rfl rfl
              refine b_call0 ⟨rfl, rfl⟩ (va_runV (As := [.int r9, .int r14]) (rest := []) ⟨hx, hb, hml, hown, hts⟩ (m_X3_getsLetter l D g H.size adM kM tM M13 r9 r14 M17 hc17) (cwV 2 hts (lw_V q1676 q1678 qs44 q79 q1679) rfl rfl rfl (by decide +kernel) ⟨Nat.le_of_ble_eq_true rfl, Nat.le_of_ble_eq_true rfl⟩) (b_preV (pp := 0) (q := 0) hW hp17 rfl mW_0 rfl) rfl rfl hl.1 rfl (lv_room (Nat.le_of_ble_eq_true rfl)) dX3_post_105 ⟨Nat.le_of_ble_eq_true rfl, Nat.le_of_ble_eq_true rfl⟩) hW hp17 (fun _ _ H locs hW => ?_)
              have hW : bW D g A s H locs [mW g adM kM tM M17] := hW
              obtain ⟨v18, ev18, hf⟩ := o_ls hf
              refine lv_iinc (v := v18) (lv' := [(3, .int v18), (2, .int v16), (5, .int r14), (4, .int r9), (0, .ref (adM 0)), (1, .int x1)]) hx hb dX3_post_108 hl (k := 3) rfl ev18 (by decide) rfl (fun ls hl => ?_)
              refine lv_goto (tgt := 37) hx hb dX3_post_111 (by decide) ?_
              exact ih4 _ _ _ _ _ _ hW (lv_sub hl [0, 1, 4, 5] rfl) hf
            · have hf := o_f hf c15
              refine lv_iconst (v := 1) hx hb dX3_post_93 (by decide) ?_
              refine lv_goto (tgt := 98) hx hb dX3_post_94 (by decide) ?_
              refine lv_iadd hx hb dX3_post_98 ?_
              obtain ⟨v19, ev19, hf⟩ := o_ls hf
              refine b_topi ev19 ?_
              refine lv_istore_n (lv' := [(2, .int v19), (5, .int r14), (4, .int r9), (3, .int v6), (0, .ref (adM 0)), (1, .int x1)]) hx hb dX3_post_99 rfl hl (by decide) rfl (fun ls hl => ?_)
              refine lv_aload_n hx hb dX3_post_100 rfl (lv_at hl 4 rfl) ?_
              refine lv_iload hx hb dX3_post_101 (lv_at hl 2 rfl) ?_
              refine lv_iload hx hb dX3_post_103 (lv_at hl 1 rfl) ?_
              obtain ⟨M20, hc20, hf⟩ := o_b1s hf
              have hp20 : List.Perm [mW g adM kM tM M13] ([mW g adM kM tM M13] ++ []) := b_perm [0] [] 1 rfl rfl rfl rfl
              refine b_call0 ⟨rfl, rfl⟩ (va_runV (As := [.int r9, .int r14]) (rest := []) ⟨hx, hb, hml, hown, hts⟩ (m_X3_getsLetter l D g H.size adM kM tM M13 r9 r14 M20 hc20) (cwV 2 hts (lw_V q1676 q1678 qs44 q79 q1679) rfl rfl rfl (by decide +kernel) ⟨Nat.le_of_ble_eq_true rfl, Nat.le_of_ble_eq_true rfl⟩) (b_preV (pp := 0) (q := 0) hW hp20 rfl mW_0 rfl) rfl rfl hl.1 rfl (lv_room (Nat.le_of_ble_eq_true rfl)) dX3_post_105 ⟨Nat.le_of_ble_eq_true rfl, Nat.le_of_ble_eq_true rfl⟩) hW hp20 (fun _ _ H locs hW => ?_)
              have hW : bW D g A s H locs [mW g adM kM tM M20] := hW
              obtain ⟨v21, ev21, hf⟩ := o_ls hf
              refine lv_iinc (v := v21) (lv' := [(3, .int v21), (2, .int v19), (5, .int r14), (4, .int r9), (0, .ref (adM 0)), (1, .int x1)]) hx hb dX3_post_108 hl (k := 3) rfl ev21 (by decide) rfl (fun ls hl => ?_)
              refine lv_goto (tgt := 37) hx hb dX3_post_111 (by decide) ?_
              exact ih4 _ _ _ _ _ _ hW (lv_sub hl [0, 1, 4, 5] rfl) hf
      exact L4 _ _ _ _ _ _ _ hW (lv_sub hl [0, 1, 2, 3] rfl) hf
    · have hf := o_t hf c3
      refine lv_aload_n hx hb dX3_post_26 rfl (lv_at hl 0 rfl) ?_
      refine lv_bipush (v := (-5)) hx hb dX3_post_27 (by decide) ?_
      obtain ⟨r22, M23, hc23, hf⟩ := o_b2s hf
      have hp23 : List.Perm [mW g adM kM tM M] ([mW g adM kM tM M] ++ []) := b_perm [0] [] 1 rfl rfl rfl rfl
      refine b_call0 ⟨rfl, rfl⟩ (va_runV (As := [.int (-5)]) (rest := []) ⟨hx, hb, hml, hown, hts⟩ (m_X3_refuse l D g H.size adM kM tM M (-5) r22 M23 hc23) (cwV 1 hts (lw_V q1572 q1574 qs33 q79 q1575) rfl rfl rfl (by decide +kernel) ⟨Nat.le_of_ble_eq_true rfl, Nat.le_of_ble_eq_true rfl⟩) (b_preV (pp := 0) (q := 0) hW hp23 rfl mW_0 rfl) rfl rfl hl.1 rfl (lv_room (Nat.le_of_ble_eq_true rfl)) dX3_post_29 ⟨Nat.le_of_ble_eq_true rfl, Nat.le_of_ble_eq_true rfl⟩) hW hp23 (fun _ _ H locs hW => ?_)
      have hW : bW D g A s H locs [mW g adM kM tM M23] := hW
      cases hf
      exact b_iret hx hb hr hlk hE hW () rfl trivial rfl dX3_post_32
  · have hf := o_t hf c2
    refine lv_aload_n hx hb dX3_post_12 rfl (lv_at hl 0 rfl) ?_
    refine lv_bipush (v := (-2)) hx hb dX3_post_13 (by decide) ?_
    obtain ⟨r24, M25, hc25, hf⟩ := o_b2s hf
    have hp25 : List.Perm [mW g adM kM tM M] ([mW g adM kM tM M] ++ []) := b_perm [0] [] 1 rfl rfl rfl rfl
    refine b_call0 ⟨rfl, rfl⟩ (va_runV (As := [.int (-2)]) (rest := []) ⟨hx, hb, hml, hown, hts⟩ (m_X3_refuse l D g H.size adM kM tM M (-2) r24 M25 hc25) (cwV 1 hts (lw_V q1572 q1574 qs33 q79 q1575) rfl rfl rfl (by decide +kernel) ⟨Nat.le_of_ble_eq_true rfl, Nat.le_of_ble_eq_true rfl⟩) (b_preV (pp := 0) (q := 0) hW hp25 rfl mW_0 rfl) rfl rfl hl.1 rfl (lv_room (Nat.le_of_ble_eq_true rfl)) dX3_post_15 ⟨Nat.le_of_ble_eq_true rfl, Nat.le_of_ble_eq_true rfl⟩) hW hp25 (fun _ _ H locs hW => ?_)
    have hW : bW D g A s H locs [mW g adM kM tM M25] := hW
    cases hf
    exact b_iret hx hb hr hlk hE hW () rfl trivial rfl dX3_post_18
def f_X3_seed (M : BC) (x1 : Int32) : Option (Int32 × BC) :=
 o_lt (M.1 0 5) fun (v1 : Int32) =>
 o_lt (bI M 0 (upd (M.1 0) 5 x1)) fun (M2 : BC) =>
 some (v1, M2)
abbrev rm_X3_seed : Room := { frames := 0, cells := 0, slots := 0, locals := 0 }
set_option maxHeartbeats 4000000 in
set_option maxRecDepth 100000 in
theorem m_X3_seed (l : Launch) (D : va_G) (g : Nat → ClassId) (sz : Nat) (adM : Nat → Nat) (kM : Option Nat) (tM : Option Nat) (M : BC) (x1 : Int32) (rO : Int32) (MO : BC) (hf : f_X3_seed M x1 = some (rO, MO)) : bMet (S := Unit) l yX3_seed (ws_ yX3_seed cX3_seed 3 (some .int)) rm_X3_seed D g sz [.ref (adM 0), .int x1] [mW g adM kM tM M] (fun _ => True) (fun _ => some (.int rO)) (fun _ => [mW g adM kM tM MO]) := by
  refine b_met (by decide) (Nat.le_of_ble_eq_true rfl) ?_
  intro p e s m args below meth c A Q ls hx hb hml hr hlk hown hname hts hE hl hW
  revert hW; generalize s.heap = H; intro hW
  have hl : lv_has ls 3 [(0, .ref (adM 0)), (1, .int x1)] := hl
  rw [f_X3_seed] at hf
  refine lv_aload_n hx hb dX3_seed_0 rfl (lv_at hl 0 rfl) ?_
  refine b_get hx hb hts in_X3 hown hW 0 0 3 15 rfl mW_0 rfl (by decide) ⟨rfl, rfl, rfl⟩ (hts _ q1474) mW_g15 dX3_seed_1 ?_
  obtain ⟨v1, ev1, hf⟩ := o_ls hf
  refine b_topi ev1 ?_
  refine lv_istore_n (lv' := [(2, .int v1), (0, .ref (adM 0)), (1, .int x1)]) hx hb dX3_seed_4 rfl hl (by decide) rfl (fun ls hl => ?_)
  refine lv_aload_n hx hb dX3_seed_5 rfl (lv_at hl 1 rfl) ?_
  refine lv_iload_n hx hb dX3_seed_6 rfl (lv_at hl 2 rfl) ?_
  obtain ⟨M2, eM2, hf⟩ := o_ls hf
  refine b_put hx hb hts in_X3 tyX3 tyX3_ok nmX3 hown hW 0 0 3 15 rfl mW_0 (mW_p15 eM2) rfl rfl (by decide) ⟨rfl, rfl, rfl⟩ (hts _ q1474) rfl (ty := .int) rfl rfl rfl (by rw [mW_l]; decide) dX3_seed_7 (fun H locs hW => ?_)
  have hW : bW D g A s H locs [mW g adM kM tM M2] := hW
  refine lv_iload_n hx hb dX3_seed_10 rfl (lv_at hl 0 rfl) ?_
  cases hf
  exact b_iret hx hb hr hlk hE hW () rfl trivial rfl dX3_seed_11
def f_X3_status_L73 (M : BC) (rec5 : (Int32 × Int32) → Option Int32) : Int32 × Int32 → Option Int32
  | (v6, v7) =>
    (if (M.1 0 1) ≤ v7 then
     some v6
     else
     o_ck (inB v7 6) ((if (M.1 (18 + ix v7) (ix 4)) = (-1) then
     o_lt (v6 ||| 0) fun (v11 : Int32) =>
     o_lt (v7 + 1) fun (v12 : Int32) =>
     rec5 (v11, v12)
     else
     o_lt (v6 ||| (1 <<< (v7 &&& 31))) fun (v13 : Int32) =>
     o_lt (v7 + 1) fun (v14 : Int32) =>
     rec5 (v13, v14))))
def f_X3_status_L113 (M : BC) (rec16 : (Int32 × Int32) → Option Int32) : Int32 × Int32 → Option Int32
  | (v17, v18) =>
    (if (M.1 0 1) ≤ v18 then
     some v17
     else
     o_ck (inB v18 6) (o_lt (v17 + (M.1 (18 + ix v18) (ix 2))) fun (v21 : Int32) =>
     o_lt (v18 + 1) fun (v22 : Int32) =>
     rec16 (v21, v22)))
def f_X3_status_L142 (M : BC) (rec24 : (Int32 × Int32) → Option Int32) : Int32 × Int32 → Option Int32
  | (v25, v26) =>
    (if (M.1 0 2) ≤ v26 then
     some v25
     else
     o_ck (inB v26 6) (o_lt (v25 + (M.1 (25 + ix v26) (ix 1))) fun (v29 : Int32) =>
     o_lt (v26 + 1) fun (v30 : Int32) =>
     rec24 (v29, v30)))
def f_X3_status_L186 (M : BC) (rec35 : (Int32 × Int32) → Option Int32) : Int32 × Int32 → Option Int32
  | (v36, v37) =>
    (if (8 : Int32) ≤ v37 then
     some v36
     else
     o_ck (inB v37 8) ((if (M.1 1 (ix v37)) = 0 then
     o_lt (v36 + 0) fun (v41 : Int32) =>
     o_lt (v37 + 1) fun (v42 : Int32) =>
     rec35 (v41, v42)
     else
     o_lt (v36 + 1) fun (v43 : Int32) =>
     o_lt (v37 + 1) fun (v44 : Int32) =>
     rec35 (v43, v44))))
def f_X3_status (fu : Nat) (M : BC) (x1 : Int32) : Option Int32 :=
 (if x1 = 0 then
 some (M.1 0 1)
 else
 (if x1 = 1 then
 some (M.1 0 2)
 else
 (if x1 = 2 then
 some (M.1 0 3)
 else
 (if x1 = 3 then
 o_lp (f_X3_status_L73 M) fu (0, 0)
 else
 (if x1 = 4 then
 o_lp (f_X3_status_L113 M) fu (0, 0)
 else
 (if x1 = 5 then
 o_lp (f_X3_status_L142 M) fu (0, 0)
 else
 (if x1 = 6 then
 some (M.1 0 4)
 else
 (if x1 = 7 then
 some (M.1 0 0)
 else
 (if x1 = 8 then
 some (M.1 0 5)
 else
 (if x1 = 9 then
 o_lp (f_X3_status_L186 M) fu (0, 0)
 else
 o_b1 (f_X3_in x1.toInt64 12 16) fun (r45 : Int32) =>
 (if r45 = 0 then
 some (-1)
 else
 o_ck (inB (x1 - 10) 8) (some (M.1 16 (ix (x1 - 10)))))))))))))))
abbrev rm_X3_status : Room := { frames := 1, cells := 0, slots := 0, locals := 25 }
set_option maxHeartbeats 4000000 in
set_option maxRecDepth 100000 in
theorem m_X3_status (l : Launch) (D : va_G) (g : Nat → ClassId) (sz : Nat) (adM : Nat → Nat) (kM : Option Nat) (tM : Option Nat) (fu : Nat) (M : BC) (x1 : Int32) (rO : Int32) (hf : f_X3_status fu M x1 = some rO) : bMet (S := Unit) l yX3_status (ws_ yX3_status cX3_status 4 (some .int)) rm_X3_status D g sz [.ref (adM 0), .int x1] [mW g adM kM tM M] (fun _ => True) (fun _ => some (.int rO)) (fun _ => [mW g adM kM tM M]) := by
  refine b_met (by decide) (Nat.le_of_ble_eq_true rfl) ?_
  intro p e s m args below meth c A Q ls hx hb hml hr hlk hown hname hts hE hl hW
  revert hW; generalize s.heap = H; intro hW
  have hl : lv_has ls 4 [(0, .ref (adM 0)), (1, .int x1)] := hl
  rw [f_X3_status] at hf
  refine lv_iconst (v := 0) hx hb dX3_status_0 (by decide) ?_
  refine lv_istore_n (lv' := [(2, .int 0), (0, .ref (adM 0)), (1, .int x1)]) hx hb dX3_status_1 rfl hl (by decide) rfl (fun ls hl => ?_)
  refine lv_iload_n hx hb dX3_status_2 rfl (lv_at hl 2 rfl) ?_
  by_cases c1 : x1 = 0
  · have hf := o_t hf c1
    refine lv_tableIn (off := 53) (tgt := 56) hx hb dX3_status_3 (by rw [c1]; decide) (by rw [c1]; decide) (by rw [c1]; rfl) (by decide) ?_
    refine lv_aload_n hx hb dX3_status_56 rfl (lv_at hl 1 rfl) ?_
    refine b_get hx hb hts in_X3 hown hW 0 0 3 9 rfl mW_0 rfl (by decide) ⟨rfl, rfl, rfl⟩ (hts _ q1468) mW_g9 dX3_status_57 ?_
    cases hf
    exact b_iret hx hb hr hlk hE hW () rfl trivial rfl dX3_status_60
  · have hf := o_f hf c1
    by_cases c2 : x1 = 1
    · have hf := o_t hf c2
      refine lv_tableIn (off := 58) (tgt := 61) hx hb dX3_status_3 (by rw [c2]; decide) (by rw [c2]; decide) (by rw [c2]; rfl) (by decide) ?_
      refine lv_aload_n hx hb dX3_status_61 rfl (lv_at hl 1 rfl) ?_
      refine b_get hx hb hts in_X3 hown hW 0 0 3 11 rfl mW_0 rfl (by decide) ⟨rfl, rfl, rfl⟩ (hts _ q1470) mW_g11 dX3_status_62 ?_
      cases hf
      exact b_iret hx hb hr hlk hE hW () rfl trivial rfl dX3_status_65
    · have hf := o_f hf c2
      by_cases c3 : x1 = 2
      · have hf := o_t hf c3
        refine lv_tableIn (off := 63) (tgt := 66) hx hb dX3_status_3 (by rw [c3]; decide) (by rw [c3]; decide) (by rw [c3]; rfl) (by decide) ?_
        refine lv_aload_n hx hb dX3_status_66 rfl (lv_at hl 1 rfl) ?_
        refine b_get hx hb hts in_X3 hown hW 0 0 3 13 rfl mW_0 rfl (by decide) ⟨rfl, rfl, rfl⟩ (hts _ q1472) mW_g13 dX3_status_67 ?_
        cases hf
        exact b_iret hx hb hr hlk hE hW () rfl trivial rfl dX3_status_70
      · have hf := o_f hf c3
        by_cases c4 : x1 = 3
        · have hf := o_t hf c4
          refine lv_tableIn (off := 68) (tgt := 71) hx hb dX3_status_3 (by rw [c4]; decide) (by rw [c4]; decide) (by rw [c4]; rfl) (by decide) ?_
          refine lv_iconst (v := 0) hx hb dX3_status_71 (by decide) ?_
          refine lv_istore_n (lv' := [(3, .int 0), (2, .int 0), (0, .ref (adM 0)), (1, .int x1)]) hx hb dX3_status_72 rfl hl (by decide) rfl (fun ls hl => ?_)
          obtain ⟨stp5, est5, hf⟩ := o_ln hf
          have L5 : ∀ (n : Nat) (v6 : Int32) (v7 : Int32) (H : Heap) (locs : List Loc) (ls : Array Slot), bW D g A s H locs [mW g adM kM tM M] → lv_has ls 4 [(3, .int v7), (2, .int v6), (0, .ref (adM 0))] → o_lp stp5 n (v6, v7) = some rO → W p l e rm_X3_status s m args below meth c H locs 0 0 Q (F0 m 73 ls []) := by
            intro n5
            induction n5 with
            | zero => intro v6 v7 H locs ls hW hl hf; exact (o_lz hf).elim
            | succ n5 ih5 =>
              intro v6 v7 H locs ls hW hl hf
              have hf := o_lu est5 hf
              rw [f_X3_status_L73] at hf
              refine lv_iload_n hx hb dX3_status_73 rfl (lv_at hl 0 rfl) ?_
              refine lv_aload_n hx hb dX3_status_74 rfl (lv_at hl 2 rfl) ?_
              refine b_get hx hb hts in_X3 hown hW 0 0 3 9 rfl mW_0 rfl (by decide) ⟨rfl, rfl, rfl⟩ (hts _ q1468) mW_g9 dX3_status_75 ?_
              refine lv_icmp_ge (tgt := 109) hx hb dX3_status_78 (by decide) (fun c8 => ?_) (fun c8 => ?_)
              · have hf := o_t hf c8
                refine lv_iload_n hx hb dX3_status_109 rfl (lv_at hl 1 rfl) ?_
                cases hf
                exact b_iret hx hb hr hlk hE hW () rfl trivial rfl dX3_status_110
              · have hf := o_f hf c8
                refine lv_iload_n hx hb dX3_status_81 rfl (lv_at hl 1 rfl) ?_
                refine lv_aload_n hx hb dX3_status_82 rfl (lv_at hl 2 rfl) ?_
                refine b_get hx hb hts in_X3 hown hW 0 0 3 10 rfl mW_0 rfl (by decide) ⟨rfl, rfl, rfl⟩ (hts _ q1469) mW_g10 dX3_status_83 ?_
                refine lv_iload_n hx hb dX3_status_86 rfl (lv_at hl 0 rfl) ?_
                obtain ⟨h9, hf⟩ := o_cs hf
                refine b_agrI hx hb hW 0 17 rfl mW_17 h9 dX3_status_87 ?_
                refine lv_iconst (v := 4) hx hb dX3_status_88 (by decide) ?_
                refine b_iald hx hb hW 0 (18 + ix v7) rfl (mW_r18 (inB_lt h9)) (by decide) dX3_status_89 ?_
                refine lv_iconst (v := (-1)) hx hb dX3_status_90 (by decide) ?_
                refine lv_icmp_eq (tgt := 100) hx hb dX3_status_91 (by decide) (fun c10 => ?_) (fun c10 => ?_)
                · have hf := o_t hf c10
                  refine lv_iconst (v := 0) hx hb dX3_status_100 (by decide) ?_
                  refine lv_ior hx hb dX3_status_101 ?_
                  obtain ⟨v11, ev11, hf⟩ := o_ls hf
                  refine b_topi ev11 ?_
                  refine lv_istore_n (lv' := [(2, .int v11), (3, .int v7), (0, .ref (adM 0))]) hx hb dX3_status_102 rfl hl (by decide) rfl (fun ls hl => ?_)
                  obtain ⟨v12, ev12, hf⟩ := o_ls hf
                  refine lv_iinc (v := v12) (lv' := [(3, .int v12), (2, .int v11), (0, .ref (adM 0))]) hx hb dX3_status_103 hl (k := 1) rfl ev12 (by decide) rfl (fun ls hl => ?_)
                  refine lv_goto (tgt := 73) hx hb dX3_status_106 (by decide) ?_
                  exact ih5 _ _ _ _ _ hW (lv_sub hl [0, 1, 2] rfl) hf
                · have hf := o_f hf c10
                  refine lv_iconst (v := 1) hx hb dX3_status_94 (by decide) ?_
                  refine lv_iload_n hx hb dX3_status_95 rfl (lv_at hl 0 rfl) ?_
                  refine lv_ishl hx hb dX3_status_96 ?_
                  refine lv_goto (tgt := 101) hx hb dX3_status_97 (by decide) ?_
                  refine lv_ior hx hb dX3_status_101 ?_
                  obtain ⟨v13, ev13, hf⟩ := o_ls hf
                  refine b_topi ev13 ?_
                  refine lv_istore_n (lv' := [(2, .int v13), (3, .int v7), (0, .ref (adM 0))]) hx hb dX3_status_102 rfl hl (by decide) rfl (fun ls hl => ?_)
                  obtain ⟨v14, ev14, hf⟩ := o_ls hf
                  refine lv_iinc (v := v14) (lv' := [(3, .int v14), (2, .int v13), (0, .ref (adM 0))]) hx hb dX3_status_103 hl (k := 1) rfl ev14 (by decide) rfl (fun ls hl => ?_)
                  refine lv_goto (tgt := 73) hx hb dX3_status_106 (by decide) ?_
                  exact ih5 _ _ _ _ _ hW (lv_sub hl [0, 1, 2] rfl) hf
          exact L5 _ _ _ _ _ _ hW (lv_sub hl [0, 1, 2] rfl) hf
        · have hf := o_f hf c4
          by_cases c15 : x1 = 4
          · have hf := o_t hf c15
            refine lv_tableIn (off := 108) (tgt := 111) hx hb dX3_status_3 (by rw [c15]; decide) (by rw [c15]; decide) (by rw [c15]; rfl) (by decide) ?_
            refine lv_iconst (v := 0) hx hb dX3_status_111 (by decide) ?_
            refine lv_istore_n (lv' := [(3, .int 0), (2, .int 0), (0, .ref (adM 0)), (1, .int x1)]) hx hb dX3_status_112 rfl hl (by decide) rfl (fun ls hl => ?_)
            obtain ⟨stp16, est16, hf⟩ := o_ln hf
            have L16 : ∀ (n : Nat) (v17 : Int32) (v18 : Int32) (H : Heap) (locs : List Loc) (ls : Array Slot), bW D g A s H locs [mW g adM kM tM M] → lv_has ls 4 [(3, .int v18), (2, .int v17), (0, .ref (adM 0))] → o_lp stp16 n (v17, v18) = some rO → W p l e rm_X3_status s m args below meth c H locs 0 0 Q (F0 m 113 ls []) := by
              intro n16
              induction n16 with
              | zero => intro v17 v18 H locs ls hW hl hf; exact (o_lz hf).elim
              | succ n16 ih16 =>
                intro v17 v18 H locs ls hW hl hf
                have hf := o_lu est16 hf
                rw [f_X3_status_L113] at hf
                refine lv_iload_n hx hb dX3_status_113 rfl (lv_at hl 0 rfl) ?_
                refine lv_aload_n hx hb dX3_status_114 rfl (lv_at hl 2 rfl) ?_
                refine b_get hx hb hts in_X3 hown hW 0 0 3 9 rfl mW_0 rfl (by decide) ⟨rfl, rfl, rfl⟩ (hts _ q1468) mW_g9 dX3_status_115 ?_
                refine lv_icmp_ge (tgt := 138) hx hb dX3_status_118 (by decide) (fun c19 => ?_) (fun c19 => ?_)
                · have hf := o_t hf c19
                  refine lv_iload_n hx hb dX3_status_138 rfl (lv_at hl 1 rfl) ?_
                  cases hf
                  exact b_iret hx hb hr hlk hE hW () rfl trivial rfl dX3_status_139
                · have hf := o_f hf c19
                  refine lv_iload_n hx hb dX3_status_121 rfl (lv_at hl 1 rfl) ?_
                  refine lv_aload_n hx hb dX3_status_122 rfl (lv_at hl 2 rfl) ?_
                  refine b_get hx hb hts in_X3 hown hW 0 0 3 10 rfl mW_0 rfl (by decide) ⟨rfl, rfl, rfl⟩ (hts _ q1469) mW_g10 dX3_status_123 ?_
                  refine lv_iload_n hx hb dX3_status_126 rfl (lv_at hl 0 rfl) ?_
                  obtain ⟨h20, hf⟩ := o_cs hf
                  refine b_agrI hx hb hW 0 17 rfl mW_17 h20 dX3_status_127 ?_
                  refine lv_iconst (v := 2) hx hb dX3_status_128 (by decide) ?_
                  refine b_iald hx hb hW 0 (18 + ix v18) rfl (mW_r18 (inB_lt h20)) (by decide) dX3_status_129 ?_
                  refine lv_iadd hx hb dX3_status_130 ?_
                  obtain ⟨v21, ev21, hf⟩ := o_ls hf
                  refine b_topi ev21 ?_
                  refine lv_istore_n (lv' := [(2, .int v21), (3, .int v18), (0, .ref (adM 0))]) hx hb dX3_status_131 rfl hl (by decide) rfl (fun ls hl => ?_)
                  obtain ⟨v22, ev22, hf⟩ := o_ls hf
                  refine lv_iinc (v := v22) (lv' := [(3, .int v22), (2, .int v21), (0, .ref (adM 0))]) hx hb dX3_status_132 hl (k := 1) rfl ev22 (by decide) rfl (fun ls hl => ?_)
                  refine lv_goto (tgt := 113) hx hb dX3_status_135 (by decide) ?_
                  exact ih16 _ _ _ _ _ hW (lv_sub hl [0, 1, 2] rfl) hf
            exact L16 _ _ _ _ _ _ hW (lv_sub hl [0, 1, 2] rfl) hf
          · have hf := o_f hf c15
            by_cases c23 : x1 = 5
            · have hf := o_t hf c23
              refine lv_tableIn (off := 137) (tgt := 140) hx hb dX3_status_3 (by rw [c23]; decide) (by rw [c23]; decide) (by rw [c23]; rfl) (by decide) ?_
              refine lv_iconst (v := 0) hx hb dX3_status_140 (by decide) ?_
              refine lv_istore_n (lv' := [(3, .int 0), (2, .int 0), (0, .ref (adM 0)), (1, .int x1)]) hx hb dX3_status_141 rfl hl (by decide) rfl (fun ls hl => ?_)
              obtain ⟨stp24, est24, hf⟩ := o_ln hf
              have L24 : ∀ (n : Nat) (v25 : Int32) (v26 : Int32) (H : Heap) (locs : List Loc) (ls : Array Slot), bW D g A s H locs [mW g adM kM tM M] → lv_has ls 4 [(3, .int v26), (2, .int v25), (0, .ref (adM 0))] → o_lp stp24 n (v25, v26) = some rO → W p l e rm_X3_status s m args below meth c H locs 0 0 Q (F0 m 142 ls []) := by
                intro n24
                induction n24 with
                | zero => intro v25 v26 H locs ls hW hl hf; exact (o_lz hf).elim
                | succ n24 ih24 =>
                  intro v25 v26 H locs ls hW hl hf
                  have hf := o_lu est24 hf
                  rw [f_X3_status_L142] at hf
                  refine lv_iload_n hx hb dX3_status_142 rfl (lv_at hl 0 rfl) ?_
                  refine lv_aload_n hx hb dX3_status_143 rfl (lv_at hl 2 rfl) ?_
                  refine b_get hx hb hts in_X3 hown hW 0 0 3 11 rfl mW_0 rfl (by decide) ⟨rfl, rfl, rfl⟩ (hts _ q1470) mW_g11 dX3_status_144 ?_
                  refine lv_icmp_ge (tgt := 167) hx hb dX3_status_147 (by decide) (fun c27 => ?_) (fun c27 => ?_)
                  · have hf := o_t hf c27
                    refine lv_iload_n hx hb dX3_status_167 rfl (lv_at hl 1 rfl) ?_
                    cases hf
                    exact b_iret hx hb hr hlk hE hW () rfl trivial rfl dX3_status_168
                  · have hf := o_f hf c27
                    refine lv_iload_n hx hb dX3_status_150 rfl (lv_at hl 1 rfl) ?_
                    refine lv_aload_n hx hb dX3_status_151 rfl (lv_at hl 2 rfl) ?_
                    refine b_get hx hb hts in_X3 hown hW 0 0 3 12 rfl mW_0 rfl (by decide) ⟨rfl, rfl, rfl⟩ (hts _ q1471) mW_g12 dX3_status_152 ?_
                    refine lv_iload_n hx hb dX3_status_155 rfl (lv_at hl 0 rfl) ?_
                    obtain ⟨h28, hf⟩ := o_cs hf
                    refine b_agrI hx hb hW 0 24 rfl mW_24 h28 dX3_status_156 ?_
                    refine lv_iconst (v := 1) hx hb dX3_status_157 (by decide) ?_
                    refine b_iald hx hb hW 0 (25 + ix v26) rfl (mW_r25 (inB_lt h28)) (by decide) dX3_status_158 ?_
                    refine lv_iadd hx hb dX3_status_159 ?_
                    obtain ⟨v29, ev29, hf⟩ := o_ls hf
                    refine b_topi ev29 ?_
                    refine lv_istore_n (lv' := [(2, .int v29), (3, .int v26), (0, .ref (adM 0))]) hx hb dX3_status_160 rfl hl (by decide) rfl (fun ls hl => ?_)
                    obtain ⟨v30, ev30, hf⟩ := o_ls hf
                    refine lv_iinc (v := v30) (lv' := [(3, .int v30), (2, .int v29), (0, .ref (adM 0))]) hx hb dX3_status_161 hl (k := 1) rfl ev30 (by decide) rfl (fun ls hl => ?_)
                    refine lv_goto (tgt := 142) hx hb dX3_status_164 (by decide) ?_
                    exact ih24 _ _ _ _ _ hW (lv_sub hl [0, 1, 2] rfl) hf
              exact L24 _ _ _ _ _ _ hW (lv_sub hl [0, 1, 2] rfl) hf
            · have hf := o_f hf c23
              by_cases c31 : x1 = 6
              · have hf := o_t hf c31
                refine lv_tableIn (off := 166) (tgt := 169) hx hb dX3_status_3 (by rw [c31]; decide) (by rw [c31]; decide) (by rw [c31]; rfl) (by decide) ?_
                refine lv_aload_n hx hb dX3_status_169 rfl (lv_at hl 1 rfl) ?_
                refine b_get hx hb hts in_X3 hown hW 0 0 3 14 rfl mW_0 rfl (by decide) ⟨rfl, rfl, rfl⟩ (hts _ q1473) mW_g14 dX3_status_170 ?_
                cases hf
                exact b_iret hx hb hr hlk hE hW () rfl trivial rfl dX3_status_173
              · have hf := o_f hf c31
                by_cases c32 : x1 = 7
                · have hf := o_t hf c32
                  refine lv_tableIn (off := 171) (tgt := 174) hx hb dX3_status_3 (by rw [c32]; decide) (by rw [c32]; decide) (by rw [c32]; rfl) (by decide) ?_
                  refine lv_aload_n hx hb dX3_status_174 rfl (lv_at hl 1 rfl) ?_
                  refine b_get hx hb hts in_X3 hown hW 0 0 3 7 rfl mW_0 rfl (by decide) ⟨rfl, rfl, rfl⟩ (hts _ q1466) mW_g7 dX3_status_175 ?_
                  cases hf
                  exact b_iret hx hb hr hlk hE hW () rfl trivial rfl dX3_status_178
                · have hf := o_f hf c32
                  by_cases c33 : x1 = 8
                  · have hf := o_t hf c33
                    refine lv_tableIn (off := 176) (tgt := 179) hx hb dX3_status_3 (by rw [c33]; decide) (by rw [c33]; decide) (by rw [c33]; rfl) (by decide) ?_
                    refine lv_aload_n hx hb dX3_status_179 rfl (lv_at hl 1 rfl) ?_
                    refine b_get hx hb hts in_X3 hown hW 0 0 3 15 rfl mW_0 rfl (by decide) ⟨rfl, rfl, rfl⟩ (hts _ q1474) mW_g15 dX3_status_180 ?_
                    cases hf
                    exact b_iret hx hb hr hlk hE hW () rfl trivial rfl dX3_status_183
                  · have hf := o_f hf c33
                    by_cases c34 : x1 = 9
                    · have hf := o_t hf c34
                      refine lv_tableIn (off := 181) (tgt := 184) hx hb dX3_status_3 (by rw [c34]; decide) (by rw [c34]; decide) (by rw [c34]; rfl) (by decide) ?_
                      refine lv_iconst (v := 0) hx hb dX3_status_184 (by decide) ?_
                      refine lv_istore_n (lv' := [(3, .int 0), (2, .int 0), (0, .ref (adM 0)), (1, .int x1)]) hx hb dX3_status_185 rfl hl (by decide) rfl (fun ls hl => ?_)
                      obtain ⟨stp35, est35, hf⟩ := o_ln hf
                      have L35 : ∀ (n : Nat) (v36 : Int32) (v37 : Int32) (H : Heap) (locs : List Loc) (ls : Array Slot), bW D g A s H locs [mW g adM kM tM M] → lv_has ls 4 [(3, .int v37), (2, .int v36), (0, .ref (adM 0))] → o_lp stp35 n (v36, v37) = some rO → W p l e rm_X3_status s m args below meth c H locs 0 0 Q (F0 m 186 ls []) := by
                        intro n35
                        induction n35 with
                        | zero => intro v36 v37 H locs ls hW hl hf; exact (o_lz hf).elim
                        | succ n35 ih35 =>
                          intro v36 v37 H locs ls hW hl hf
                          have hf := o_lu est35 hf
                          rw [f_X3_status_L186] at hf
                          refine lv_iload_n hx hb dX3_status_186 rfl (lv_at hl 0 rfl) ?_
                          refine lv_bipush (v := 8) hx hb dX3_status_187 (by decide) ?_
                          refine lv_icmp_ge (tgt := 215) hx hb dX3_status_189 (by decide) (fun c38 => ?_) (fun c38 => ?_)
                          · have hf := o_t hf c38
                            refine lv_iload_n hx hb dX3_status_215 rfl (lv_at hl 1 rfl) ?_
                            cases hf
                            exact b_iret hx hb hr hlk hE hW () rfl trivial rfl dX3_status_216
                          · have hf := o_f hf c38
                            refine lv_iload_n hx hb dX3_status_192 rfl (lv_at hl 1 rfl) ?_
                            refine lv_aload_n hx hb dX3_status_193 rfl (lv_at hl 2 rfl) ?_
                            refine b_get hx hb hts in_X3 hown hW 0 0 3 0 rfl mW_0 rfl (by decide) ⟨rfl, rfl, rfl⟩ (hts _ q1459) mW_g0 dX3_status_194 ?_
                            refine lv_iload_n hx hb dX3_status_197 rfl (lv_at hl 0 rfl) ?_
                            obtain ⟨h39, hf⟩ := o_cs hf
                            refine b_iald hx hb hW 0 1 rfl mW_1 h39 dX3_status_198 ?_
                            refine lv_if_eq (tgt := 206) hx hb dX3_status_199 (by decide) (fun c40 => ?_) (fun c40 => ?_)
                            · have hf := o_t hf c40
                              refine lv_iconst (v := 0) hx hb dX3_status_206 (by decide) ?_
                              refine lv_iadd hx hb dX3_status_207 ?_
                              obtain ⟨v41, ev41, hf⟩ := o_ls hf
                              refine b_topi ev41 ?_
                              refine lv_istore_n (lv' := [(2, .int v41), (3, .int v37), (0, .ref (adM 0))]) hx hb dX3_status_208 rfl hl (by decide) rfl (fun ls hl => ?_)
                              obtain ⟨v42, ev42, hf⟩ := o_ls hf
                              refine lv_iinc (v := v42) (lv' := [(3, .int v42), (2, .int v41), (0, .ref (adM 0))]) hx hb dX3_status_209 hl (k := 1) rfl ev42 (by decide) rfl (fun ls hl => ?_)
                              refine lv_goto (tgt := 186) hx hb dX3_status_212 (by decide) ?_
                              exact ih35 _ _ _ _ _ hW (lv_sub hl [0, 1, 2] rfl) hf
                            · have hf := o_f hf c40
                              refine lv_iconst (v := 1) hx hb dX3_status_202 (by decide) ?_
                              refine lv_goto (tgt := 207) hx hb dX3_status_203 (by decide) ?_
                              refine lv_iadd hx hb dX3_status_207 ?_
                              obtain ⟨v43, ev43, hf⟩ := o_ls hf
                              refine b_topi ev43 ?_
                              refine lv_istore_n (lv' := [(2, .int v43), (3, .int v37), (0, .ref (adM 0))]) hx hb dX3_status_208 rfl hl (by decide) rfl (fun ls hl => ?_)
                              obtain ⟨v44, ev44, hf⟩ := o_ls hf
                              refine lv_iinc (v := v44) (lv' := [(3, .int v44), (2, .int v43), (0, .ref (adM 0))]) hx hb dX3_status_209 hl (k := 1) rfl ev44 (by decide) rfl (fun ls hl => ?_)
                              refine lv_goto (tgt := 186) hx hb dX3_status_212 (by decide) ?_
                              exact ih35 _ _ _ _ _ hW (lv_sub hl [0, 1, 2] rfl) hf
                      exact L35 _ _ _ _ _ _ hW (lv_sub hl [0, 1, 2] rfl) hf
                    · have hf := o_f hf c34
                      refine lv_tableOut (tgt := 217) hx hb dX3_status_3 (by have := lv_neT c1 (a := 0) (by decide); have := lv_neT c2 (a := 1) (by decide); have := lv_neT c3 (a := 2) (by decide); have := lv_neT c4 (a := 3) (by decide); have := lv_neT c15 (a := 4) (by decide); have := lv_neT c23 (a := 5) (by decide); have := lv_neT c31 (a := 6) (by decide); have := lv_neT c32 (a := 7) (by decide); have := lv_neT c33 (a := 8) (by decide); have := lv_neT c34 (a := 9) (by decide); omega) (by decide) ?_
                      refine lv_iload_n hx hb dX3_status_217 rfl (lv_at hl 2 rfl) ?_
                      refine lv_i2l hx hb dX3_status_218 rfl ?_
                      refine lv_ldc2 (v := 12) hx hb hown (hts _ q1921) dX3_status_219 ?_
                      refine lv_ldc2 (v := 16) hx hb hown (hts _ q2027) dX3_status_222 ?_
                      obtain ⟨r45, hc45, hf⟩ := o_b1s hf
                      have hp45 : List.Perm [mW g adM kM tM M] ([] ++ [mW g adM kM tM M]) := b_perm [] [0] 1 rfl rfl rfl rfl
                      refine b_call0 ⟨rfl, rfl⟩ (va_runS (As := [.long x1.toInt64, .long 12, .long 16]) (rest := []) ⟨hx, hb, hml, hown, hts⟩ (m_X3_in l D g H.size x1.toInt64 12 16 r45 hc45) (va_cwS 3 hts (lw_S q1567 q1568 q79 q1569) rfl rfl rfl (by decide +kernel) ⟨Nat.le_of_ble_eq_true rfl, Nat.le_of_ble_eq_true rfl⟩) (b_preS hW hp45) rfl rfl hl.1 rfl (lv_room (Nat.le_of_ble_eq_true rfl)) dX3_status_225 ⟨Nat.le_of_ble_eq_true rfl, Nat.le_of_ble_eq_true rfl⟩) hW hp45 (fun _ _ H locs hW => ?_)
                      have hW : bW D g A s H locs [mW g adM kM tM M] := hW
                      refine lv_if_eq (tgt := 243) hx hb dX3_status_228 (by decide) (fun c46 => ?_) (fun c46 => ?_)
                      · have hf := o_t hf c46
                        refine lv_iconst (v := (-1)) hx hb dX3_status_243 (by decide) ?_
                        cases hf
                        exact b_iret hx hb hr hlk hE hW () rfl trivial rfl dX3_status_244
                      · have hf := o_f hf c46
                        refine lv_aload_n hx hb dX3_status_231 rfl (lv_at hl 1 rfl) ?_
                        refine b_get hx hb hts in_X3 hown hW 0 0 3 8 rfl mW_0 rfl (by decide) ⟨rfl, rfl, rfl⟩ (hts _ q1467) mW_g8 dX3_status_232 ?_
                        refine lv_iload_n hx hb dX3_status_235 rfl (lv_at hl 2 rfl) ?_
                        refine lv_bipush (v := 10) hx hb dX3_status_236 (by decide) ?_
                        refine lv_isub hx hb dX3_status_238 ?_
                        obtain ⟨h47, hf⟩ := o_cs hf
                        refine b_iald hx hb hW 0 16 rfl mW_16 h47 dX3_status_239 ?_
                        refine lv_goto (tgt := 244) hx hb dX3_status_240 (by decide) ?_
                        cases hf
                        exact b_iret hx hb hr hlk hE hW () rfl trivial rfl dX3_status_244
